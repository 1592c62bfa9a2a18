set_option maxRecDepth 100000
set_option maxHeartbeats 4000000
theorem q473 : (Jvm.Cond.initialized "java/lang/UnsupportedOperationException") ∈ lw_all := lw_g (lw_at lw_m1 48 rfl) rfl
theorem q522 : (Jvm.Cond.fieldLinkNest "TypeHouse$Press" (252 : Nat) "TypeHouse$Trouble" "fault" "I" "TypeHouse") ∈ lw_tbl := lw_at lw_m1 97 rfl
theorem q593 : (Jvm.Cond.fieldLinkNest "TypeHouse$Writer" (149 : Nat) "TypeHouse$FontTable" "order" "[I" "TypeHouse") ∈ lw_tbl := lw_at lw_m1 168 rfl
theorem q741 : (Jvm.Cond.fieldLinkNest "TypeHouse" (105 : Nat) "TypeHouse$SourceLines" "text" "[B" "TypeHouse") ∈ lw_tbl := lw_at lw_m2 76 rfl
theorem q743 : (Jvm.Cond.fieldLinkNest "TypeHouse" (110 : Nat) "TypeHouse$SourceLines" "size" "I" "TypeHouse") ∈ lw_tbl := lw_at lw_m2 78 rfl
theorem q749 : (Jvm.Cond.fieldLinkNest "TypeHouse$Press" (259 : Nat) "TypeHouse$SourceLines" "line" "I" "TypeHouse") ∈ lw_tbl := lw_at lw_m2 84 rfl
theorem q779 : (Jvm.Cond.fieldLinkNest "TypeHouse$Tokens" (43 : Nat) "TypeHouse$Macros" "pool" "[I" "TypeHouse") ∈ lw_tbl := lw_at lw_m2 114 rfl
theorem q780 : (Jvm.Cond.fieldLinkNest "TypeHouse$Expander" (304 : Nat) "TypeHouse$Macros" "pool" "[I" "TypeHouse") ∈ lw_tbl := lw_at lw_m2 115 rfl
theorem q784 : (Jvm.Cond.fieldLinkNest "TypeHouse$Expander" (298 : Nat) "TypeHouse$Macros" "begins" "[I" "TypeHouse") ∈ lw_tbl := lw_at lw_m2 119 rfl
theorem q786 : (Jvm.Cond.fieldLinkNest "TypeHouse$Tokens" (40 : Nat) "TypeHouse$Macros" "bodies" "[I" "TypeHouse") ∈ lw_tbl := lw_at lw_m2 121 rfl
theorem q787 : (Jvm.Cond.fieldLinkNest "TypeHouse$Expander" (301 : Nat) "TypeHouse$Macros" "bodies" "[I" "TypeHouse") ∈ lw_tbl := lw_at lw_m2 122 rfl
theorem q789 : (Jvm.Cond.fieldLinkNest "TypeHouse$Tokens" (35 : Nat) "TypeHouse$Macros" "ends" "[I" "TypeHouse") ∈ lw_tbl := lw_at lw_m2 124 rfl
theorem q791 : (Jvm.Cond.fieldLinkNest "TypeHouse$Expander" (295 : Nat) "TypeHouse$Macros" "parameters" "[I" "TypeHouse") ∈ lw_tbl := lw_at lw_m2 126 rfl
theorem q821 : (Jvm.Cond.fieldLinkNest "TypeHouse$Expander" (210 : Nat) "TypeHouse$Tokens" "pending" "I" "TypeHouse") ∈ lw_tbl := lw_at lw_m2 156 rfl
theorem q838 : (Jvm.Cond.fieldLinkNest "TypeHouse$Press" (255 : Nat) "TypeHouse$Expander" "lines" "LTypeHouse$SourceLines;" "TypeHouse") ∈ lw_tbl := lw_at lw_m2 173 rfl
theorem q839 : (Jvm.Cond.fieldLinkNest "TypeHouse" (99 : Nat) "TypeHouse$Expander" "lines" "LTypeHouse$SourceLines;" "TypeHouse") ∈ lw_tbl := lw_at lw_m2 174 rfl
theorem q843 : (Jvm.Cond.fieldLinkNest "TypeHouse$Press" (274 : Nat) "TypeHouse$Expander" "ticks" "I" "TypeHouse") ∈ lw_tbl := lw_at lw_m2 178 rfl
theorem q844 : (Jvm.Cond.fieldLinkNest "TypeHouse$Press" (232 : Nat) "TypeHouse$Expander" "mayTick" "I" "TypeHouse") ∈ lw_tbl := lw_at lw_m2 179 rfl
theorem q848 : (Jvm.Cond.fieldLink "TypeHouse$Expander" (561 : Nat) "TypeHouse$Expander" "vertical" "Z") ∈ lw_all := lw_g (lw_at lw_m2 183 rfl) rfl
theorem q853 : (Jvm.Cond.fieldLinkNest "TypeHouse$Press" (286 : Nat) "TypeHouse$Expander" "conditions" "I" "TypeHouse") ∈ lw_tbl := lw_at lw_m2 188 rfl
theorem q855 : (Jvm.Cond.fieldLink "TypeHouse$Expander" (288 : Nat) "TypeHouse$Expander" "gotSize" "I") ∈ lw_all := lw_g (lw_at lw_m2 190 rfl) rfl
theorem q1674 : (Jvm.Cond.fieldLinkNest "TypeHouse" (133 : Nat) "TypeHouse$FileBytes" "size" "I" "TypeHouse") ∈ lw_tbl := lw_at lw_m6 49 rfl
theorem q1716 : (Jvm.Cond.fieldLinkNest "TypeHouse" (127 : Nat) "TypeHouse$Writer" "out" "LTypeHouse$FileBytes;" "TypeHouse") ∈ lw_tbl := lw_at lw_m6 91 rfl
theorem q1731 : (Jvm.Cond.fieldLinkNest "TypeHouse$Press" (277 : Nat) "TypeHouse$Writer" "pages" "I" "TypeHouse") ∈ lw_tbl := lw_at lw_m6 106 rfl
theorem q1789 : (Jvm.Cond.fieldLinkNest "TypeHouse" (75 : Nat) "TypeHouse$Press" "fonts" "LTypeHouse$FontTable;" "TypeHouse") ∈ lw_tbl := lw_at lw_m6 164 rfl
theorem q1794 : (Jvm.Cond.fieldLinkNest "TypeHouse" (95 : Nat) "TypeHouse$Press" "x" "LTypeHouse$Expander;" "TypeHouse") ∈ lw_tbl := lw_at lw_m6 169 rfl
theorem q1807 : (Jvm.Cond.fieldLinkNest "TypeHouse" (123 : Nat) "TypeHouse$Press" "writer" "LTypeHouse$Writer;" "TypeHouse") ∈ lw_tbl := lw_at lw_m6 182 rfl
theorem q2055 : (Jvm.Cond.fieldLink "TypeHouse" (57 : Nat) "TypeHouse" "taped" "I") ∈ lw_all := lw_g (lw_at lw_m7 190 rfl) rfl
theorem q2084 : (Jvm.Cond.instanceMethod ({ cls := "TypeHouse", name := "size", desc := "()I" } : Jvm.MethodName)) ∈ lw_all := lw_g (lw_at lw_m7 219 rfl) rfl
theorem q2085 : (Jvm.Cond.selects "TypeHouse" ({ cls := "TypeHouse", name := "size", desc := "()I" } : Jvm.MethodName) ({ cls := "TypeHouse", name := "size", desc := "()I" } : Jvm.MethodName)) ∈ lw_all := lw_g (lw_at lw_m7 220 rfl) rfl
theorem q2086 : (Jvm.Cond.code ({ cls := "TypeHouse", name := "size", desc := "()I" } : Jvm.MethodName) prog_1_method_16_code (1 : Nat) (Option.some Jvm.ClassFile.FieldType.int)) ∈ lw_all := lw_g (lw_at lw_m7 221 rfl) rfl
theorem q2092 : (Jvm.Cond.instanceMethod ({ cls := "TypeHouse", name := "feed", desc := "(IIIII)V" } : Jvm.MethodName)) ∈ lw_all := lw_g (lw_at lw_m7 227 rfl) rfl
theorem q2093 : (Jvm.Cond.selects "TypeHouse" ({ cls := "TypeHouse", name := "feed", desc := "(IIIII)V" } : Jvm.MethodName) ({ cls := "TypeHouse", name := "feed", desc := "(IIIII)V" } : Jvm.MethodName)) ∈ lw_all := lw_g (lw_at lw_m7 228 rfl) rfl
theorem q2094 : (Jvm.Cond.code ({ cls := "TypeHouse", name := "feed", desc := "(IIIII)V" } : Jvm.MethodName) prog_1_method_11_code (6 : Nat) (Option.none : Option Jvm.ClassFile.FieldType)) ∈ lw_all := lw_g (lw_at lw_m7 229 rfl) rfl
theorem q2095 : (Jvm.Cond.classLink "TypeHouse" (60 : Nat) "java/lang/UnsupportedOperationException") ∈ lw_all := lw_g (lw_at lw_m7 230 rfl) rfl
theorem q2096 : (Jvm.Cond.instantiable "java/lang/UnsupportedOperationException" (6 : Nat)) ∈ lw_all := lw_g (lw_at lw_m7 231 rfl) rfl
theorem q2137 : (Jvm.Cond.methodLink "TypeHouse" (62 : Nat) ({ cls := "java/lang/UnsupportedOperationException", name := "<init>", desc := "()V" } : Jvm.MethodName)) ∈ lw_all := lw_g (lw_at lw_m8 32 rfl) rfl
theorem q2160 : (Jvm.Cond.methodLink "TypeHouse" (63 : Nat) ({ cls := "TypeHouse", name := "lay", desc := "(I)V" } : Jvm.MethodName)) ∈ lw_all := lw_g (lw_at lw_m8 55 rfl) rfl
theorem q2162 : (Jvm.Cond.instanceMethod ({ cls := "TypeHouse", name := "lay", desc := "(I)V" } : Jvm.MethodName)) ∈ lw_all := lw_g (lw_at lw_m8 57 rfl) rfl
theorem q2163 : (Jvm.Cond.code ({ cls := "TypeHouse", name := "lay", desc := "(I)V" } : Jvm.MethodName) prog_1_method_10_code (3 : Nat) (Option.none : Option Jvm.ClassFile.FieldType)) ∈ lw_all := lw_g (lw_at lw_m8 58 rfl) rfl
theorem q2169 : (Jvm.Cond.instanceMethod ({ cls := "TypeHouse", name := "fuel", desc := "(I)V" } : Jvm.MethodName)) ∈ lw_all := lw_g (lw_at lw_m8 64 rfl) rfl
theorem q2170 : (Jvm.Cond.selects "TypeHouse" ({ cls := "TypeHouse", name := "fuel", desc := "(I)V" } : Jvm.MethodName) ({ cls := "TypeHouse", name := "fuel", desc := "(I)V" } : Jvm.MethodName)) ∈ lw_all := lw_g (lw_at lw_m8 65 rfl) rfl
theorem q2171 : (Jvm.Cond.code ({ cls := "TypeHouse", name := "fuel", desc := "(I)V" } : Jvm.MethodName) prog_1_method_12_code (2 : Nat) (Option.none : Option Jvm.ClassFile.FieldType)) ∈ lw_all := lw_g (lw_at lw_m8 66 rfl) rfl
theorem q2172 : (Jvm.Cond.constant "TypeHouse" (67 : Nat) (200000 : Int32)) ∈ lw_all := lw_g (lw_at lw_m8 67 rfl) rfl
theorem q2173 : (Jvm.Cond.classLink "TypeHouse" (68 : Nat) "java/lang/IllegalArgumentException") ∈ lw_all := lw_g (lw_at lw_m8 68 rfl) rfl
theorem q2182 : (Jvm.Cond.methodLink "TypeHouse" (70 : Nat) ({ cls := "java/lang/IllegalArgumentException", name := "<init>", desc := "()V" } : Jvm.MethodName)) ∈ lw_all := lw_g (lw_at lw_m8 77 rfl) rfl
theorem q2192 : (Jvm.Cond.instanceMethod ({ cls := "TypeHouse", name := "end", desc := "(II)I" } : Jvm.MethodName)) ∈ lw_all := lw_g (lw_at lw_m8 87 rfl) rfl
theorem q2193 : (Jvm.Cond.selects "TypeHouse" ({ cls := "TypeHouse", name := "end", desc := "(II)I" } : Jvm.MethodName) ({ cls := "TypeHouse", name := "end", desc := "(II)I" } : Jvm.MethodName)) ∈ lw_all := lw_g (lw_at lw_m8 88 rfl) rfl
theorem q2194 : (Jvm.Cond.code ({ cls := "TypeHouse", name := "end", desc := "(II)I" } : Jvm.MethodName) prog_1_method_14_code (4 : Nat) (Option.some Jvm.ClassFile.FieldType.int)) ∈ lw_all := lw_g (lw_at lw_m8 89 rfl) rfl
theorem q2195 : (Jvm.Cond.methodLink "TypeHouse" (116 : Nat) ({ cls := "TypeHouse", name := "take", desc := "(II)I" } : Jvm.MethodName)) ∈ lw_all := lw_g (lw_at lw_m8 90 rfl) rfl
theorem q2197 : (Jvm.Cond.instanceMethod ({ cls := "TypeHouse", name := "take", desc := "(II)I" } : Jvm.MethodName)) ∈ lw_all := lw_g (lw_at lw_m8 92 rfl) rfl
theorem q2198 : (Jvm.Cond.code ({ cls := "TypeHouse", name := "take", desc := "(II)I" } : Jvm.MethodName) prog_1_method_13_code (3 : Nat) (Option.some Jvm.ClassFile.FieldType.int)) ∈ lw_all := lw_g (lw_at lw_m8 93 rfl) rfl
theorem q2199 : (Jvm.Cond.methodLink "TypeHouse" (71 : Nat) ({ cls := "TypeHouse$FontFile", name := "take", desc := "([BI)Z" } : Jvm.MethodName)) ∈ lw_all := lw_g (lw_at lw_m8 94 rfl) rfl
theorem q2204 : (Jvm.Cond.methodLink "TypeHouse" (79 : Nat) ({ cls := "TypeHouse$FontTable", name := "load", desc := "(ILTypeHouse$FontFile;)I" } : Jvm.MethodName)) ∈ lw_all := lw_g (lw_at lw_m8 99 rfl) rfl
theorem q2303 : (Jvm.Cond.methodLink "TypeHouse" (89 : Nat) ({ cls := "TypeHouse$Hyphenator", name := "read", desc := "([BIZ)I" } : Jvm.MethodName)) ∈ lw_all := lw_g (lw_at lw_m8 198 rfl) rfl
theorem q2407 : (Jvm.Cond.methodLink "TypeHouse" (113 : Nat) ({ cls := "TypeHouse$Press", name := "run", desc := "(I)I" } : Jvm.MethodName)) ∈ lw_all := lw_g (lw_at lw_m9 62 rfl) rfl
theorem q2408 : (Jvm.Cond.instanceMethod ({ cls := "TypeHouse$Press", name := "run", desc := "(I)I" } : Jvm.MethodName)) ∈ lw_all := lw_g (lw_at lw_m9 63 rfl) rfl
theorem q2409 : (Jvm.Cond.selects "TypeHouse$Press" ({ cls := "TypeHouse$Press", name := "run", desc := "(I)I" } : Jvm.MethodName) ({ cls := "TypeHouse$Press", name := "run", desc := "(I)I" } : Jvm.MethodName)) ∈ lw_all := lw_g (lw_at lw_m9 64 rfl) rfl
theorem q2410 : (Jvm.Cond.codeWith ({ cls := "TypeHouse$Press", name := "run", desc := "(I)I" } : Jvm.MethodName) prog_26_method_3_code (4 : Nat) (Option.some Jvm.ClassFile.FieldType.int) [((14 : Nat), (68 : Nat), (71 : Nat), (249 : Nat))]) ∈ lw_all := lw_g (lw_at lw_m9 65 rfl) rfl
theorem q2411 : (Jvm.Cond.classLink "TypeHouse$Press" (249 : Nat) "java/lang/IllegalArgumentException") ∈ lw_all := lw_g (lw_at lw_m9 66 rfl) rfl
theorem q2412 : (Jvm.Cond.methodLink "TypeHouse$Press" (231 : Nat) ({ cls := "TypeHouse$Press", name := "begin", desc := "()V" } : Jvm.MethodName)) ∈ lw_all := lw_g (lw_at lw_m9 67 rfl) rfl
theorem q2413 : (Jvm.Cond.methodLinkNest "TypeHouse$Press" (235 : Nat) ({ cls := "TypeHouse$Expander", name := "getExpanded", desc := "()I" } : Jvm.MethodName) "TypeHouse") ∈ lw_tbl := lw_at lw_m9 68 rfl
theorem q2503 : (Jvm.Cond.instanceMethod ({ cls := "TypeHouse$Expander", name := "call", desc := "(I)V" } : Jvm.MethodName)) ∈ lw_all := lw_g (lw_at lw_m9 158 rfl) rfl
theorem q2504 : (Jvm.Cond.code ({ cls := "TypeHouse$Expander", name := "call", desc := "(I)V" } : Jvm.MethodName) prog_4_method_24_code (7 : Nat) (Option.none : Option Jvm.ClassFile.FieldType)) ∈ lw_all := lw_g (lw_at lw_m9 159 rfl) rfl
theorem q2514 : (Jvm.Cond.methodLink "TypeHouse$Expander" (308 : Nat) ({ cls := "TypeHouse$Expander", name := "single", desc := "()V" } : Jvm.MethodName)) ∈ lw_all := lw_g (lw_at lw_m9 169 rfl) rfl
theorem q2516 : (Jvm.Cond.instanceMethod ({ cls := "TypeHouse$Expander", name := "single", desc := "()V" } : Jvm.MethodName)) ∈ lw_all := lw_g (lw_at lw_m9 171 rfl) rfl
theorem q2517 : (Jvm.Cond.code ({ cls := "TypeHouse$Expander", name := "single", desc := "()V" } : Jvm.MethodName) prog_4_method_25_code (4 : Nat) (Option.none : Option Jvm.ClassFile.FieldType)) ∈ lw_all := lw_g (lw_at lw_m9 172 rfl) rfl
theorem q2525 : (Jvm.Cond.methodLink "TypeHouse$Expander" (323 : Nat) ({ cls := "TypeHouse$Expander", name := "take", desc := "(I)V" } : Jvm.MethodName)) ∈ lw_all := lw_g (lw_at lw_m9 180 rfl) rfl
theorem q2527 : (Jvm.Cond.instanceMethod ({ cls := "TypeHouse$Expander", name := "take", desc := "(I)V" } : Jvm.MethodName)) ∈ lw_all := lw_g (lw_at lw_m9 182 rfl) rfl
theorem q2528 : (Jvm.Cond.code ({ cls := "TypeHouse$Expander", name := "take", desc := "(I)V" } : Jvm.MethodName) prog_4_method_23_code (2 : Nat) (Option.none : Option Jvm.ClassFile.FieldType)) ∈ lw_all := lw_g (lw_at lw_m9 183 rfl) rfl
theorem q2529 : (Jvm.Cond.methodLinkNest "TypeHouse$Expander" (291 : Nat) ({ cls := "TypeHouse", name := "grown", desc := "([II)[I" } : Jvm.MethodName) "TypeHouse") ∈ lw_tbl := lw_at lw_m9 184 rfl
theorem q2530 : (Jvm.Cond.methodLink "TypeHouse$Expander" (311 : Nat) ({ cls := "TypeHouse$Expander", name := "delimited", desc := "(II)V" } : Jvm.MethodName)) ∈ lw_all := lw_g (lw_at lw_m9 185 rfl) rfl
theorem q2532 : (Jvm.Cond.instanceMethod ({ cls := "TypeHouse$Expander", name := "delimited", desc := "(II)V" } : Jvm.MethodName)) ∈ lw_all := lw_g (lw_at lw_m9 187 rfl) rfl
theorem q2533 : (Jvm.Cond.code ({ cls := "TypeHouse$Expander", name := "delimited", desc := "(II)V" } : Jvm.MethodName) prog_4_method_26_code (10 : Nat) (Option.none : Option Jvm.ClassFile.FieldType)) ∈ lw_all := lw_g (lw_at lw_m9 188 rfl) rfl
theorem q2534 : (Jvm.Cond.methodLink "TypeHouse$Expander" (326 : Nat) ({ cls := "TypeHouse$Expander", name := "strip", desc := "(I)V" } : Jvm.MethodName)) ∈ lw_all := lw_g (lw_at lw_m9 189 rfl) rfl
theorem q2536 : (Jvm.Cond.instanceMethod ({ cls := "TypeHouse$Expander", name := "strip", desc := "(I)V" } : Jvm.MethodName)) ∈ lw_all := lw_g (lw_at lw_m9 191 rfl) rfl
theorem q2537 : (Jvm.Cond.code ({ cls := "TypeHouse$Expander", name := "strip", desc := "(I)V" } : Jvm.MethodName) prog_4_method_27_code (6 : Nat) (Option.none : Option Jvm.ClassFile.FieldType)) ∈ lw_all := lw_g (lw_at lw_m9 192 rfl) rfl
theorem q2538 : (Jvm.Cond.methodLink "TypeHouse$Expander" (329 : Nat) ({ cls := "java/lang/System", name := "arraycopy", desc := "(Ljava/lang/Object;ILjava/lang/Object;II)V" } : Jvm.MethodName)) ∈ lw_all := lw_g (lw_at lw_m9 193 rfl) rfl
theorem q2539 : (Jvm.Cond.methodLink "TypeHouse$Expander" (314 : Nat) ({ cls := "TypeHouse$Tokens", name := "length", desc := "(I[I)J" } : Jvm.MethodName)) ∈ lw_all := lw_g (lw_at lw_m9 194 rfl) rfl
theorem q2540 : (Jvm.Cond.instanceMethod ({ cls := "TypeHouse$Tokens", name := "length", desc := "(I[I)J" } : Jvm.MethodName)) ∈ lw_all := lw_g (lw_at lw_m9 195 rfl) rfl
theorem q2541 : (Jvm.Cond.selects "TypeHouse$Tokens" ({ cls := "TypeHouse$Tokens", name := "length", desc := "(I[I)J" } : Jvm.MethodName) ({ cls := "TypeHouse$Tokens", name := "length", desc := "(I[I)J" } : Jvm.MethodName)) ∈ lw_all := lw_g (lw_at lw_m9 196 rfl) rfl
theorem q2542 : (Jvm.Cond.code ({ cls := "TypeHouse$Tokens", name := "length", desc := "(I[I)J" } : Jvm.MethodName) prog_31_method_6_code (7 : Nat) (Option.some Jvm.ClassFile.FieldType.long)) ∈ lw_all := lw_g (lw_at lw_m9 197 rfl) rfl
theorem q2543 : (Jvm.Cond.constant "TypeHouse$Tokens" (46 : Nat) (262144 : Int32)) ∈ lw_all := lw_g (lw_at lw_m9 198 rfl) rfl
theorem q2545 : (Jvm.Cond.methodLink "TypeHouse$Expander" (320 : Nat) ({ cls := "TypeHouse$Tokens", name := "call", desc := "(I[I[I)V" } : Jvm.MethodName)) ∈ lw_all := lw_g (lw_at lw_m9 200 rfl) rfl
theorem q2546 : (Jvm.Cond.instanceMethod ({ cls := "TypeHouse$Tokens", name := "call", desc := "(I[I[I)V" } : Jvm.MethodName)) ∈ lw_all := lw_g (lw_at lw_m9 201 rfl) rfl
theorem q2547 : (Jvm.Cond.selects "TypeHouse$Tokens" ({ cls := "TypeHouse$Tokens", name := "call", desc := "(I[I[I)V" } : Jvm.MethodName) ({ cls := "TypeHouse$Tokens", name := "call", desc := "(I[I[I)V" } : Jvm.MethodName)) ∈ lw_all := lw_g (lw_at lw_m9 202 rfl) rfl
theorem q2548 : (Jvm.Cond.code ({ cls := "TypeHouse$Tokens", name := "call", desc := "(I[I[I)V" } : Jvm.MethodName) prog_31_method_5_code (8 : Nat) (Option.none : Option Jvm.ClassFile.FieldType)) ∈ lw_all := lw_g (lw_at lw_m9 203 rfl) rfl
theorem q2549 : (Jvm.Cond.methodLink "TypeHouse$Tokens" (31 : Nat) ({ cls := "TypeHouse$Tokens", name := "put", desc := "(I)V" } : Jvm.MethodName)) ∈ lw_all := lw_g (lw_at lw_m9 204 rfl) rfl
theorem q2669 : (Jvm.Cond.methodLink "TypeHouse$Expander" (536 : Nat) ({ cls := "TypeHouse$Expander", name := "pass", desc := "()I" } : Jvm.MethodName)) ∈ lw_all := lw_g (lw_at lw_m10 84 rfl) rfl
theorem q2671 : (Jvm.Cond.instanceMethod ({ cls := "TypeHouse$Expander", name := "pass", desc := "()I" } : Jvm.MethodName)) ∈ lw_all := lw_g (lw_at lw_m10 86 rfl) rfl
theorem q2672 : (Jvm.Cond.code ({ cls := "TypeHouse$Expander", name := "pass", desc := "()I" } : Jvm.MethodName) prog_4_method_66_code (3 : Nat) (Option.some Jvm.ClassFile.FieldType.int)) ∈ lw_all := lw_g (lw_at lw_m10 87 rfl) rfl
theorem q2679 : (Jvm.Cond.instanceMethod ({ cls := "TypeHouse$Expander", name := "chooseCase", desc := "(II)V" } : Jvm.MethodName)) ∈ lw_all := lw_g (lw_at lw_m10 94 rfl) rfl
theorem q2680 : (Jvm.Cond.code ({ cls := "TypeHouse$Expander", name := "chooseCase", desc := "(II)V" } : Jvm.MethodName) prog_4_method_69_code (5 : Nat) (Option.none : Option Jvm.ClassFile.FieldType)) ∈ lw_all := lw_g (lw_at lw_m10 95 rfl) rfl
theorem q2681 : (Jvm.Cond.methodLink "TypeHouse$Expander" (545 : Nat) ({ cls := "TypeHouse$Expander", name := "passOwn", desc := "(I)I" } : Jvm.MethodName)) ∈ lw_all := lw_g (lw_at lw_m10 96 rfl) rfl
theorem q2683 : (Jvm.Cond.instanceMethod ({ cls := "TypeHouse$Expander", name := "passOwn", desc := "(I)I" } : Jvm.MethodName)) ∈ lw_all := lw_g (lw_at lw_m10 98 rfl) rfl
theorem q2684 : (Jvm.Cond.code ({ cls := "TypeHouse$Expander", name := "passOwn", desc := "(I)I" } : Jvm.MethodName) prog_4_method_68_code (3 : Nat) (Option.some Jvm.ClassFile.FieldType.int)) ∈ lw_all := lw_g (lw_at lw_m10 99 rfl) rfl
theorem q2687 : (Jvm.Cond.instanceMethod ({ cls := "TypeHouse$Expander", name := "test", desc := "(I)Z" } : Jvm.MethodName)) ∈ lw_all := lw_g (lw_at lw_m10 102 rfl) rfl
theorem q2688 : (Jvm.Cond.code ({ cls := "TypeHouse$Expander", name := "test", desc := "(I)Z" } : Jvm.MethodName) prog_4_method_70_code (5 : Nat) (Option.some Jvm.ClassFile.FieldType.boolean)) ∈ lw_all := lw_g (lw_at lw_m10 103 rfl) rfl
theorem q2689 : (Jvm.Cond.methodLink "TypeHouse$Expander" (548 : Nat) ({ cls := "TypeHouse$Expander", name := "codeOf", desc := "(I)I" } : Jvm.MethodName)) ∈ lw_all := lw_g (lw_at lw_m10 104 rfl) rfl
theorem q2691 : (Jvm.Cond.instanceMethod ({ cls := "TypeHouse$Expander", name := "codeOf", desc := "(I)I" } : Jvm.MethodName)) ∈ lw_all := lw_g (lw_at lw_m10 106 rfl) rfl
theorem q2692 : (Jvm.Cond.code ({ cls := "TypeHouse$Expander", name := "codeOf", desc := "(I)I" } : Jvm.MethodName) prog_4_method_71_code (2 : Nat) (Option.some Jvm.ClassFile.FieldType.int)) ∈ lw_all := lw_g (lw_at lw_m10 107 rfl) rfl
theorem q2693 : (Jvm.Cond.methodLink "TypeHouse$Expander" (551 : Nat) ({ cls := "TypeHouse$Expander", name := "categoryOf", desc := "(I)I" } : Jvm.MethodName)) ∈ lw_all := lw_g (lw_at lw_m10 108 rfl) rfl
theorem q2695 : (Jvm.Cond.instanceMethod ({ cls := "TypeHouse$Expander", name := "categoryOf", desc := "(I)I" } : Jvm.MethodName)) ∈ lw_all := lw_g (lw_at lw_m10 110 rfl) rfl
theorem q2696 : (Jvm.Cond.code ({ cls := "TypeHouse$Expander", name := "categoryOf", desc := "(I)I" } : Jvm.MethodName) prog_4_method_72_code (2 : Nat) (Option.some Jvm.ClassFile.FieldType.int)) ∈ lw_all := lw_g (lw_at lw_m10 111 rfl) rfl
theorem q2697 : (Jvm.Cond.methodLinkNest "TypeHouse$Expander" (564 : Nat) ({ cls := "TypeHouse", name := "category", desc := "(I)I" } : Jvm.MethodName) "TypeHouse") ∈ lw_tbl := lw_at lw_m10 112 rfl
theorem q2698 : (Jvm.Cond.methodLink "TypeHouse$Expander" (554 : Nat) ({ cls := "TypeHouse$Expander", name := "areAlike", desc := "(II)Z" } : Jvm.MethodName)) ∈ lw_all := lw_g (lw_at lw_m10 113 rfl) rfl
theorem q2700 : (Jvm.Cond.instanceMethod ({ cls := "TypeHouse$Expander", name := "areAlike", desc := "(II)Z" } : Jvm.MethodName)) ∈ lw_all := lw_g (lw_at lw_m10 115 rfl) rfl
theorem q2701 : (Jvm.Cond.code ({ cls := "TypeHouse$Expander", name := "areAlike", desc := "(II)Z" } : Jvm.MethodName) prog_4_method_73_code (3 : Nat) (Option.some Jvm.ClassFile.FieldType.boolean)) ∈ lw_all := lw_g (lw_at lw_m10 116 rfl) rfl
theorem q2702 : (Jvm.Cond.methodLink "TypeHouse$Expander" (565 : Nat) ({ cls := "TypeHouse$Macros", name := "areAlike", desc := "(II)Z" } : Jvm.MethodName)) ∈ lw_all := lw_g (lw_at lw_m10 117 rfl) rfl
theorem q2703 : (Jvm.Cond.instanceMethod ({ cls := "TypeHouse$Macros", name := "areAlike", desc := "(II)Z" } : Jvm.MethodName)) ∈ lw_all := lw_g (lw_at lw_m10 118 rfl) rfl
theorem q2704 : (Jvm.Cond.selects "TypeHouse$Macros" ({ cls := "TypeHouse$Macros", name := "areAlike", desc := "(II)Z" } : Jvm.MethodName) ({ cls := "TypeHouse$Macros", name := "areAlike", desc := "(II)Z" } : Jvm.MethodName)) ∈ lw_all := lw_g (lw_at lw_m10 119 rfl) rfl
theorem q2705 : (Jvm.Cond.code ({ cls := "TypeHouse$Macros", name := "areAlike", desc := "(II)Z" } : Jvm.MethodName) prog_14_method_6_code (6 : Nat) (Option.some Jvm.ClassFile.FieldType.boolean)) ∈ lw_all := lw_g (lw_at lw_m10 120 rfl) rfl
theorem q2706 : (Jvm.Cond.methodLink "TypeHouse$Expander" (557 : Nat) ({ cls := "TypeHouse$Expander", name := "compare", desc := "(Z)Z" } : Jvm.MethodName)) ∈ lw_all := lw_g (lw_at lw_m10 121 rfl) rfl
theorem q2708 : (Jvm.Cond.instanceMethod ({ cls := "TypeHouse$Expander", name := "compare", desc := "(Z)Z" } : Jvm.MethodName)) ∈ lw_all := lw_g (lw_at lw_m10 123 rfl) rfl
theorem q2709 : (Jvm.Cond.code ({ cls := "TypeHouse$Expander", name := "compare", desc := "(Z)Z" } : Jvm.MethodName) prog_4_method_74_code (5 : Nat) (Option.some Jvm.ClassFile.FieldType.boolean)) ∈ lw_all := lw_g (lw_at lw_m10 124 rfl) rfl
theorem q2784 : (Jvm.Cond.methodLinkNest "TypeHouse$Press" (239 : Nat) ({ cls := "TypeHouse$Expander", name := "tick", desc := "()V" } : Jvm.MethodName) "TypeHouse") ∈ lw_tbl := lw_at lw_m10 199 rfl
theorem q2785 : (Jvm.Cond.methodLink "TypeHouse$Press" (242 : Nat) ({ cls := "TypeHouse$Press", name := "act", desc := "(I)V" } : Jvm.MethodName)) ∈ lw_all := lw_g (lw_at lw_m10 200 rfl) rfl
theorem q2787 : (Jvm.Cond.instanceMethod ({ cls := "TypeHouse$Press", name := "act", desc := "(I)V" } : Jvm.MethodName)) ∈ lw_all := lw_g (lw_at lw_m10 202 rfl) rfl
theorem q2788 : (Jvm.Cond.code ({ cls := "TypeHouse$Press", name := "act", desc := "(I)V" } : Jvm.MethodName) prog_26_method_46_code (5 : Nat) (Option.none : Option Jvm.ClassFile.FieldType)) ∈ lw_all := lw_g (lw_at lw_m10 203 rfl) rfl
theorem q3645 : (Jvm.Cond.methodLink "TypeHouse$Press" (686 : Nat) ({ cls := "TypeHouse$Press", name := "actCharacter", desc := "(I)V" } : Jvm.MethodName)) ∈ lw_all := lw_g (lw_at lw_m14 100 rfl) rfl
theorem q3888 : (Jvm.Cond.methodLink "TypeHouse$Press" (689 : Nat) ({ cls := "TypeHouse$Press", name := "actPrimitive", desc := "(I)V" } : Jvm.MethodName)) ∈ lw_all := lw_g (lw_at lw_m15 103 rfl) rfl
theorem q4063 : (Jvm.Cond.methodLink "TypeHouse$Press" (246 : Nat) ({ cls := "TypeHouse$Press", name := "finish", desc := "()V" } : Jvm.MethodName)) ∈ lw_all := lw_g (lw_at lw_m16 38 rfl) rfl
theorem q4065 : (Jvm.Cond.instanceMethod ({ cls := "TypeHouse$Press", name := "finish", desc := "()V" } : Jvm.MethodName)) ∈ lw_all := lw_g (lw_at lw_m16 40 rfl) rfl
theorem q4066 : (Jvm.Cond.code ({ cls := "TypeHouse$Press", name := "finish", desc := "()V" } : Jvm.MethodName) prog_26_method_4_code (1 : Nat) (Option.none : Option Jvm.ClassFile.FieldType)) ∈ lw_all := lw_g (lw_at lw_m16 41 rfl) rfl
theorem q4067 : (Jvm.Cond.constant "TypeHouse$Press" (251 : Nat) (100000 : Int32)) ∈ lw_all := lw_g (lw_at lw_m16 42 rfl) rfl
theorem q4068 : (Jvm.Cond.methodLink "TypeHouse$Press" (272 : Nat) ({ cls := "TypeHouse$Writer", name := "close", desc := "()I" } : Jvm.MethodName)) ∈ lw_all := lw_g (lw_at lw_m16 43 rfl) rfl
theorem q4069 : (Jvm.Cond.instanceMethod ({ cls := "TypeHouse$Writer", name := "close", desc := "()I" } : Jvm.MethodName)) ∈ lw_all := lw_g (lw_at lw_m16 44 rfl) rfl
theorem q4070 : (Jvm.Cond.selects "TypeHouse$Writer" ({ cls := "TypeHouse$Writer", name := "close", desc := "()I" } : Jvm.MethodName) ({ cls := "TypeHouse$Writer", name := "close", desc := "()I" } : Jvm.MethodName)) ∈ lw_all := lw_g (lw_at lw_m16 45 rfl) rfl
theorem q4071 : (Jvm.Cond.code ({ cls := "TypeHouse$Writer", name := "close", desc := "()I" } : Jvm.MethodName) prog_35_method_10_code (3 : Nat) (Option.some Jvm.ClassFile.FieldType.int)) ∈ lw_all := lw_g (lw_at lw_m16 46 rfl) rfl
theorem q4077 : (Jvm.Cond.instanceMethod ({ cls := "TypeHouse", name := "out", desc := "(I)I" } : Jvm.MethodName)) ∈ lw_all := lw_g (lw_at lw_m16 52 rfl) rfl
theorem q4078 : (Jvm.Cond.selects "TypeHouse" ({ cls := "TypeHouse", name := "out", desc := "(I)I" } : Jvm.MethodName) ({ cls := "TypeHouse", name := "out", desc := "(I)I" } : Jvm.MethodName)) ∈ lw_all := lw_g (lw_at lw_m16 53 rfl) rfl
theorem q4079 : (Jvm.Cond.code ({ cls := "TypeHouse", name := "out", desc := "(I)I" } : Jvm.MethodName) prog_1_method_17_code (2 : Nat) (Option.some Jvm.ClassFile.FieldType.int)) ∈ lw_all := lw_g (lw_at lw_m16 54 rfl) rfl
theorem q4095 : (Jvm.Cond.methodLink "TypeHouse" (139 : Nat) ({ cls := "TypeHouse$FileBytes", name := "at", desc := "(I)I" } : Jvm.MethodName)) ∈ lw_all := lw_g (lw_at lw_m16 70 rfl) rfl
theorem q4096 : (Jvm.Cond.instanceMethod ({ cls := "TypeHouse$FileBytes", name := "at", desc := "(I)I" } : Jvm.MethodName)) ∈ lw_all := lw_g (lw_at lw_m16 71 rfl) rfl
theorem q4097 : (Jvm.Cond.selects "TypeHouse$FileBytes" ({ cls := "TypeHouse$FileBytes", name := "at", desc := "(I)I" } : Jvm.MethodName) ({ cls := "TypeHouse$FileBytes", name := "at", desc := "(I)I" } : Jvm.MethodName)) ∈ lw_all := lw_g (lw_at lw_m16 72 rfl) rfl
theorem q4098 : (Jvm.Cond.code ({ cls := "TypeHouse$FileBytes", name := "at", desc := "(I)I" } : Jvm.MethodName) prog_5_method_6_code (2 : Nat) (Option.some Jvm.ClassFile.FieldType.int)) ∈ lw_all := lw_g (lw_at lw_m16 73 rfl) rfl
abbrev cX3_act : ByteArray := prog_26_method_46_code
def yX3_act : MethodName := ⟨RX3, "act", "(I)V"⟩
def YX3_act : eY := (yX3_act, cX3_act, 5, none, [])
theorem mX3_act : e_mv YX3_act RX3 1 := ⟨q2787, qs98, q2788, by decide, by decide +kernel, (e_sig (by decide +kernel))⟩
theorem dX3_act_0 : decode cX3_act 0 = .ok (.aload_n 0, 1) := dc_42 (by decide +kernel)
theorem dX3_act_1 : decode cX3_act 1 = .ok (.getfield 45, 3) := dc_180 (a := 0) (b := 45) (n := 45) (by decide +kernel)
theorem dX3_act_4 : decode cX3_act 4 = .ok (.iload_n 1, 1) := dc_27 (by decide +kernel)
theorem dX3_act_5 : decode cX3_act 5 = .ok (.invokevirtual 424, 3) := dc_182 (a := 1) (b := 168) (n := 424) (by decide +kernel)
theorem dX3_act_8 : decode cX3_act 8 = .ok (.istore_n 2, 1) := dc_61 (by decide +kernel)
theorem dX3_act_9 : decode cX3_act 9 = .ok (.aload_n 0, 1) := dc_42 (by decide +kernel)
theorem dX3_act_10 : decode cX3_act 10 = .ok (.getfield 45, 3) := dc_180 (a := 0) (b := 45) (n := 45) (by decide +kernel)
theorem dX3_act_13 : decode cX3_act 13 = .ok (.iload_n 1, 1) := dc_27 (by decide +kernel)
theorem dX3_act_14 : decode cX3_act 14 = .ok (.invokevirtual 425, 3) := dc_182 (a := 1) (b := 169) (n := 425) (by decide +kernel)
theorem dX3_act_17 : decode cX3_act 17 = .ok (.istore_n 3, 1) := dc_62 (by decide +kernel)
theorem dX3_act_18 : decode cX3_act 18 = .ok (.iload_n 2, 1) := dc_28 (by decide +kernel)
theorem dX3_act_19 : decode cX3_act 19 = .ok (.iconst 4, 1) := dc_7 (by decide +kernel)
theorem dX3_act_20 : decode cX3_act 20 = .ok (.if_icmp .eq 37, 3) := dc_159 (a := 0) (b := 37) (v := 37) (by decide +kernel)
theorem dX3_act_23 : decode cX3_act 23 = .ok (.iload_n 2, 1) := dc_28 (by decide +kernel)
theorem dX3_act_24 : decode cX3_act 24 = .ok (.iconst 3, 1) := dc_6 (by decide +kernel)
theorem dX3_act_25 : decode cX3_act 25 = .ok (.if_icmp .ne 21, 3) := dc_160 (a := 0) (b := 21) (v := 21) (by decide +kernel)
theorem dX3_act_28 : decode cX3_act 28 = .ok (.iload_n 3, 1) := dc_29 (by decide +kernel)
theorem dX3_act_29 : decode cX3_act 29 = .ok (.invokestatic 428, 3) := dc_184 (a := 1) (b := 172) (n := 428) (by decide +kernel)
theorem dX3_act_32 : decode cX3_act 32 = .ok (.bipush 11, 2) := dc_16 (a := 11) (v := 11) (by decide +kernel)
theorem dX3_act_34 : decode cX3_act 34 = .ok (.if_icmp .eq 23, 3) := dc_159 (a := 0) (b := 23) (v := 23) (by decide +kernel)
theorem dX3_act_37 : decode cX3_act 37 = .ok (.iload_n 3, 1) := dc_29 (by decide +kernel)
theorem dX3_act_38 : decode cX3_act 38 = .ok (.invokestatic 428, 3) := dc_184 (a := 1) (b := 172) (n := 428) (by decide +kernel)
theorem dX3_act_41 : decode cX3_act 41 = .ok (.bipush 12, 2) := dc_16 (a := 12) (v := 12) (by decide +kernel)
theorem dX3_act_43 : decode cX3_act 43 = .ok (.if_icmp .eq 14, 3) := dc_159 (a := 0) (b := 14) (v := 14) (by decide +kernel)
theorem dX3_act_46 : decode cX3_act 46 = .ok (.iload_n 2, 1) := dc_28 (by decide +kernel)
theorem dX3_act_47 : decode cX3_act 47 = .ok (.iconst 1, 1) := dc_4 (by decide +kernel)
theorem dX3_act_48 : decode cX3_act 48 = .ok (.if_icmp .ne 13, 3) := dc_160 (a := 0) (b := 13) (v := 13) (by decide +kernel)
theorem dX3_act_51 : decode cX3_act 51 = .ok (.iload_n 3, 1) := dc_29 (by decide +kernel)
theorem dX3_act_52 : decode cX3_act 52 = .ok (.bipush 28, 2) := dc_16 (a := 28) (v := 28) (by decide +kernel)
theorem dX3_act_54 : decode cX3_act 54 = .ok (.if_icmp .ne 7, 3) := dc_160 (a := 0) (b := 7) (v := 7) (by decide +kernel)
theorem dX3_act_57 : decode cX3_act 57 = .ok (.iconst 1, 1) := dc_4 (by decide +kernel)
theorem dX3_act_58 : decode cX3_act 58 = .ok (.goto 4, 3) := dc_167 (a := 0) (b := 4) (v := 4) (by decide +kernel)
theorem dX3_act_61 : decode cX3_act 61 = .ok (.iconst 0, 1) := dc_3 (by decide +kernel)
theorem dX3_act_62 : decode cX3_act 62 = .ok (.istore 4, 2) := dc_54 (a := 4) (by decide +kernel)
theorem dX3_act_64 : decode cX3_act 64 = .ok (.iload 4, 2) := dc_21 (a := 4) (by decide +kernel)
theorem dX3_act_66 : decode cX3_act 66 = .ok (.ifCond .ne 7, 3) := dc_154 (a := 0) (b := 7) (v := 7) (by decide +kernel)
theorem dX3_act_69 : decode cX3_act 69 = .ok (.aload_n 0, 1) := dc_42 (by decide +kernel)
theorem dX3_act_70 : decode cX3_act 70 = .ok (.invokevirtual 280, 3) := dc_182 (a := 1) (b := 24) (n := 280) (by decide +kernel)
theorem dX3_act_73 : decode cX3_act 73 = .ok (.iload_n 2, 1) := dc_28 (by decide +kernel)
theorem dX3_act_74 : decode cX3_act 74 = .ok (.tableswitch 101 0 5 #[38, 101, 101, 50, 78, 86], 38) := by decide +kernel
theorem dX3_act_112 : decode cX3_act 112 = .ok (.aload_n 0, 1) := dc_42 (by decide +kernel)
theorem dX3_act_113 : decode cX3_act 113 = .ok (.getfield 14, 3) := dc_180 (a := 0) (b := 14) (n := 14) (by decide +kernel)
theorem dX3_act_116 : decode cX3_act 116 = .ok (.bipush 11, 2) := dc_16 (a := 11) (v := 11) (by decide +kernel)
theorem dX3_act_118 : decode cX3_act 118 = .ok (.invokevirtual 680, 3) := dc_182 (a := 2) (b := 168) (n := 680) (by decide +kernel)
theorem dX3_act_121 : decode cX3_act 121 = .ok (.goto 59, 3) := dc_167 (a := 0) (b := 59) (v := 59) (by decide +kernel)
theorem dX3_act_124 : decode cX3_act 124 = .ok (.iload 4, 2) := dc_21 (a := 4) (by decide +kernel)
theorem dX3_act_126 : decode cX3_act 126 = .ok (.ifCond .eq 15, 3) := dc_153 (a := 0) (b := 15) (v := 15) (by decide +kernel)
theorem dX3_act_129 : decode cX3_act 129 = .ok (.aload_n 0, 1) := dc_42 (by decide +kernel)
theorem dX3_act_130 : decode cX3_act 130 = .ok (.iload_n 3, 1) := dc_29 (by decide +kernel)
theorem dX3_act_131 : decode cX3_act 131 = .ok (.sipush 255, 3) := dc_17 (a := 0) (b := 255) (v := 255) (by decide +kernel)
theorem dX3_act_134 : decode cX3_act 134 = .ok (.iand, 1) := dc_126 (by decide +kernel)
theorem dX3_act_135 : decode cX3_act 135 = .ok (.invokevirtual 683, 3) := dc_182 (a := 2) (b := 171) (n := 683) (by decide +kernel)
theorem dX3_act_138 : decode cX3_act 138 = .ok (.goto 42, 3) := dc_167 (a := 0) (b := 42) (v := 42) (by decide +kernel)
theorem dX3_act_141 : decode cX3_act 141 = .ok (.aload_n 0, 1) := dc_42 (by decide +kernel)
theorem dX3_act_142 : decode cX3_act 142 = .ok (.iload_n 3, 1) := dc_29 (by decide +kernel)
theorem dX3_act_143 : decode cX3_act 143 = .ok (.invokestatic 428, 3) := dc_184 (a := 1) (b := 172) (n := 428) (by decide +kernel)
theorem dX3_act_146 : decode cX3_act 146 = .ok (.invokevirtual 686, 3) := dc_182 (a := 2) (b := 174) (n := 686) (by decide +kernel)
theorem dX3_act_149 : decode cX3_act 149 = .ok (.goto 31, 3) := dc_167 (a := 0) (b := 31) (v := 31) (by decide +kernel)
theorem dX3_act_152 : decode cX3_act 152 = .ok (.aload_n 0, 1) := dc_42 (by decide +kernel)
theorem dX3_act_153 : decode cX3_act 153 = .ok (.iload_n 3, 1) := dc_29 (by decide +kernel)
theorem dX3_act_154 : decode cX3_act 154 = .ok (.invokevirtual 683, 3) := dc_182 (a := 2) (b := 171) (n := 683) (by decide +kernel)
theorem dX3_act_157 : decode cX3_act 157 = .ok (.goto 23, 3) := dc_167 (a := 0) (b := 23) (v := 23) (by decide +kernel)
theorem dX3_act_160 : decode cX3_act 160 = .ok (.aload_n 0, 1) := dc_42 (by decide +kernel)
theorem dX3_act_161 : decode cX3_act 161 = .ok (.getfield 53, 3) := dc_180 (a := 0) (b := 53) (n := 53) (by decide +kernel)
theorem dX3_act_164 : decode cX3_act 164 = .ok (.sipush 2095, 3) := dc_17 (a := 8) (b := 47) (v := 2095) (by decide +kernel)
theorem dX3_act_167 : decode cX3_act 167 = .ok (.iload_n 3, 1) := dc_29 (by decide +kernel)
theorem dX3_act_168 : decode cX3_act 168 = .ok (.iconst 0, 1) := dc_3 (by decide +kernel)
theorem dX3_act_169 : decode cX3_act 169 = .ok (.invokevirtual 434, 3) := dc_182 (a := 1) (b := 178) (n := 434) (by decide +kernel)
theorem dX3_act_172 : decode cX3_act 172 = .ok (.goto 8, 3) := dc_167 (a := 0) (b := 8) (v := 8) (by decide +kernel)
theorem dX3_act_175 : decode cX3_act 175 = .ok (.aload_n 0, 1) := dc_42 (by decide +kernel)
theorem dX3_act_176 : decode cX3_act 176 = .ok (.iload_n 3, 1) := dc_29 (by decide +kernel)
theorem dX3_act_177 : decode cX3_act 177 = .ok (.invokevirtual 689, 3) := dc_182 (a := 2) (b := 177) (n := 689) (by decide +kernel)
theorem dX3_act_180 : decode cX3_act 180 = .ok (.return_, 1) := dc_177 (by decide +kernel)
def fX3_act_b180 (N : Nat) (rE : Nat → Int32 → eH → Option ((Unit ⊕ Nat) × eH)) (rN : Nat → eH → Option ((Int32 ⊕ Nat) × eH))  (h : eH) : Option ((Unit ⊕ Nat) × eH) :=
  some (.inl (), h)
theorem pX3_act_b180 {w : eW} {d : Nat} {dr : Nat} (hd : dr + 24 ≤ d + 1) (hdr : 12 ≤ dr) {N : Nat} {rE : Nat → Int32 → eH → Option ((Unit ⊕ Nat) × eH)} {rN : Nat → eH → Option ((Int32 ⊕ Nat) × eH)} (hrE : ∀ a t0 h q, rE a t0 h = some q → wm w dr YX8_expand [.ref a, .int t0] h (e_is (e_rt c_V q))) (hrN : ∀ a h q, rN a h = some q → wm w dr YX8_number [.ref a] h (e_is (e_rt c_I q)))  {h : eH} {q} (hf : fX3_act_b180 N rE rN h = some q) : wp w (d + 1) YX3_act 180 [none, none, none, none, none] [] h (e_is (e_rt c_V q)) := by
  unfold fX3_act_b180 at hf
  cases hf
  exact w_vret dX3_act_180 rfl rfl
def fX3_act_b73 (N : Nat) (rE : Nat → Int32 → eH → Option ((Unit ⊕ Nat) × eH)) (rN : Nat → eH → Option ((Int32 ⊕ Nat) × eH)) (l0 : Nat) (l2 : Int32) (l3 : Int32) (l4 : Int32) (h : eH) : Option ((Unit ⊕ Nat) × eH) :=
  if l2 = (0 : Int32) then
    (g_A 2 h l0 0).bind fun a2 =>
    (k_ok 3 h a2).bind fun _ =>
    t_B (fX4_fail a2 (11 : Int32) h) fun x5 h6 =>
    fX3_act_b180 N rE rN h6
  else
  if l2 = (1 : Int32) then
    (k_ok 2 h l0).bind fun _ =>
    t_B (fX3_actPrimitive N rE rN l0 l3 h) fun x9 h10 =>
    fX3_act_b180 N rE rN h10
  else
  if l2 = (2 : Int32) then
    (k_ok 2 h l0).bind fun _ =>
    t_B (fX3_actPrimitive N rE rN l0 l3 h) fun x13 h14 =>
    fX3_act_b180 N rE rN h14
  else
  if l2 = (3 : Int32) then
    if l4 = 0 then
      (fX1_category l3 h).bind fun q17 =>
      (k_ok 2 q17.2 l0).bind fun _ =>
      t_B (fX3_actCharacter N l0 q17.1 q17.2) fun x19 h20 =>
      fX3_act_b180 N rE rN h20
    else
      (k_ok 2 h l0).bind fun _ =>
      t_B (fX3_character N l0 (l3 &&& (255 : Int32)) h) fun x22 h23 =>
      fX3_act_b180 N rE rN h23
  else
  if l2 = (4 : Int32) then
    (k_ok 2 h l0).bind fun _ =>
    t_B (fX3_character N l0 l3 h) fun x26 h27 =>
    fX3_act_b180 N rE rN h27
  else
  if l2 = (5 : Int32) then
    (g_A 2 h l0 6).bind fun a29 =>
    (k_ok 8 h a29).bind fun _ =>
    (fX9_set N a29 (2095 : Int32) l3 (0 : Int32) h).bind fun q32 =>
    fX3_act_b180 N rE rN q32.2
  else
  (k_ok 2 h l0).bind fun _ =>
  t_B (fX3_actPrimitive N rE rN l0 l3 h) fun x34 h35 =>
  fX3_act_b180 N rE rN h35
theorem pX3_act_b73 {w : eW} {d : Nat} {dr : Nat} (hd : dr + 24 ≤ d + 1) (hdr : 12 ≤ dr) {N : Nat} {rE : Nat → Int32 → eH → Option ((Unit ⊕ Nat) × eH)} {rN : Nat → eH → Option ((Int32 ⊕ Nat) × eH)} (hrE : ∀ a t0 h q, rE a t0 h = some q → wm w dr YX8_expand [.ref a, .int t0] h (e_is (e_rt c_V q))) (hrN : ∀ a h q, rN a h = some q → wm w dr YX8_number [.ref a] h (e_is (e_rt c_I q))) {l0 : Nat} {l2 : Int32} {l3 : Int32} {l4 : Int32} {h : eH} {q} (hf : fX3_act_b73 N rE rN l0 l2 l3 l4 h = some q) : wp w (d + 1) YX3_act 73 [some (.ref l0), none, some (.int l2), some (.int l3), some (.int l4)] [] h (e_is (e_rt c_V q)) := by
  unfold fX3_act_b73 at hf
  refine w_iload_n dX3_act_73 rfl rfl ?_
  by_cases c1 : l2 = (0 : Int32)
  · replace hf := (if_pos c1).symm.trans hf
    refine w_tableIn 112 dX3_act_74 (by rw [c1]; decide) (by rw [c1]; decide) (by rw [c1]; rfl) (by decide) ?_
    refine w_aload_n dX3_act_112 rfl rfl ?_
    obtain ⟨a2, b3, hf⟩ := Option.bind_eq_some_iff.mp hf
    refine GX3_14 b3 dX3_act_113 rfl ?_
    refine w_bipush dX3_act_116 (v := 11) (by decide) ?_
    obtain ⟨_, b4, hf⟩ := Option.bind_eq_some_iff.mp hf
    refine x_ctV hf (e_stV (Yc := YX4_fail) (ci := 3) (av := [.int (11 : Int32)]) (st := []) dX3_act_118 q3181 mX4_fail rfl (k_ok_some b4).1 (k_ok_some b4).2) mX4_fail.2.2.1 mX4_fail.2.2.2.2.1 (Nat.le_of_ble_eq_true rfl) (Nat.le_of_ble_eq_true rfl) rfl (fun q hq => pX4_fail (by omega) hq) (fun x5 h6 hf => ?_)
    refine w_goto 180 dX3_act_121 (by decide) ?_
    exact (pX3_act_b180 hd hdr hrE hrN hf).to trivial
  replace hf := (if_neg c1).symm.trans hf
  by_cases c7 : l2 = (1 : Int32)
  · replace hf := (if_pos c7).symm.trans hf
    refine w_tableIn 175 dX3_act_74 (by rw [c7]; decide) (by rw [c7]; decide) (by rw [c7]; rfl) (by decide) ?_
    refine w_aload_n dX3_act_175 rfl rfl ?_
    refine w_iload_n dX3_act_176 rfl rfl ?_
    obtain ⟨_, b8, hf⟩ := Option.bind_eq_some_iff.mp hf
    refine x_ctV hf (e_stV (Yc := YX3_actPrimitive) (ci := 2) (av := [.int l3]) (st := []) dX3_act_177 q3888 mX3_actPrimitive rfl (k_ok_some b8).1 (k_ok_some b8).2) mX3_actPrimitive.2.2.1 mX3_actPrimitive.2.2.2.2.1 (Nat.le_of_ble_eq_true rfl) (Nat.le_of_ble_eq_true rfl) rfl (fun q hq => pX3_actPrimitive (by omega) hdr hrE hrN hq) (fun x9 h10 hf => ?_)
    exact (pX3_act_b180 hd hdr hrE hrN hf).to trivial
  replace hf := (if_neg c7).symm.trans hf
  by_cases c11 : l2 = (2 : Int32)
  · replace hf := (if_pos c11).symm.trans hf
    refine w_tableIn 175 dX3_act_74 (by rw [c11]; decide) (by rw [c11]; decide) (by rw [c11]; rfl) (by decide) ?_
    refine w_aload_n dX3_act_175 rfl rfl ?_
    refine w_iload_n dX3_act_176 rfl rfl ?_
    obtain ⟨_, b12, hf⟩ := Option.bind_eq_some_iff.mp hf
    refine x_ctV hf (e_stV (Yc := YX3_actPrimitive) (ci := 2) (av := [.int l3]) (st := []) dX3_act_177 q3888 mX3_actPrimitive rfl (k_ok_some b12).1 (k_ok_some b12).2) mX3_actPrimitive.2.2.1 mX3_actPrimitive.2.2.2.2.1 (Nat.le_of_ble_eq_true rfl) (Nat.le_of_ble_eq_true rfl) rfl (fun q hq => pX3_actPrimitive (by omega) hdr hrE hrN hq) (fun x13 h14 hf => ?_)
    exact (pX3_act_b180 hd hdr hrE hrN hf).to trivial
  replace hf := (if_neg c11).symm.trans hf
  by_cases c15 : l2 = (3 : Int32)
  · replace hf := (if_pos c15).symm.trans hf
    refine w_tableIn 124 dX3_act_74 (by rw [c15]; decide) (by rw [c15]; decide) (by rw [c15]; rfl) (by decide) ?_
    refine w_iload dX3_act_124 rfl ?_
    refine w_if_eq 141 dX3_act_126 (by decide) (fun c16 => ?_) (fun c16 => ?_)
    · replace hf := (if_pos (show l4 = 0 from c16)).symm.trans hf
      refine w_aload_n dX3_act_141 rfl rfl ?_
      refine w_iload_n dX3_act_142 rfl rfl ?_
      refine x_cnI hf (e_stSN (Yc := YX1_category) (av := [.int l3]) (st := [.ref l0]) dX3_act_143 q2791 mX1_category) mX1_category.2.2.1 mX1_category.2.2.2.2.1 (Nat.le_of_ble_eq_true rfl) (Nat.le_of_ble_eq_true rfl) (fun q hq => pX1_category (by omega) hq) (fun q17 hf => ?_)
      obtain ⟨_, b18, hf⟩ := Option.bind_eq_some_iff.mp hf
      refine x_ctV hf (e_stV (Yc := YX3_actCharacter) (ci := 2) (av := [.int q17.1]) (st := []) dX3_act_146 q3645 mX3_actCharacter rfl (k_ok_some b18).1 (k_ok_some b18).2) mX3_actCharacter.2.2.1 mX3_actCharacter.2.2.2.2.1 (Nat.le_of_ble_eq_true rfl) (Nat.le_of_ble_eq_true rfl) rfl (fun q hq => pX3_actCharacter (by omega) hq) (fun x19 h20 hf => ?_)
      refine w_goto 180 dX3_act_149 (by decide) ?_
      exact (pX3_act_b180 hd hdr hrE hrN hf).to trivial
    · replace hf := (if_neg (show ¬ (l4 = 0) from c16)).symm.trans hf
      refine w_aload_n dX3_act_129 rfl rfl ?_
      refine w_iload_n dX3_act_130 rfl rfl ?_
      refine w_sipush dX3_act_131 (v := 255) (by decide) ?_
      refine w_iand dX3_act_134 ?_
      obtain ⟨_, b21, hf⟩ := Option.bind_eq_some_iff.mp hf
      refine x_ctV hf (e_stV (Yc := YX3_character) (ci := 2) (av := [.int (l3 &&& (255 : Int32))]) (st := []) dX3_act_135 q3182 mX3_character rfl (k_ok_some b21).1 (k_ok_some b21).2) mX3_character.2.2.1 mX3_character.2.2.2.2.1 (Nat.le_of_ble_eq_true rfl) (Nat.le_of_ble_eq_true rfl) rfl (fun q hq => pX3_character (by omega) hq) (fun x22 h23 hf => ?_)
      refine w_goto 180 dX3_act_138 (by decide) ?_
      exact (pX3_act_b180 hd hdr hrE hrN hf).to trivial
  replace hf := (if_neg c15).symm.trans hf
  by_cases c24 : l2 = (4 : Int32)
  · replace hf := (if_pos c24).symm.trans hf
    refine w_tableIn 152 dX3_act_74 (by rw [c24]; decide) (by rw [c24]; decide) (by rw [c24]; rfl) (by decide) ?_
    refine w_aload_n dX3_act_152 rfl rfl ?_
    refine w_iload_n dX3_act_153 rfl rfl ?_
    obtain ⟨_, b25, hf⟩ := Option.bind_eq_some_iff.mp hf
    refine x_ctV hf (e_stV (Yc := YX3_character) (ci := 2) (av := [.int l3]) (st := []) dX3_act_154 q3182 mX3_character rfl (k_ok_some b25).1 (k_ok_some b25).2) mX3_character.2.2.1 mX3_character.2.2.2.2.1 (Nat.le_of_ble_eq_true rfl) (Nat.le_of_ble_eq_true rfl) rfl (fun q hq => pX3_character (by omega) hq) (fun x26 h27 hf => ?_)
    refine w_goto 180 dX3_act_157 (by decide) ?_
    exact (pX3_act_b180 hd hdr hrE hrN hf).to trivial
  replace hf := (if_neg c24).symm.trans hf
  by_cases c28 : l2 = (5 : Int32)
  · replace hf := (if_pos c28).symm.trans hf
    refine w_tableIn 160 dX3_act_74 (by rw [c28]; decide) (by rw [c28]; decide) (by rw [c28]; rfl) (by decide) ?_
    refine w_aload_n dX3_act_160 rfl rfl ?_
    obtain ⟨a29, b30, hf⟩ := Option.bind_eq_some_iff.mp hf
    refine GX3_53 b30 dX3_act_161 rfl ?_
    refine w_sipush dX3_act_164 (v := 2095) (by decide) ?_
    refine w_iload_n dX3_act_167 rfl rfl ?_
    refine w_iconst dX3_act_168 (v := 0) (by decide) ?_
    obtain ⟨_, b31, hf⟩ := Option.bind_eq_some_iff.mp hf
    refine x_cnV hf (e_stV (Yc := YX9_set) (ci := 8) (av := [.int (2095 : Int32), .int l3, .int (0 : Int32)]) (st := []) dX3_act_169 q3474 mX9_set rfl (k_ok_some b31).1 (k_ok_some b31).2) mX9_set.2.2.1 mX9_set.2.2.2.2.1 (Nat.le_of_ble_eq_true rfl) (Nat.le_of_ble_eq_true rfl) (fun q hq => pX9_set (by omega) hq) (fun q32 hf => ?_)
    refine w_goto 180 dX3_act_172 (by decide) ?_
    exact (pX3_act_b180 hd hdr hrE hrN hf).to trivial
  replace hf := (if_neg c28).symm.trans hf
  refine w_tableOut 175 dX3_act_74 (by have n0 := sw_ne c1 (by decide : (0 : Int32).toInt = 0); have n1 := sw_ne c7 (by decide : (1 : Int32).toInt = 1); have n2 := sw_ne c11 (by decide : (2 : Int32).toInt = 2); have n3 := sw_ne c15 (by decide : (3 : Int32).toInt = 3); have n4 := sw_ne c24 (by decide : (4 : Int32).toInt = 4); have n5 := sw_ne c28 (by decide : (5 : Int32).toInt = 5); omega) (by decide) ?_
  refine w_aload_n dX3_act_175 rfl rfl ?_
  refine w_iload_n dX3_act_176 rfl rfl ?_
  obtain ⟨_, b33, hf⟩ := Option.bind_eq_some_iff.mp hf
  refine x_ctV hf (e_stV (Yc := YX3_actPrimitive) (ci := 2) (av := [.int l3]) (st := []) dX3_act_177 q3888 mX3_actPrimitive rfl (k_ok_some b33).1 (k_ok_some b33).2) mX3_actPrimitive.2.2.1 mX3_actPrimitive.2.2.2.2.1 (Nat.le_of_ble_eq_true rfl) (Nat.le_of_ble_eq_true rfl) rfl (fun q hq => pX3_actPrimitive (by omega) hdr hrE hrN hq) (fun x34 h35 hf => ?_)
  exact (pX3_act_b180 hd hdr hrE hrN hf).to trivial
def fX3_act_b62 (N : Nat) (rE : Nat → Int32 → eH → Option ((Unit ⊕ Nat) × eH)) (rN : Nat → eH → Option ((Int32 ⊕ Nat) × eH)) (l0 : Nat) (l2 : Int32) (l3 : Int32) (s0 : Int32) (h : eH) : Option ((Unit ⊕ Nat) × eH) :=
  if ¬ s0 = 0 then
    fX3_act_b73 N rE rN l0 l2 l3 s0 h
  else
    (k_ok 2 h l0).bind fun _ =>
    t_B (fX3_endWord N l0 h) fun x3 h4 =>
    fX3_act_b73 N rE rN l0 l2 l3 s0 h4
theorem pX3_act_b62 {w : eW} {d : Nat} {dr : Nat} (hd : dr + 24 ≤ d + 1) (hdr : 12 ≤ dr) {N : Nat} {rE : Nat → Int32 → eH → Option ((Unit ⊕ Nat) × eH)} {rN : Nat → eH → Option ((Int32 ⊕ Nat) × eH)} (hrE : ∀ a t0 h q, rE a t0 h = some q → wm w dr YX8_expand [.ref a, .int t0] h (e_is (e_rt c_V q))) (hrN : ∀ a h q, rN a h = some q → wm w dr YX8_number [.ref a] h (e_is (e_rt c_I q))) {l0 : Nat} {l2 : Int32} {l3 : Int32} {s0 : Int32} {h : eH} {q} (hf : fX3_act_b62 N rE rN l0 l2 l3 s0 h = some q) : wp w (d + 1) YX3_act 62 [some (.ref l0), none, some (.int l2), some (.int l3), none] [.int s0] h (e_is (e_rt c_V q)) := by
  unfold fX3_act_b62 at hf
  refine w_istore dX3_act_62 (by decide) (ls' := [some (.ref l0), none, some (.int l2), some (.int l3), some (.int s0)]) rfl ?_
  refine w_iload dX3_act_64 rfl ?_
  refine w_if_ne 73 dX3_act_66 (by decide) (fun c1 => ?_) (fun c1 => ?_)
  · replace hf := (if_pos (show ¬ s0 = 0 from c1)).symm.trans hf
    exact (pX3_act_b73 hd hdr hrE hrN hf).to ⟨rfl, rfl, rfl, rfl, trivial⟩
  · replace hf := (if_neg (show ¬ (¬ s0 = 0) from (fun z => z c1))).symm.trans hf
    refine w_aload_n dX3_act_69 rfl rfl ?_
    obtain ⟨_, b2, hf⟩ := Option.bind_eq_some_iff.mp hf
    refine x_ctV hf (e_stV (Yc := YX3_endWord) (ci := 2) (av := []) (st := []) dX3_act_70 q2792 mX3_endWord rfl (k_ok_some b2).1 (k_ok_some b2).2) mX3_endWord.2.2.1 mX3_endWord.2.2.2.2.1 (Nat.le_of_ble_eq_true rfl) (Nat.le_of_ble_eq_true rfl) rfl (fun q hq => pX3_endWord (by omega) hq) (fun x3 h4 hf => ?_)
    exact (pX3_act_b73 hd hdr hrE hrN hf).to ⟨rfl, rfl, rfl, rfl, trivial⟩
def fX3_act_b57 (N : Nat) (rE : Nat → Int32 → eH → Option ((Unit ⊕ Nat) × eH)) (rN : Nat → eH → Option ((Int32 ⊕ Nat) × eH)) (l0 : Nat) (l2 : Int32) (l3 : Int32) (h : eH) : Option ((Unit ⊕ Nat) × eH) :=
  fX3_act_b62 N rE rN l0 l2 l3 (1 : Int32) h
theorem pX3_act_b57 {w : eW} {d : Nat} {dr : Nat} (hd : dr + 24 ≤ d + 1) (hdr : 12 ≤ dr) {N : Nat} {rE : Nat → Int32 → eH → Option ((Unit ⊕ Nat) × eH)} {rN : Nat → eH → Option ((Int32 ⊕ Nat) × eH)} (hrE : ∀ a t0 h q, rE a t0 h = some q → wm w dr YX8_expand [.ref a, .int t0] h (e_is (e_rt c_V q))) (hrN : ∀ a h q, rN a h = some q → wm w dr YX8_number [.ref a] h (e_is (e_rt c_I q))) {l0 : Nat} {l2 : Int32} {l3 : Int32} {h : eH} {q} (hf : fX3_act_b57 N rE rN l0 l2 l3 h = some q) : wp w (d + 1) YX3_act 57 [some (.ref l0), none, some (.int l2), some (.int l3), none] [] h (e_is (e_rt c_V q)) := by
  unfold fX3_act_b57 at hf
  refine w_iconst dX3_act_57 (v := 1) (by decide) ?_
  refine w_goto 62 dX3_act_58 (by decide) ?_
  exact (pX3_act_b62 hd hdr hrE hrN hf).to ⟨rfl, rfl, rfl, trivial⟩
def fX3_act_b61 (N : Nat) (rE : Nat → Int32 → eH → Option ((Unit ⊕ Nat) × eH)) (rN : Nat → eH → Option ((Int32 ⊕ Nat) × eH)) (l0 : Nat) (l2 : Int32) (l3 : Int32) (h : eH) : Option ((Unit ⊕ Nat) × eH) :=
  fX3_act_b62 N rE rN l0 l2 l3 (0 : Int32) h
theorem pX3_act_b61 {w : eW} {d : Nat} {dr : Nat} (hd : dr + 24 ≤ d + 1) (hdr : 12 ≤ dr) {N : Nat} {rE : Nat → Int32 → eH → Option ((Unit ⊕ Nat) × eH)} {rN : Nat → eH → Option ((Int32 ⊕ Nat) × eH)} (hrE : ∀ a t0 h q, rE a t0 h = some q → wm w dr YX8_expand [.ref a, .int t0] h (e_is (e_rt c_V q))) (hrN : ∀ a h q, rN a h = some q → wm w dr YX8_number [.ref a] h (e_is (e_rt c_I q))) {l0 : Nat} {l2 : Int32} {l3 : Int32} {h : eH} {q} (hf : fX3_act_b61 N rE rN l0 l2 l3 h = some q) : wp w (d + 1) YX3_act 61 [some (.ref l0), none, some (.int l2), some (.int l3), none] [] h (e_is (e_rt c_V q)) := by
  unfold fX3_act_b61 at hf
  refine w_iconst dX3_act_61 (v := 0) (by decide) ?_
  exact (pX3_act_b62 hd hdr hrE hrN hf).to ⟨rfl, rfl, rfl, trivial⟩
def fX3_act_b46 (N : Nat) (rE : Nat → Int32 → eH → Option ((Unit ⊕ Nat) × eH)) (rN : Nat → eH → Option ((Int32 ⊕ Nat) × eH)) (l0 : Nat) (l2 : Int32) (l3 : Int32) (h : eH) : Option ((Unit ⊕ Nat) × eH) :=
  if ¬ l2 = (1 : Int32) then
    fX3_act_b61 N rE rN l0 l2 l3 h
  else
    if ¬ l3 = (28 : Int32) then
      fX3_act_b61 N rE rN l0 l2 l3 h
    else
      fX3_act_b57 N rE rN l0 l2 l3 h
theorem pX3_act_b46 {w : eW} {d : Nat} {dr : Nat} (hd : dr + 24 ≤ d + 1) (hdr : 12 ≤ dr) {N : Nat} {rE : Nat → Int32 → eH → Option ((Unit ⊕ Nat) × eH)} {rN : Nat → eH → Option ((Int32 ⊕ Nat) × eH)} (hrE : ∀ a t0 h q, rE a t0 h = some q → wm w dr YX8_expand [.ref a, .int t0] h (e_is (e_rt c_V q))) (hrN : ∀ a h q, rN a h = some q → wm w dr YX8_number [.ref a] h (e_is (e_rt c_I q))) {l0 : Nat} {l2 : Int32} {l3 : Int32} {h : eH} {q} (hf : fX3_act_b46 N rE rN l0 l2 l3 h = some q) : wp w (d + 1) YX3_act 46 [some (.ref l0), none, some (.int l2), some (.int l3), none] [] h (e_is (e_rt c_V q)) := by
  unfold fX3_act_b46 at hf
  refine w_iload_n dX3_act_46 rfl rfl ?_
  refine w_iconst dX3_act_47 (v := 1) (by decide) ?_
  refine w_icmp_ne 61 dX3_act_48 (by decide) (fun c1 => ?_) (fun c1 => ?_)
  · replace hf := (if_pos (show ¬ l2 = (1 : Int32) from c1)).symm.trans hf
    exact (pX3_act_b61 hd hdr hrE hrN hf).to ⟨rfl, rfl, rfl, trivial⟩
  · replace hf := (if_neg (show ¬ (¬ l2 = (1 : Int32)) from (fun z => z c1))).symm.trans hf
    refine w_iload_n dX3_act_51 rfl rfl ?_
    refine w_bipush dX3_act_52 (v := 28) (by decide) ?_
    refine w_icmp_ne 61 dX3_act_54 (by decide) (fun c2 => ?_) (fun c2 => ?_)
    · replace hf := (if_pos (show ¬ l3 = (28 : Int32) from c2)).symm.trans hf
      exact (pX3_act_b61 hd hdr hrE hrN hf).to ⟨rfl, rfl, rfl, trivial⟩
    · replace hf := (if_neg (show ¬ (¬ l3 = (28 : Int32)) from (fun z => z c2))).symm.trans hf
      exact (pX3_act_b57 hd hdr hrE hrN hf).to ⟨rfl, rfl, rfl, trivial⟩
def fX3_act (N : Nat) (rE : Nat → Int32 → eH → Option ((Unit ⊕ Nat) × eH)) (rN : Nat → eH → Option ((Int32 ⊕ Nat) × eH)) (this : Nat) (p0 : Int32) (h : eH) : Option ((Unit ⊕ Nat) × eH) :=
  (g_A 2 h this 5).bind fun a1 =>
  (k_ok 7 h a1).bind fun _ =>
  (fX8_kind a1 p0 h).bind fun q4 =>
  (g_A 2 q4.2 this 5).bind fun a5 =>
  (k_ok 7 q4.2 a5).bind fun _ =>
  (fX8_value a5 p0 q4.2).bind fun q8 =>
  if q4.1 = (4 : Int32) then
    fX3_act_b57 N rE rN this q4.1 q8.1 q8.2
  else
    if ¬ q4.1 = (3 : Int32) then
      fX3_act_b46 N rE rN this q4.1 q8.1 q8.2
    else
      (fX1_category q8.1 q8.2).bind fun q11 =>
      if q11.1 = (11 : Int32) then
        fX3_act_b57 N rE rN this q4.1 q8.1 q11.2
      else
        (fX1_category q8.1 q11.2).bind fun q13 =>
        if q13.1 = (12 : Int32) then
          fX3_act_b57 N rE rN this q4.1 q8.1 q13.2
        else
          fX3_act_b46 N rE rN this q4.1 q8.1 q13.2
theorem pX3_act {w : eW} {d : Nat} {dr : Nat} (hd : dr + 24 ≤ d) (hdr : 12 ≤ dr) {N : Nat} {rE : Nat → Int32 → eH → Option ((Unit ⊕ Nat) × eH)} {rN : Nat → eH → Option ((Int32 ⊕ Nat) × eH)} (hrE : ∀ a t0 h q, rE a t0 h = some q → wm w dr YX8_expand [.ref a, .int t0] h (e_is (e_rt c_V q))) (hrN : ∀ a h q, rN a h = some q → wm w dr YX8_number [.ref a] h (e_is (e_rt c_I q))) {this : Nat} {p0 : Int32} {h : eH} {q} (hf : fX3_act N rE rN this p0 h = some q) : wm w d YX3_act [.ref this, .int p0] h (e_is (e_rt c_V q)) := by
  obtain ⟨d, rfl⟩ : ∃ e, d = e + 1 := ⟨d - 1, by omega⟩
  show wp w (d + 1) YX3_act 0 [some (.ref this), some (.int p0), none, none, none] [] h _
  unfold fX3_act at hf
  refine w_aload_n dX3_act_0 rfl rfl ?_
  obtain ⟨a1, b2, hf⟩ := Option.bind_eq_some_iff.mp hf
  refine GX3_45 b2 dX3_act_1 rfl ?_
  refine w_iload_n dX3_act_4 rfl rfl ?_
  obtain ⟨_, b3, hf⟩ := Option.bind_eq_some_iff.mp hf
  refine x_cnI hf (e_stVN (Yc := YX8_kind) (ci := 7) (av := [.int p0]) (st := []) dX3_act_5 q2789 mX8_kind rfl (k_ok_some b3).1 (k_ok_some b3).2) mX8_kind.2.2.1 mX8_kind.2.2.2.2.1 (Nat.le_of_ble_eq_true rfl) (Nat.le_of_ble_eq_true rfl) (fun q hq => pX8_kind (by omega) hq) (fun q4 hf => ?_)
  refine w_istore_n dX3_act_8 rfl (by decide) (ls' := [some (.ref this), some (.int p0), some (.int q4.1), none, none]) rfl ?_
  refine w_aload_n dX3_act_9 rfl rfl ?_
  obtain ⟨a5, b6, hf⟩ := Option.bind_eq_some_iff.mp hf
  refine GX3_45 b6 dX3_act_10 rfl ?_
  refine w_iload_n dX3_act_13 rfl rfl ?_
  obtain ⟨_, b7, hf⟩ := Option.bind_eq_some_iff.mp hf
  refine x_cnI hf (e_stVN (Yc := YX8_value) (ci := 7) (av := [.int p0]) (st := []) dX3_act_14 q2790 mX8_value rfl (k_ok_some b7).1 (k_ok_some b7).2) mX8_value.2.2.1 mX8_value.2.2.2.2.1 (Nat.le_of_ble_eq_true rfl) (Nat.le_of_ble_eq_true rfl) (fun q hq => pX8_value (by omega) hq) (fun q8 hf => ?_)
  refine w_istore_n dX3_act_17 rfl (by decide) (ls' := [some (.ref this), some (.int p0), some (.int q4.1), some (.int q8.1), none]) rfl ?_
  refine w_iload_n dX3_act_18 rfl rfl ?_
  refine w_iconst dX3_act_19 (v := 4) (by decide) ?_
  refine w_icmp_eq 57 dX3_act_20 (by decide) (fun c9 => ?_) (fun c9 => ?_)
  · replace hf := (if_pos (show q4.1 = (4 : Int32) from c9)).symm.trans hf
    exact (pX3_act_b57 hd hdr hrE hrN hf).to ⟨rfl, rfl, rfl, trivial⟩
  · replace hf := (if_neg (show ¬ (q4.1 = (4 : Int32)) from c9)).symm.trans hf
    refine w_iload_n dX3_act_23 rfl rfl ?_
    refine w_iconst dX3_act_24 (v := 3) (by decide) ?_
    refine w_icmp_ne 46 dX3_act_25 (by decide) (fun c10 => ?_) (fun c10 => ?_)
    · replace hf := (if_pos (show ¬ q4.1 = (3 : Int32) from c10)).symm.trans hf
      exact (pX3_act_b46 hd hdr hrE hrN hf).to ⟨rfl, rfl, rfl, trivial⟩
    · replace hf := (if_neg (show ¬ (¬ q4.1 = (3 : Int32)) from (fun z => z c10))).symm.trans hf
      refine w_iload_n dX3_act_28 rfl rfl ?_
      refine x_cnI hf (e_stSN (Yc := YX1_category) (av := [.int q8.1]) (st := []) dX3_act_29 q2791 mX1_category) mX1_category.2.2.1 mX1_category.2.2.2.2.1 (Nat.le_of_ble_eq_true rfl) (Nat.le_of_ble_eq_true rfl) (fun q hq => pX1_category (by omega) hq) (fun q11 hf => ?_)
      refine w_bipush dX3_act_32 (v := 11) (by decide) ?_
      refine w_icmp_eq 57 dX3_act_34 (by decide) (fun c12 => ?_) (fun c12 => ?_)
      · replace hf := (if_pos (show q11.1 = (11 : Int32) from c12)).symm.trans hf
        exact (pX3_act_b57 hd hdr hrE hrN hf).to ⟨rfl, rfl, rfl, trivial⟩
      · replace hf := (if_neg (show ¬ (q11.1 = (11 : Int32)) from c12)).symm.trans hf
        refine w_iload_n dX3_act_37 rfl rfl ?_
        refine x_cnI hf (e_stSN (Yc := YX1_category) (av := [.int q8.1]) (st := []) dX3_act_38 q2791 mX1_category) mX1_category.2.2.1 mX1_category.2.2.2.2.1 (Nat.le_of_ble_eq_true rfl) (Nat.le_of_ble_eq_true rfl) (fun q hq => pX1_category (by omega) hq) (fun q13 hf => ?_)
        refine w_bipush dX3_act_41 (v := 12) (by decide) ?_
        refine w_icmp_eq 57 dX3_act_43 (by decide) (fun c14 => ?_) (fun c14 => ?_)
        · replace hf := (if_pos (show q13.1 = (12 : Int32) from c14)).symm.trans hf
          exact (pX3_act_b57 hd hdr hrE hrN hf).to ⟨rfl, rfl, rfl, trivial⟩
        · replace hf := (if_neg (show ¬ (q13.1 = (12 : Int32)) from c14)).symm.trans hf
          exact (pX3_act_b46 hd hdr hrE hrN hf).to ⟨rfl, rfl, rfl, trivial⟩
abbrev cX3_finish : ByteArray := prog_26_method_4_code
def yX3_finish : MethodName := ⟨RX3, "finish", "()V"⟩
def YX3_finish : eY := (yX3_finish, cX3_finish, 1, none, [])
theorem mX3_finish : e_mv YX3_finish RX3 0 := ⟨q4065, qs215, q4066, by decide, by decide +kernel, (e_sig (by decide +kernel))⟩
theorem dX3_finish_0 : decode cX3_finish 0 = .ok (.aload_n 0, 1) := dc_42 (by decide +kernel)
theorem dX3_finish_1 : decode cX3_finish 1 = .ok (.invokevirtual 280, 3) := dc_182 (a := 1) (b := 24) (n := 280) (by decide +kernel)
theorem dX3_finish_4 : decode cX3_finish 4 = .ok (.aload_n 0, 1) := dc_42 (by decide +kernel)
theorem dX3_finish_5 : decode cX3_finish 5 = .ok (.getfield 136, 3) := dc_180 (a := 0) (b := 136) (n := 136) (by decide +kernel)
theorem dX3_finish_8 : decode cX3_finish 8 = .ok (.aload_n 0, 1) := dc_42 (by decide +kernel)
theorem dX3_finish_9 : decode cX3_finish 9 = .ok (.getfield 211, 3) := dc_180 (a := 0) (b := 211) (n := 211) (by decide +kernel)
theorem dX3_finish_12 : decode cX3_finish 12 = .ok (.iaload, 1) := dc_46 (by decide +kernel)
theorem dX3_finish_13 : decode cX3_finish 13 = .ok (.iconst 2, 1) := dc_5 (by decide +kernel)
theorem dX3_finish_14 : decode cX3_finish 14 = .ok (.if_icmp .ne 7, 3) := dc_160 (a := 0) (b := 7) (v := 7) (by decide +kernel)
theorem dX3_finish_17 : decode cX3_finish 17 = .ok (.aload_n 0, 1) := dc_42 (by decide +kernel)
theorem dX3_finish_18 : decode cX3_finish 18 = .ok (.invokevirtual 283, 3) := dc_182 (a := 1) (b := 27) (n := 283) (by decide +kernel)
theorem dX3_finish_21 : decode cX3_finish 21 = .ok (.aload_n 0, 1) := dc_42 (by decide +kernel)
theorem dX3_finish_22 : decode cX3_finish 22 = .ok (.getfield 14, 3) := dc_180 (a := 0) (b := 14) (n := 14) (by decide +kernel)
theorem dX3_finish_25 : decode cX3_finish 25 = .ok (.aload_n 0, 1) := dc_42 (by decide +kernel)
theorem dX3_finish_26 : decode cX3_finish 26 = .ok (.getfield 53, 3) := dc_180 (a := 0) (b := 53) (n := 53) (by decide +kernel)
theorem dX3_finish_29 : decode cX3_finish 29 = .ok (.getfield 264, 3) := dc_180 (a := 1) (b := 8) (n := 264) (by decide +kernel)
theorem dX3_finish_32 : decode cX3_finish 32 = .ok (.ifCond .ne 17, 3) := dc_154 (a := 0) (b := 17) (v := 17) (by decide +kernel)
theorem dX3_finish_35 : decode cX3_finish 35 = .ok (.aload_n 0, 1) := dc_42 (by decide +kernel)
theorem dX3_finish_36 : decode cX3_finish 36 = .ok (.getfield 45, 3) := dc_180 (a := 0) (b := 45) (n := 45) (by decide +kernel)
theorem dX3_finish_39 : decode cX3_finish 39 = .ok (.getfield 286, 3) := dc_180 (a := 1) (b := 30) (n := 286) (by decide +kernel)
theorem dX3_finish_42 : decode cX3_finish 42 = .ok (.ifCond .ne 7, 3) := dc_154 (a := 0) (b := 7) (v := 7) (by decide +kernel)
theorem dX3_finish_45 : decode cX3_finish 45 = .ok (.iconst 1, 1) := dc_4 (by decide +kernel)
theorem dX3_finish_46 : decode cX3_finish 46 = .ok (.goto 4, 3) := dc_167 (a := 0) (b := 4) (v := 4) (by decide +kernel)
theorem dX3_finish_49 : decode cX3_finish 49 = .ok (.iconst 0, 1) := dc_3 (by decide +kernel)
theorem dX3_finish_50 : decode cX3_finish 50 = .ok (.bipush 9, 2) := dc_16 (a := 9) (v := 9) (by decide +kernel)
theorem dX3_finish_52 : decode cX3_finish 52 = .ok (.invokevirtual 289, 3) := dc_182 (a := 1) (b := 33) (n := 289) (by decide +kernel)
theorem dX3_finish_55 : decode cX3_finish 55 = .ok (.aload_n 0, 1) := dc_42 (by decide +kernel)
theorem dX3_finish_56 : decode cX3_finish 56 = .ok (.iconst 2, 1) := dc_5 (by decide +kernel)
theorem dX3_finish_57 : decode cX3_finish 57 = .ok (.iconst 0, 1) := dc_3 (by decide +kernel)
theorem dX3_finish_58 : decode cX3_finish 58 = .ok (.ldc_w 293, 3) := dc_19 (a := 1) (b := 37) (n := 293) (by decide +kernel)
theorem dX3_finish_61 : decode cX3_finish 61 = .ok (.iconst 2, 1) := dc_5 (by decide +kernel)
theorem dX3_finish_62 : decode cX3_finish 62 = .ok (.iconst 0, 1) := dc_3 (by decide +kernel)
theorem dX3_finish_63 : decode cX3_finish 63 = .ok (.invokevirtual 294, 3) := dc_182 (a := 1) (b := 38) (n := 294) (by decide +kernel)
theorem dX3_finish_66 : decode cX3_finish 66 = .ok (.aload_n 0, 1) := dc_42 (by decide +kernel)
theorem dX3_finish_67 : decode cX3_finish 67 = .ok (.iconst 5, 1) := dc_8 (by decide +kernel)
theorem dX3_finish_68 : decode cX3_finish 68 = .ok (.sipush (-10000), 3) := dc_17 (a := 216) (b := 240) (v := -10000) (by decide +kernel)
theorem dX3_finish_71 : decode cX3_finish 71 = .ok (.iconst 0, 1) := dc_3 (by decide +kernel)
theorem dX3_finish_72 : decode cX3_finish 72 = .ok (.iconst 0, 1) := dc_3 (by decide +kernel)
theorem dX3_finish_73 : decode cX3_finish 73 = .ok (.iconst 0, 1) := dc_3 (by decide +kernel)
theorem dX3_finish_74 : decode cX3_finish 74 = .ok (.invokevirtual 294, 3) := dc_182 (a := 1) (b := 38) (n := 294) (by decide +kernel)
theorem dX3_finish_77 : decode cX3_finish 77 = .ok (.return_, 1) := dc_177 (by decide +kernel)
theorem GX3_286 {w : eW} {d : Nat} {Y : eY} {pc : Nat} {ls : eL} {st : List Value} {h : eH} {Q : eO → eH → Prop} {a : Nat} {x : Int32} (hf : g_I 7 h a 15 = some x) (hd : decode Y.2.1 pc = .ok (.getfield 286, 3)) (hY : Y.1.cls = RX3) (kk : wp w d Y (pc + 3) ls (.int x :: st) h Q) : wp w d Y pc ls (.ref a :: st) h Q := x_gIN (ci := 7) (k := 15) hf hd rfl (by decide) (by rw [hY]; exact q853) kk
def fX3_finish_b50 (N : Nat) (l0 : Nat) (s0 : Nat) (s1 : Int32) (h : eH) : Option ((Unit ⊕ Nat) × eH) :=
  (k_ok 3 h s0).bind fun _ =>
  t_B (fX4_want s0 s1 (9 : Int32) h) fun x2 h3 =>
  (k_ok 2 h3 l0).bind fun _ =>
  t_B (fX3_addVertical N l0 (2 : Int32) (0 : Int32) (65536 : Int32) (2 : Int32) (0 : Int32) h3) fun x5 h6 =>
  (k_ok 2 h6 l0).bind fun _ =>
  t_B (fX3_addVertical N l0 (5 : Int32) (-10000 : Int32) (0 : Int32) (0 : Int32) (0 : Int32) h6) fun x8 h9 =>
  some (.inl (), h9)
theorem pX3_finish_b50 {w : eW} {d : Nat} (hd : 17 ≤ d + 1) {N : Nat} {l0 : Nat} {s0 : Nat} {s1 : Int32} {h : eH} {q} (hf : fX3_finish_b50 N l0 s0 s1 h = some q) : wp w (d + 1) YX3_finish 50 [some (.ref l0)] [.int s1, .ref s0] h (e_is (e_rt c_V q)) := by
  unfold fX3_finish_b50 at hf
  refine w_bipush dX3_finish_50 (v := 9) (by decide) ?_
  obtain ⟨_, b1, hf⟩ := Option.bind_eq_some_iff.mp hf
  refine x_ctV hf (e_stV (Yc := YX4_want) (ci := 3) (av := [.int s1, .int (9 : Int32)]) (st := []) dX3_finish_52 q2846 mX4_want rfl (k_ok_some b1).1 (k_ok_some b1).2) mX4_want.2.2.1 mX4_want.2.2.2.2.1 (Nat.le_of_ble_eq_true rfl) (Nat.le_of_ble_eq_true rfl) rfl (fun q hq => pX4_want (by omega) hq) (fun x2 h3 hf => ?_)
  refine w_aload_n dX3_finish_55 rfl rfl ?_
  refine w_iconst dX3_finish_56 (v := 2) (by decide) ?_
  refine w_iconst dX3_finish_57 (v := 0) (by decide) ?_
  refine w_ldc_w dX3_finish_58 q4042 ?_
  refine w_iconst dX3_finish_61 (v := 2) (by decide) ?_
  refine w_iconst dX3_finish_62 (v := 0) (by decide) ?_
  obtain ⟨_, b4, hf⟩ := Option.bind_eq_some_iff.mp hf
  refine x_ctV hf (e_stV (Yc := YX3_addVertical) (ci := 2) (av := [.int (2 : Int32), .int (0 : Int32), .int (65536 : Int32), .int (2 : Int32), .int (0 : Int32)]) (st := []) dX3_finish_63 q3198 mX3_addVertical rfl (k_ok_some b4).1 (k_ok_some b4).2) mX3_addVertical.2.2.1 mX3_addVertical.2.2.2.2.1 (Nat.le_of_ble_eq_true rfl) (Nat.le_of_ble_eq_true rfl) rfl (fun q hq => pX3_addVertical (by omega) hq) (fun x5 h6 hf => ?_)
  refine w_aload_n dX3_finish_66 rfl rfl ?_
  refine w_iconst dX3_finish_67 (v := 5) (by decide) ?_
  refine w_sipush dX3_finish_68 (v := -10000) (by decide) ?_
  refine w_iconst dX3_finish_71 (v := 0) (by decide) ?_
  refine w_iconst dX3_finish_72 (v := 0) (by decide) ?_
  refine w_iconst dX3_finish_73 (v := 0) (by decide) ?_
  obtain ⟨_, b7, hf⟩ := Option.bind_eq_some_iff.mp hf
  refine x_ctV hf (e_stV (Yc := YX3_addVertical) (ci := 2) (av := [.int (5 : Int32), .int (-10000 : Int32), .int (0 : Int32), .int (0 : Int32), .int (0 : Int32)]) (st := []) dX3_finish_74 q3198 mX3_addVertical rfl (k_ok_some b7).1 (k_ok_some b7).2) mX3_addVertical.2.2.1 mX3_addVertical.2.2.2.2.1 (Nat.le_of_ble_eq_true rfl) (Nat.le_of_ble_eq_true rfl) rfl (fun q hq => pX3_addVertical (by omega) hq) (fun x8 h9 hf => ?_)
  cases hf
  exact w_vret dX3_finish_77 rfl rfl
def fX3_finish_b49 (N : Nat) (l0 : Nat) (s0 : Nat) (h : eH) : Option ((Unit ⊕ Nat) × eH) :=
  fX3_finish_b50 N l0 s0 (0 : Int32) h
theorem pX3_finish_b49 {w : eW} {d : Nat} (hd : 17 ≤ d + 1) {N : Nat} {l0 : Nat} {s0 : Nat} {h : eH} {q} (hf : fX3_finish_b49 N l0 s0 h = some q) : wp w (d + 1) YX3_finish 49 [some (.ref l0)] [.ref s0] h (e_is (e_rt c_V q)) := by
  unfold fX3_finish_b49 at hf
  refine w_iconst dX3_finish_49 (v := 0) (by decide) ?_
  exact (pX3_finish_b50 hd hf).to ⟨rfl, trivial⟩
def fX3_finish_b21 (N : Nat) (l0 : Nat) (h : eH) : Option ((Unit ⊕ Nat) × eH) :=
  (g_A 2 h l0 0).bind fun a1 =>
  (g_A 2 h l0 6).bind fun a3 =>
  (g_I 8 h a3 11).bind fun x5 =>
  if ¬ x5 = 0 then
    fX3_finish_b49 N l0 a1 h
  else
    (g_A 2 h l0 5).bind fun a8 =>
    (g_I 7 h a8 15).bind fun x10 =>
    if ¬ x10 = 0 then
      fX3_finish_b49 N l0 a1 h
    else
      fX3_finish_b50 N l0 a1 (1 : Int32) h
theorem pX3_finish_b21 {w : eW} {d : Nat} (hd : 17 ≤ d + 1) {N : Nat} {l0 : Nat} {h : eH} {q} (hf : fX3_finish_b21 N l0 h = some q) : wp w (d + 1) YX3_finish 21 [some (.ref l0)] [] h (e_is (e_rt c_V q)) := by
  unfold fX3_finish_b21 at hf
  refine w_aload_n dX3_finish_21 rfl rfl ?_
  obtain ⟨a1, b2, hf⟩ := Option.bind_eq_some_iff.mp hf
  refine GX3_14 b2 dX3_finish_22 rfl ?_
  refine w_aload_n dX3_finish_25 rfl rfl ?_
  obtain ⟨a3, b4, hf⟩ := Option.bind_eq_some_iff.mp hf
  refine GX3_53 b4 dX3_finish_26 rfl ?_
  obtain ⟨x5, b6, hf⟩ := Option.bind_eq_some_iff.mp hf
  refine GX3_264 b6 dX3_finish_29 rfl ?_
  refine w_if_ne 49 dX3_finish_32 (by decide) (fun c7 => ?_) (fun c7 => ?_)
  · replace hf := (if_pos (show ¬ x5 = 0 from c7)).symm.trans hf
    exact (pX3_finish_b49 hd hf).to ⟨rfl, trivial⟩
  · replace hf := (if_neg (show ¬ (¬ x5 = 0) from (fun z => z c7))).symm.trans hf
    refine w_aload_n dX3_finish_35 rfl rfl ?_
    obtain ⟨a8, b9, hf⟩ := Option.bind_eq_some_iff.mp hf
    refine GX3_45 b9 dX3_finish_36 rfl ?_
    obtain ⟨x10, b11, hf⟩ := Option.bind_eq_some_iff.mp hf
    refine GX3_286 b11 dX3_finish_39 rfl ?_
    refine w_if_ne 49 dX3_finish_42 (by decide) (fun c12 => ?_) (fun c12 => ?_)
    · replace hf := (if_pos (show ¬ x10 = 0 from c12)).symm.trans hf
      exact (pX3_finish_b49 hd hf).to ⟨rfl, trivial⟩
    · replace hf := (if_neg (show ¬ (¬ x10 = 0) from (fun z => z c12))).symm.trans hf
      refine w_iconst dX3_finish_45 (v := 1) (by decide) ?_
      refine w_goto 50 dX3_finish_46 (by decide) ?_
      exact (pX3_finish_b50 hd hf).to ⟨rfl, trivial⟩
def fX3_finish (N : Nat) (this : Nat) (h : eH) : Option ((Unit ⊕ Nat) × eH) :=
  (k_ok 2 h this).bind fun _ =>
  t_B (fX3_endWord N this h) fun x2 h3 =>
  (g_A 2 h3 this 19).bind fun a4 =>
  (g_I 2 h3 this 27).bind fun x6 =>
  (r_I 100 h3 a4 x6).bind fun x8 =>
  if ¬ x8 = (2 : Int32) then
    fX3_finish_b21 N this h3
  else
    (k_ok 2 h3 this).bind fun _ =>
    t_B (fX3_endParagraph N this h3) fun x12 h13 =>
    fX3_finish_b21 N this h13
theorem pX3_finish {w : eW} {d : Nat} (hd : 17 ≤ d) {N : Nat} {this : Nat} {h : eH} {q} (hf : fX3_finish N this h = some q) : wm w d YX3_finish [.ref this] h (e_is (e_rt c_V q)) := by
  obtain ⟨d, rfl⟩ : ∃ e, d = e + 1 := ⟨d - 1, by omega⟩
  show wp w (d + 1) YX3_finish 0 [some (.ref this)] [] h _
  unfold fX3_finish at hf
  refine w_aload_n dX3_finish_0 rfl rfl ?_
  obtain ⟨_, b1, hf⟩ := Option.bind_eq_some_iff.mp hf
  refine x_ctV hf (e_stV (Yc := YX3_endWord) (ci := 2) (av := []) (st := []) dX3_finish_1 q2792 mX3_endWord rfl (k_ok_some b1).1 (k_ok_some b1).2) mX3_endWord.2.2.1 mX3_endWord.2.2.2.2.1 (Nat.le_of_ble_eq_true rfl) (Nat.le_of_ble_eq_true rfl) rfl (fun q hq => pX3_endWord (by omega) hq) (fun x2 h3 hf => ?_)
  refine w_aload_n dX3_finish_4 rfl rfl ?_
  obtain ⟨a4, b5, hf⟩ := Option.bind_eq_some_iff.mp hf
  refine GX3_136 b5 dX3_finish_5 rfl ?_
  refine w_aload_n dX3_finish_8 rfl rfl ?_
  obtain ⟨x6, b7, hf⟩ := Option.bind_eq_some_iff.mp hf
  refine GX3_211 b7 dX3_finish_9 rfl ?_
  obtain ⟨x8, b9, hf⟩ := Option.bind_eq_some_iff.mp hf
  refine x_rI b9 dX3_finish_12 ?_
  refine w_iconst dX3_finish_13 (v := 2) (by decide) ?_
  refine w_icmp_ne 21 dX3_finish_14 (by decide) (fun c10 => ?_) (fun c10 => ?_)
  · replace hf := (if_pos (show ¬ x8 = (2 : Int32) from c10)).symm.trans hf
    exact (pX3_finish_b21 hd hf).to ⟨rfl, trivial⟩
  · replace hf := (if_neg (show ¬ (¬ x8 = (2 : Int32)) from (fun z => z c10))).symm.trans hf
    refine w_aload_n dX3_finish_17 rfl rfl ?_
    obtain ⟨_, b11, hf⟩ := Option.bind_eq_some_iff.mp hf
    refine x_ctV hf (e_stV (Yc := YX3_endParagraph) (ci := 2) (av := []) (st := []) dX3_finish_18 q3661 mX3_endParagraph rfl (k_ok_some b11).1 (k_ok_some b11).2) mX3_endParagraph.2.2.1 mX3_endParagraph.2.2.2.2.1 (Nat.le_of_ble_eq_true rfl) (Nat.le_of_ble_eq_true rfl) rfl (fun q hq => pX3_endParagraph (by omega) hq) (fun x12 h13 hf => ?_)
    exact (pX3_finish_b21 hd hf).to ⟨rfl, trivial⟩
abbrev cX31_close : ByteArray := prog_35_method_10_code
def yX31_close : MethodName := ⟨RX31, "close", "()I"⟩
def YX31_close : eY := (yX31_close, cX31_close, 3, (Option.some FieldType.int), [])
theorem mX31_close : e_mv YX31_close RX31 0 := ⟨q4069, q4070, q4071, by decide, by decide +kernel, (e_sig (by decide +kernel))⟩
theorem dX31_close_0 : decode cX31_close 0 = .ok (.aload_n 0, 1) := dc_42 (by decide +kernel)
theorem dX31_close_1 : decode cX31_close 1 = .ok (.invokevirtual 134, 3) := dc_182 (a := 0) (b := 134) (n := 134) (by decide +kernel)
theorem dX31_close_4 : decode cX31_close 4 = .ok (.aload_n 0, 1) := dc_42 (by decide +kernel)
theorem dX31_close_5 : decode cX31_close 5 = .ok (.getfield 15, 3) := dc_180 (a := 0) (b := 15) (n := 15) (by decide +kernel)
theorem dX31_close_8 : decode cX31_close 8 = .ok (.getfield 66, 3) := dc_180 (a := 0) (b := 66) (n := 66) (by decide +kernel)
theorem dX31_close_11 : decode cX31_close 11 = .ok (.istore_n 1, 1) := dc_60 (by decide +kernel)
theorem dX31_close_12 : decode cX31_close 12 = .ok (.aload_n 0, 1) := dc_42 (by decide +kernel)
theorem dX31_close_13 : decode cX31_close 13 = .ok (.getfield 15, 3) := dc_180 (a := 0) (b := 15) (n := 15) (by decide +kernel)
theorem dX31_close_16 : decode cX31_close 16 = .ok (.sipush 248, 3) := dc_17 (a := 0) (b := 248) (v := 248) (by decide +kernel)
theorem dX31_close_19 : decode cX31_close 19 = .ok (.invokevirtual 105, 3) := dc_182 (a := 0) (b := 105) (n := 105) (by decide +kernel)
theorem dX31_close_22 : decode cX31_close 22 = .ok (.aload_n 0, 1) := dc_42 (by decide +kernel)
theorem dX31_close_23 : decode cX31_close 23 = .ok (.getfield 15, 3) := dc_180 (a := 0) (b := 15) (n := 15) (by decide +kernel)
theorem dX31_close_26 : decode cX31_close 26 = .ok (.aload_n 0, 1) := dc_42 (by decide +kernel)
theorem dX31_close_27 : decode cX31_close 27 = .ok (.getfield 52, 3) := dc_180 (a := 0) (b := 52) (n := 52) (by decide +kernel)
theorem dX31_close_30 : decode cX31_close 30 = .ok (.iconst 4, 1) := dc_7 (by decide +kernel)
theorem dX31_close_31 : decode cX31_close 31 = .ok (.invokevirtual 107, 3) := dc_182 (a := 0) (b := 107) (n := 107) (by decide +kernel)
theorem dX31_close_34 : decode cX31_close 34 = .ok (.aload_n 0, 1) := dc_42 (by decide +kernel)
theorem dX31_close_35 : decode cX31_close 35 = .ok (.getfield 15, 3) := dc_180 (a := 0) (b := 15) (n := 15) (by decide +kernel)
theorem dX31_close_38 : decode cX31_close 38 = .ok (.ldc 106, 2) := dc_18 (a := 106) (by decide +kernel)
theorem dX31_close_40 : decode cX31_close 40 = .ok (.iconst 4, 1) := dc_7 (by decide +kernel)
theorem dX31_close_41 : decode cX31_close 41 = .ok (.invokevirtual 107, 3) := dc_182 (a := 0) (b := 107) (n := 107) (by decide +kernel)
theorem dX31_close_44 : decode cX31_close 44 = .ok (.aload_n 0, 1) := dc_42 (by decide +kernel)
theorem dX31_close_45 : decode cX31_close 45 = .ok (.getfield 15, 3) := dc_180 (a := 0) (b := 15) (n := 15) (by decide +kernel)
theorem dX31_close_48 : decode cX31_close 48 = .ok (.ldc 110, 2) := dc_18 (a := 110) (by decide +kernel)
theorem dX31_close_50 : decode cX31_close 50 = .ok (.iconst 4, 1) := dc_7 (by decide +kernel)
theorem dX31_close_51 : decode cX31_close 51 = .ok (.invokevirtual 107, 3) := dc_182 (a := 0) (b := 107) (n := 107) (by decide +kernel)
theorem dX31_close_54 : decode cX31_close 54 = .ok (.aload_n 0, 1) := dc_42 (by decide +kernel)
theorem dX31_close_55 : decode cX31_close 55 = .ok (.getfield 15, 3) := dc_180 (a := 0) (b := 15) (n := 15) (by decide +kernel)
theorem dX31_close_58 : decode cX31_close 58 = .ok (.sipush 1000, 3) := dc_17 (a := 3) (b := 232) (v := 1000) (by decide +kernel)
theorem dX31_close_61 : decode cX31_close 61 = .ok (.iconst 4, 1) := dc_7 (by decide +kernel)
theorem dX31_close_62 : decode cX31_close 62 = .ok (.invokevirtual 107, 3) := dc_182 (a := 0) (b := 107) (n := 107) (by decide +kernel)
theorem dX31_close_65 : decode cX31_close 65 = .ok (.aload_n 0, 1) := dc_42 (by decide +kernel)
theorem dX31_close_66 : decode cX31_close 66 = .ok (.getfield 15, 3) := dc_180 (a := 0) (b := 15) (n := 15) (by decide +kernel)
theorem dX31_close_69 : decode cX31_close 69 = .ok (.aload_n 0, 1) := dc_42 (by decide +kernel)
theorem dX31_close_70 : decode cX31_close 70 = .ok (.getfield 75, 3) := dc_180 (a := 0) (b := 75) (n := 75) (by decide +kernel)
theorem dX31_close_73 : decode cX31_close 73 = .ok (.iconst 4, 1) := dc_7 (by decide +kernel)
theorem dX31_close_74 : decode cX31_close 74 = .ok (.invokevirtual 107, 3) := dc_182 (a := 0) (b := 107) (n := 107) (by decide +kernel)
theorem dX31_close_77 : decode cX31_close 77 = .ok (.aload_n 0, 1) := dc_42 (by decide +kernel)
theorem dX31_close_78 : decode cX31_close 78 = .ok (.getfield 15, 3) := dc_180 (a := 0) (b := 15) (n := 15) (by decide +kernel)
theorem dX31_close_81 : decode cX31_close 81 = .ok (.aload_n 0, 1) := dc_42 (by decide +kernel)
theorem dX31_close_82 : decode cX31_close 82 = .ok (.getfield 78, 3) := dc_180 (a := 0) (b := 78) (n := 78) (by decide +kernel)
theorem dX31_close_85 : decode cX31_close 85 = .ok (.iconst 4, 1) := dc_7 (by decide +kernel)
theorem dX31_close_86 : decode cX31_close 86 = .ok (.invokevirtual 107, 3) := dc_182 (a := 0) (b := 107) (n := 107) (by decide +kernel)
theorem dX31_close_89 : decode cX31_close 89 = .ok (.aload_n 0, 1) := dc_42 (by decide +kernel)
theorem dX31_close_90 : decode cX31_close 90 = .ok (.getfield 15, 3) := dc_180 (a := 0) (b := 15) (n := 15) (by decide +kernel)
theorem dX31_close_93 : decode cX31_close 93 = .ok (.aload_n 0, 1) := dc_42 (by decide +kernel)
theorem dX31_close_94 : decode cX31_close 94 = .ok (.getfield 72, 3) := dc_180 (a := 0) (b := 72) (n := 72) (by decide +kernel)
theorem dX31_close_97 : decode cX31_close 97 = .ok (.ifCond .le 7, 3) := dc_158 (a := 0) (b := 7) (v := 7) (by decide +kernel)
theorem dX31_close_100 : decode cX31_close 100 = .ok (.iconst 1, 1) := dc_4 (by decide +kernel)
theorem dX31_close_101 : decode cX31_close 101 = .ok (.goto 4, 3) := dc_167 (a := 0) (b := 4) (v := 4) (by decide +kernel)
theorem dX31_close_104 : decode cX31_close 104 = .ok (.iconst 0, 1) := dc_3 (by decide +kernel)
theorem dX31_close_105 : decode cX31_close 105 = .ok (.iconst 2, 1) := dc_5 (by decide +kernel)
theorem dX31_close_106 : decode cX31_close 106 = .ok (.invokevirtual 107, 3) := dc_182 (a := 0) (b := 107) (n := 107) (by decide +kernel)
theorem dX31_close_109 : decode cX31_close 109 = .ok (.aload_n 0, 1) := dc_42 (by decide +kernel)
theorem dX31_close_110 : decode cX31_close 110 = .ok (.getfield 15, 3) := dc_180 (a := 0) (b := 15) (n := 15) (by decide +kernel)
theorem dX31_close_113 : decode cX31_close 113 = .ok (.aload_n 0, 1) := dc_42 (by decide +kernel)
theorem dX31_close_114 : decode cX31_close 114 = .ok (.getfield 72, 3) := dc_180 (a := 0) (b := 72) (n := 72) (by decide +kernel)
theorem dX31_close_117 : decode cX31_close 117 = .ok (.iconst 2, 1) := dc_5 (by decide +kernel)
theorem dX31_close_118 : decode cX31_close 118 = .ok (.invokevirtual 107, 3) := dc_182 (a := 0) (b := 107) (n := 107) (by decide +kernel)
theorem dX31_close_121 : decode cX31_close 121 = .ok (.aload_n 0, 1) := dc_42 (by decide +kernel)
theorem dX31_close_122 : decode cX31_close 122 = .ok (.getfield 56, 3) := dc_180 (a := 0) (b := 56) (n := 56) (by decide +kernel)
theorem dX31_close_125 : decode cX31_close 125 = .ok (.getfield 131, 3) := dc_180 (a := 0) (b := 131) (n := 131) (by decide +kernel)
theorem dX31_close_128 : decode cX31_close 128 = .ok (.iconst 1, 1) := dc_4 (by decide +kernel)
theorem dX31_close_129 : decode cX31_close 129 = .ok (.isub, 1) := dc_100 (by decide +kernel)
theorem dX31_close_130 : decode cX31_close 130 = .ok (.istore_n 2, 1) := dc_61 (by decide +kernel)
theorem dX31_close_131 : decode cX31_close 131 = .ok (.iload_n 2, 1) := dc_28 (by decide +kernel)
theorem dX31_close_132 : decode cX31_close 132 = .ok (.ifCond .lt 29, 3) := dc_155 (a := 0) (b := 29) (v := 29) (by decide +kernel)
theorem dX31_close_135 : decode cX31_close 135 = .ok (.aload_n 0, 1) := dc_42 (by decide +kernel)
theorem dX31_close_136 : decode cX31_close 136 = .ok (.getfield 56, 3) := dc_180 (a := 0) (b := 56) (n := 56) (by decide +kernel)
theorem dX31_close_139 : decode cX31_close 139 = .ok (.aload_n 0, 1) := dc_42 (by decide +kernel)
theorem dX31_close_140 : decode cX31_close 140 = .ok (.getfield 56, 3) := dc_180 (a := 0) (b := 56) (n := 56) (by decide +kernel)
theorem dX31_close_143 : decode cX31_close 143 = .ok (.getfield 149, 3) := dc_180 (a := 0) (b := 149) (n := 149) (by decide +kernel)
theorem dX31_close_146 : decode cX31_close 146 = .ok (.iload_n 2, 1) := dc_28 (by decide +kernel)
theorem dX31_close_147 : decode cX31_close 147 = .ok (.iaload, 1) := dc_46 (by decide +kernel)
theorem dX31_close_148 : decode cX31_close 148 = .ok (.aload_n 0, 1) := dc_42 (by decide +kernel)
theorem dX31_close_149 : decode cX31_close 149 = .ok (.getfield 15, 3) := dc_180 (a := 0) (b := 15) (n := 15) (by decide +kernel)
theorem dX31_close_152 : decode cX31_close 152 = .ok (.invokevirtual 115, 3) := dc_182 (a := 0) (b := 115) (n := 115) (by decide +kernel)
theorem dX31_close_155 : decode cX31_close 155 = .ok (.iinc 2 (-1), 3) := dc_132 (a := 2) (b := 255) (v := -1) (by decide +kernel)
theorem dX31_close_158 : decode cX31_close 158 = .ok (.goto (-27), 3) := dc_167 (a := 255) (b := 229) (v := -27) (by decide +kernel)
theorem dX31_close_161 : decode cX31_close 161 = .ok (.aload_n 0, 1) := dc_42 (by decide +kernel)
theorem dX31_close_162 : decode cX31_close 162 = .ok (.getfield 15, 3) := dc_180 (a := 0) (b := 15) (n := 15) (by decide +kernel)
theorem dX31_close_165 : decode cX31_close 165 = .ok (.sipush 249, 3) := dc_17 (a := 0) (b := 249) (v := 249) (by decide +kernel)
theorem dX31_close_168 : decode cX31_close 168 = .ok (.invokevirtual 105, 3) := dc_182 (a := 0) (b := 105) (n := 105) (by decide +kernel)
theorem dX31_close_171 : decode cX31_close 171 = .ok (.aload_n 0, 1) := dc_42 (by decide +kernel)
theorem dX31_close_172 : decode cX31_close 172 = .ok (.getfield 15, 3) := dc_180 (a := 0) (b := 15) (n := 15) (by decide +kernel)
theorem dX31_close_175 : decode cX31_close 175 = .ok (.iload_n 1, 1) := dc_27 (by decide +kernel)
theorem dX31_close_176 : decode cX31_close 176 = .ok (.iconst 4, 1) := dc_7 (by decide +kernel)
theorem dX31_close_177 : decode cX31_close 177 = .ok (.invokevirtual 107, 3) := dc_182 (a := 0) (b := 107) (n := 107) (by decide +kernel)
theorem dX31_close_180 : decode cX31_close 180 = .ok (.aload_n 0, 1) := dc_42 (by decide +kernel)
theorem dX31_close_181 : decode cX31_close 181 = .ok (.getfield 15, 3) := dc_180 (a := 0) (b := 15) (n := 15) (by decide +kernel)
theorem dX31_close_184 : decode cX31_close 184 = .ok (.iconst 2, 1) := dc_5 (by decide +kernel)
theorem dX31_close_185 : decode cX31_close 185 = .ok (.invokevirtual 105, 3) := dc_182 (a := 0) (b := 105) (n := 105) (by decide +kernel)
theorem dX31_close_188 : decode cX31_close 188 = .ok (.iconst 0, 1) := dc_3 (by decide +kernel)
theorem dX31_close_189 : decode cX31_close 189 = .ok (.istore_n 2, 1) := dc_61 (by decide +kernel)
theorem dX31_close_190 : decode cX31_close 190 = .ok (.iload_n 2, 1) := dc_28 (by decide +kernel)
theorem dX31_close_191 : decode cX31_close 191 = .ok (.iconst 4, 1) := dc_7 (by decide +kernel)
theorem dX31_close_192 : decode cX31_close 192 = .ok (.if_icmp .lt 15, 3) := dc_161 (a := 0) (b := 15) (v := 15) (by decide +kernel)
theorem dX31_close_195 : decode cX31_close 195 = .ok (.aload_n 0, 1) := dc_42 (by decide +kernel)
theorem dX31_close_196 : decode cX31_close 196 = .ok (.getfield 15, 3) := dc_180 (a := 0) (b := 15) (n := 15) (by decide +kernel)
theorem dX31_close_199 : decode cX31_close 199 = .ok (.getfield 66, 3) := dc_180 (a := 0) (b := 66) (n := 66) (by decide +kernel)
theorem dX31_close_202 : decode cX31_close 202 = .ok (.iconst 4, 1) := dc_7 (by decide +kernel)
theorem dX31_close_203 : decode cX31_close 203 = .ok (.irem, 1) := dc_112 (by decide +kernel)
theorem dX31_close_204 : decode cX31_close 204 = .ok (.ifCond .eq 19, 3) := dc_153 (a := 0) (b := 19) (v := 19) (by decide +kernel)
theorem dX31_close_207 : decode cX31_close 207 = .ok (.aload_n 0, 1) := dc_42 (by decide +kernel)
theorem dX31_close_208 : decode cX31_close 208 = .ok (.getfield 15, 3) := dc_180 (a := 0) (b := 15) (n := 15) (by decide +kernel)
theorem dX31_close_211 : decode cX31_close 211 = .ok (.sipush 223, 3) := dc_17 (a := 0) (b := 223) (v := 223) (by decide +kernel)
theorem dX31_close_214 : decode cX31_close 214 = .ok (.invokevirtual 105, 3) := dc_182 (a := 0) (b := 105) (n := 105) (by decide +kernel)
theorem dX31_close_217 : decode cX31_close 217 = .ok (.iinc 2 1, 3) := dc_132 (a := 2) (b := 1) (v := 1) (by decide +kernel)
theorem dX31_close_220 : decode cX31_close 220 = .ok (.goto (-30), 3) := dc_167 (a := 255) (b := 226) (v := -30) (by decide +kernel)
theorem dX31_close_223 : decode cX31_close 223 = .ok (.aload_n 0, 1) := dc_42 (by decide +kernel)
theorem dX31_close_224 : decode cX31_close 224 = .ok (.iconst 1, 1) := dc_4 (by decide +kernel)
theorem dX31_close_225 : decode cX31_close 225 = .ok (.putfield 81, 3) := dc_181 (a := 0) (b := 81) (n := 81) (by decide +kernel)
theorem dX31_close_228 : decode cX31_close 228 = .ok (.aload_n 0, 1) := dc_42 (by decide +kernel)
theorem dX31_close_229 : decode cX31_close 229 = .ok (.getfield 15, 3) := dc_180 (a := 0) (b := 15) (n := 15) (by decide +kernel)
theorem dX31_close_232 : decode cX31_close 232 = .ok (.getfield 66, 3) := dc_180 (a := 0) (b := 66) (n := 66) (by decide +kernel)
theorem dX31_close_235 : decode cX31_close 235 = .ok (.ireturn, 1) := dc_172 (by decide +kernel)
theorem GX31_149 {w : eW} {d : Nat} {Y : eY} {pc : Nat} {ls : eL} {st : List Value} {h : eH} {Q : eO → eH → Prop} {a : Nat} {x : Nat} (hf : g_A 4 h a 5 = some x) (hd : decode Y.2.1 pc = .ok (.getfield 149, 3)) (hY : Y.1.cls = RX31) (kk : wp w d Y (pc + 3) ls (.ref x :: st) h Q) : wp w d Y pc ls (.ref a :: st) h Q := x_gAN (ci := 4) (k := 5) hf hd rfl (by decide) (by rw [hY]; exact q593) kk
def fX31_close_b207 (N : Nat) (k190 : Nat → Int32 → eH → Option (Int32 × eH)) (l0 : Nat) (l2 : Int32) (h : eH) : Option (Int32 × eH) :=
  (g_A 30 h l0 1).bind fun a1 =>
  (k_ok 31 h a1).bind fun _ =>
  (fX32_add a1 (223 : Int32) h).bind fun q4 =>
  k190 l0 (l2 + (1 : Int32)) q4.2
theorem pX31_close_b207 {w : eW} {d : Nat} (hd : 3 ≤ d + 1) {N : Nat} {k190 : Nat → Int32 → eH → Option (Int32 × eH)} (hk190 : ∀ l0 l2 h q, k190 l0 l2 h = some q → wp w (d + 1) YX31_close 190 [some (.ref l0), none, some (.int l2)] [] h (e_is (e_rn c_I q))) {l0 : Nat} {l2 : Int32} {h : eH} {q} (hf : fX31_close_b207 N k190 l0 l2 h = some q) : wp w (d + 1) YX31_close 207 [some (.ref l0), none, some (.int l2)] [] h (e_is (e_rn c_I q)) := by
  unfold fX31_close_b207 at hf
  refine w_aload_n dX31_close_207 rfl rfl ?_
  obtain ⟨a1, b2, hf⟩ := Option.bind_eq_some_iff.mp hf
  refine GX31_15 b2 dX31_close_208 rfl ?_
  refine w_sipush dX31_close_211 (v := 223) (by decide) ?_
  obtain ⟨_, b3, hf⟩ := Option.bind_eq_some_iff.mp hf
  refine x_cnV hf (e_stV (Yc := YX32_add) (ci := 31) (av := [.int (223 : Int32)]) (st := []) dX31_close_214 q3417 mX32_add rfl (k_ok_some b3).1 (k_ok_some b3).2) mX32_add.2.2.1 mX32_add.2.2.2.2.1 (Nat.le_of_ble_eq_true rfl) (Nat.le_of_ble_eq_true rfl) (fun q hq => pX32_add (by omega) hq) (fun q4 hf => ?_)
  refine w_iinc dX31_close_217 (v := (l2 + (1 : Int32))) rfl rfl (by decide) (ls' := [some (.ref l0), none, some (.int (l2 + (1 : Int32)))]) rfl ?_
  refine w_goto 190 dX31_close_220 (by decide) ?_
  exact (hk190 _ _ _ _ hf).to ⟨rfl, rfl, trivial⟩
def fX31_close_b190 (N : Nat) : Nat → Nat → Int32 → eH → Option (Int32 × eH)
  | 0, _, _, _ => none
  | n + 1, l0, l2, h =>
    if l2 < (4 : Int32) then
      fX31_close_b207 N (fX31_close_b190 N n) l0 l2 h
    else
      (g_A 30 h l0 1).bind fun a2 =>
      (g_I 31 h a2 1).bind fun x4 =>
      if (x4 - x4 / (4 : Int32) * (4 : Int32)) = 0 then
        (p_Z 30 h l0 17 (1 : Int32)).bind fun h7 =>
        (g_A 30 h7 l0 1).bind fun a9 =>
        (g_I 31 h7 a9 1).bind fun x11 =>
        some (x11, h7)
      else
        fX31_close_b207 N (fX31_close_b190 N n) l0 l2 h
theorem pX31_close_b190 {w : eW} {d : Nat} (hd : 3 ≤ d + 1) {N : Nat} : ∀ (n : Nat) l0 l2 h q, fX31_close_b190 N n l0 l2 h = some q → wp w (d + 1) YX31_close 190 [some (.ref l0), none, some (.int l2)] [] h (e_is (e_rn c_I q)) := by
  intro n
  induction n with
  | zero => intro l0 l2 h q hf; simp [fX31_close_b190] at hf
  | succ n ih =>
    intro l0 l2 h q hf
    rw [fX31_close_b190] at hf
    refine w_iload_n dX31_close_190 rfl rfl ?_
    refine w_iconst dX31_close_191 (v := 4) (by decide) ?_
    refine w_icmp_lt 207 dX31_close_192 (by decide) (fun c1 => ?_) (fun c1 => ?_)
    · replace hf := (if_pos (show l2 < (4 : Int32) from c1)).symm.trans hf
      exact (pX31_close_b207 hd ih hf).to ⟨rfl, rfl, trivial⟩
    · replace hf := (if_neg (show ¬ (l2 < (4 : Int32)) from c1)).symm.trans hf
      refine w_aload_n dX31_close_195 rfl rfl ?_
      obtain ⟨a2, b3, hf⟩ := Option.bind_eq_some_iff.mp hf
      refine GX31_15 b3 dX31_close_196 rfl ?_
      obtain ⟨x4, b5, hf⟩ := Option.bind_eq_some_iff.mp hf
      refine GX31_66 b5 dX31_close_199 rfl ?_
      refine w_iconst dX31_close_202 (v := 4) (by decide) ?_
      refine w_irem dX31_close_203 (by decide) ?_
      refine w_if_eq 223 dX31_close_204 (by decide) (fun c6 => ?_) (fun c6 => ?_)
      · replace hf := (if_pos (show (x4 - x4 / (4 : Int32) * (4 : Int32)) = 0 from c6)).symm.trans hf
        refine w_aload_n dX31_close_223 rfl rfl ?_
        refine w_iconst dX31_close_224 (v := 1) (by decide) ?_
        obtain ⟨h7, b8, hf⟩ := Option.bind_eq_some_iff.mp hf
        refine SX31_81 b8 dX31_close_225 rfl ?_
        refine w_aload_n dX31_close_228 rfl rfl ?_
        obtain ⟨a9, b10, hf⟩ := Option.bind_eq_some_iff.mp hf
        refine GX31_15 b10 dX31_close_229 rfl ?_
        obtain ⟨x11, b12, hf⟩ := Option.bind_eq_some_iff.mp hf
        refine GX31_66 b12 dX31_close_232 rfl ?_
        cases hf
        exact w_iret dX31_close_235 rfl rfl rfl
      · replace hf := (if_neg (show ¬ ((x4 - x4 / (4 : Int32) * (4 : Int32)) = 0) from c6)).symm.trans hf
        exact (pX31_close_b207 hd ih hf).to ⟨rfl, rfl, trivial⟩
def fX31_close_b131 (N : Nat) : Nat → Nat → Int32 → Int32 → eH → Option (Int32 × eH)
  | 0, _, _, _, _ => none
  | n + 1, l0, l1, l2, h =>
    if l2 < 0 then
      (g_A 30 h l0 1).bind fun a2 =>
      (k_ok 31 h a2).bind fun _ =>
      (fX32_add a2 (249 : Int32) h).bind fun q5 =>
      (g_A 30 q5.2 l0 1).bind fun a6 =>
      (k_ok 31 q5.2 a6).bind fun _ =>
      (fX32_number N a6 l1 (4 : Int32) q5.2).bind fun q9 =>
      (g_A 30 q9.2 l0 1).bind fun a10 =>
      (k_ok 31 q9.2 a10).bind fun _ =>
      (fX32_add a10 (2 : Int32) q9.2).bind fun q13 =>
      fX31_close_b190 N N l0 (0 : Int32) q13.2
    else
      (g_A 30 h l0 0).bind fun a14 =>
      (g_A 30 h l0 0).bind fun a16 =>
      (g_A 4 h a16 5).bind fun a18 =>
      (r_I 100 h a18 l2).bind fun x20 =>
      (g_A 30 h l0 1).bind fun a22 =>
      (k_ok 4 h a14).bind fun _ =>
      (fX5_define N a14 x20 a22 h).bind fun q25 =>
      fX31_close_b131 N n l0 l1 (l2 + (-1 : Int32)) q25.2
theorem pX31_close_b131 {w : eW} {d : Nat} (hd : 3 ≤ d + 1) {N : Nat} : ∀ (n : Nat) l0 l1 l2 h q, fX31_close_b131 N n l0 l1 l2 h = some q → wp w (d + 1) YX31_close 131 [some (.ref l0), some (.int l1), some (.int l2)] [] h (e_is (e_rn c_I q)) := by
  intro n
  induction n with
  | zero => intro l0 l1 l2 h q hf; simp [fX31_close_b131] at hf
  | succ n ih =>
    intro l0 l1 l2 h q hf
    rw [fX31_close_b131] at hf
    refine w_iload_n dX31_close_131 rfl rfl ?_
    refine w_if_lt 161 dX31_close_132 (by decide) (fun c1 => ?_) (fun c1 => ?_)
    · replace hf := (if_pos (show l2 < 0 from c1)).symm.trans hf
      refine w_aload_n dX31_close_161 rfl rfl ?_
      obtain ⟨a2, b3, hf⟩ := Option.bind_eq_some_iff.mp hf
      refine GX31_15 b3 dX31_close_162 rfl ?_
      refine w_sipush dX31_close_165 (v := 249) (by decide) ?_
      obtain ⟨_, b4, hf⟩ := Option.bind_eq_some_iff.mp hf
      refine x_cnV hf (e_stV (Yc := YX32_add) (ci := 31) (av := [.int (249 : Int32)]) (st := []) dX31_close_168 q3417 mX32_add rfl (k_ok_some b4).1 (k_ok_some b4).2) mX32_add.2.2.1 mX32_add.2.2.2.2.1 (Nat.le_of_ble_eq_true rfl) (Nat.le_of_ble_eq_true rfl) (fun q hq => pX32_add (by omega) hq) (fun q5 hf => ?_)
      refine w_aload_n dX31_close_171 rfl rfl ?_
      obtain ⟨a6, b7, hf⟩ := Option.bind_eq_some_iff.mp hf
      refine GX31_15 b7 dX31_close_172 rfl ?_
      refine w_iload_n dX31_close_175 rfl rfl ?_
      refine w_iconst dX31_close_176 (v := 4) (by decide) ?_
      obtain ⟨_, b8, hf⟩ := Option.bind_eq_some_iff.mp hf
      refine x_cnV hf (e_stV (Yc := YX32_number) (ci := 31) (av := [.int l1, .int (4 : Int32)]) (st := []) dX31_close_177 q3422 mX32_number rfl (k_ok_some b8).1 (k_ok_some b8).2) mX32_number.2.2.1 mX32_number.2.2.2.2.1 (Nat.le_of_ble_eq_true rfl) (Nat.le_of_ble_eq_true rfl) (fun q hq => pX32_number (by omega) hq) (fun q9 hf => ?_)
      refine w_aload_n dX31_close_180 rfl rfl ?_
      obtain ⟨a10, b11, hf⟩ := Option.bind_eq_some_iff.mp hf
      refine GX31_15 b11 dX31_close_181 rfl ?_
      refine w_iconst dX31_close_184 (v := 2) (by decide) ?_
      obtain ⟨_, b12, hf⟩ := Option.bind_eq_some_iff.mp hf
      refine x_cnV hf (e_stV (Yc := YX32_add) (ci := 31) (av := [.int (2 : Int32)]) (st := []) dX31_close_185 q3417 mX32_add rfl (k_ok_some b12).1 (k_ok_some b12).2) mX32_add.2.2.1 mX32_add.2.2.2.2.1 (Nat.le_of_ble_eq_true rfl) (Nat.le_of_ble_eq_true rfl) (fun q hq => pX32_add (by omega) hq) (fun q13 hf => ?_)
      refine w_iconst dX31_close_188 (v := 0) (by decide) ?_
      refine w_istore_n dX31_close_189 rfl (by decide) (ls' := [some (.ref l0), some (.int l1), some (.int (0 : Int32))]) rfl ?_
      exact (pX31_close_b190 hd N _ _ _ _ hf).to ⟨rfl, rfl, trivial⟩
    · replace hf := (if_neg (show ¬ (l2 < 0) from c1)).symm.trans hf
      refine w_aload_n dX31_close_135 rfl rfl ?_
      obtain ⟨a14, b15, hf⟩ := Option.bind_eq_some_iff.mp hf
      refine GX31_56 b15 dX31_close_136 rfl ?_
      refine w_aload_n dX31_close_139 rfl rfl ?_
      obtain ⟨a16, b17, hf⟩ := Option.bind_eq_some_iff.mp hf
      refine GX31_56 b17 dX31_close_140 rfl ?_
      obtain ⟨a18, b19, hf⟩ := Option.bind_eq_some_iff.mp hf
      refine GX31_149 b19 dX31_close_143 rfl ?_
      refine w_iload_n dX31_close_146 rfl rfl ?_
      obtain ⟨x20, b21, hf⟩ := Option.bind_eq_some_iff.mp hf
      refine x_rI b21 dX31_close_147 ?_
      refine w_aload_n dX31_close_148 rfl rfl ?_
      obtain ⟨a22, b23, hf⟩ := Option.bind_eq_some_iff.mp hf
      refine GX31_15 b23 dX31_close_149 rfl ?_
      obtain ⟨_, b24, hf⟩ := Option.bind_eq_some_iff.mp hf
      refine x_cnV hf (e_stV (Yc := YX5_define) (ci := 4) (av := [.int x20, .ref a22]) (st := []) dX31_close_152 q3457 mX5_define rfl (k_ok_some b24).1 (k_ok_some b24).2) mX5_define.2.2.1 mX5_define.2.2.2.2.1 (Nat.le_of_ble_eq_true rfl) (Nat.le_of_ble_eq_true rfl) (fun q hq => pX5_define (by omega) hq) (fun q25 hf => ?_)
      refine w_iinc dX31_close_155 (v := (l2 + (-1 : Int32))) rfl rfl (by decide) (ls' := [some (.ref l0), some (.int l1), some (.int (l2 + (-1 : Int32)))]) rfl ?_
      refine w_goto 131 dX31_close_158 (by decide) ?_
      exact (ih _ _ _ _ _ hf).to ⟨rfl, rfl, rfl, trivial⟩
def fX31_close_b105 (N : Nat) (l0 : Nat) (l1 : Int32) (s0 : Nat) (s1 : Int32) (h : eH) : Option (Int32 × eH) :=
  (k_ok 31 h s0).bind fun _ =>
  (fX32_number N s0 s1 (2 : Int32) h).bind fun q2 =>
  (g_A 30 q2.2 l0 1).bind fun a3 =>
  (g_I 30 q2.2 l0 13).bind fun x5 =>
  (k_ok 31 q2.2 a3).bind fun _ =>
  (fX32_number N a3 x5 (2 : Int32) q2.2).bind fun q8 =>
  (g_A 30 q8.2 l0 0).bind fun a9 =>
  (g_I 4 q8.2 a9 6).bind fun x11 =>
  fX31_close_b131 N N l0 l1 (x11 - (1 : Int32)) q8.2
theorem pX31_close_b105 {w : eW} {d : Nat} (hd : 3 ≤ d + 1) {N : Nat} {l0 : Nat} {l1 : Int32} {s0 : Nat} {s1 : Int32} {h : eH} {q} (hf : fX31_close_b105 N l0 l1 s0 s1 h = some q) : wp w (d + 1) YX31_close 105 [some (.ref l0), some (.int l1), none] [.int s1, .ref s0] h (e_is (e_rn c_I q)) := by
  unfold fX31_close_b105 at hf
  refine w_iconst dX31_close_105 (v := 2) (by decide) ?_
  obtain ⟨_, b1, hf⟩ := Option.bind_eq_some_iff.mp hf
  refine x_cnV hf (e_stV (Yc := YX32_number) (ci := 31) (av := [.int s1, .int (2 : Int32)]) (st := []) dX31_close_106 q3422 mX32_number rfl (k_ok_some b1).1 (k_ok_some b1).2) mX32_number.2.2.1 mX32_number.2.2.2.2.1 (Nat.le_of_ble_eq_true rfl) (Nat.le_of_ble_eq_true rfl) (fun q hq => pX32_number (by omega) hq) (fun q2 hf => ?_)
  refine w_aload_n dX31_close_109 rfl rfl ?_
  obtain ⟨a3, b4, hf⟩ := Option.bind_eq_some_iff.mp hf
  refine GX31_15 b4 dX31_close_110 rfl ?_
  refine w_aload_n dX31_close_113 rfl rfl ?_
  obtain ⟨x5, b6, hf⟩ := Option.bind_eq_some_iff.mp hf
  refine GX31_72 b6 dX31_close_114 rfl ?_
  refine w_iconst dX31_close_117 (v := 2) (by decide) ?_
  obtain ⟨_, b7, hf⟩ := Option.bind_eq_some_iff.mp hf
  refine x_cnV hf (e_stV (Yc := YX32_number) (ci := 31) (av := [.int x5, .int (2 : Int32)]) (st := []) dX31_close_118 q3422 mX32_number rfl (k_ok_some b7).1 (k_ok_some b7).2) mX32_number.2.2.1 mX32_number.2.2.2.2.1 (Nat.le_of_ble_eq_true rfl) (Nat.le_of_ble_eq_true rfl) (fun q hq => pX32_number (by omega) hq) (fun q8 hf => ?_)
  refine w_aload_n dX31_close_121 rfl rfl ?_
  obtain ⟨a9, b10, hf⟩ := Option.bind_eq_some_iff.mp hf
  refine GX31_56 b10 dX31_close_122 rfl ?_
  obtain ⟨x11, b12, hf⟩ := Option.bind_eq_some_iff.mp hf
  refine GX31_131 b12 dX31_close_125 rfl ?_
  refine w_iconst dX31_close_128 (v := 1) (by decide) ?_
  refine w_isub dX31_close_129 ?_
  refine w_istore_n dX31_close_130 rfl (by decide) (ls' := [some (.ref l0), some (.int l1), some (.int (x11 - (1 : Int32)))]) rfl ?_
  exact (pX31_close_b131 hd N _ _ _ _ _ hf).to ⟨rfl, rfl, rfl, trivial⟩
def fX31_close (N : Nat) (this : Nat) (h : eH) : Option (Int32 × eH) :=
  (k_ok 30 h this).bind fun _ =>
  (fX31_open N this h).bind fun q2 =>
  (g_A 30 q2.2 this 1).bind fun a3 =>
  (g_I 31 q2.2 a3 1).bind fun x5 =>
  (g_A 30 q2.2 this 1).bind fun a7 =>
  (k_ok 31 q2.2 a7).bind fun _ =>
  (fX32_add a7 (248 : Int32) q2.2).bind fun q10 =>
  (g_A 30 q10.2 this 1).bind fun a11 =>
  (g_I 30 q10.2 this 14).bind fun x13 =>
  (k_ok 31 q10.2 a11).bind fun _ =>
  (fX32_number N a11 x13 (4 : Int32) q10.2).bind fun q16 =>
  (g_A 30 q16.2 this 1).bind fun a17 =>
  (k_ok 31 q16.2 a17).bind fun _ =>
  (fX32_number N a17 (25400000 : Int32) (4 : Int32) q16.2).bind fun q20 =>
  (g_A 30 q20.2 this 1).bind fun a21 =>
  (k_ok 31 q20.2 a21).bind fun _ =>
  (fX32_number N a21 (473628672 : Int32) (4 : Int32) q20.2).bind fun q24 =>
  (g_A 30 q24.2 this 1).bind fun a25 =>
  (k_ok 31 q24.2 a25).bind fun _ =>
  (fX32_number N a25 (1000 : Int32) (4 : Int32) q24.2).bind fun q28 =>
  (g_A 30 q28.2 this 1).bind fun a29 =>
  (g_I 30 q28.2 this 15).bind fun x31 =>
  (k_ok 31 q28.2 a29).bind fun _ =>
  (fX32_number N a29 x31 (4 : Int32) q28.2).bind fun q34 =>
  (g_A 30 q34.2 this 1).bind fun a35 =>
  (g_I 30 q34.2 this 16).bind fun x37 =>
  (k_ok 31 q34.2 a35).bind fun _ =>
  (fX32_number N a35 x37 (4 : Int32) q34.2).bind fun q40 =>
  (g_A 30 q40.2 this 1).bind fun a41 =>
  (g_I 30 q40.2 this 13).bind fun x43 =>
  if x43 ≤ 0 then
    fX31_close_b105 N this x5 a41 (0 : Int32) q40.2
  else
    fX31_close_b105 N this x5 a41 (1 : Int32) q40.2
theorem pX31_close {w : eW} {d : Nat} (hd : 3 ≤ d) {N : Nat} {this : Nat} {h : eH} {q} (hf : fX31_close N this h = some q) : wm w d YX31_close [.ref this] h (e_is (e_rn c_I q)) := by
  obtain ⟨d, rfl⟩ : ∃ e, d = e + 1 := ⟨d - 1, by omega⟩
  show wp w (d + 1) YX31_close 0 [some (.ref this), none, none] [] h _
  unfold fX31_close at hf
  refine w_aload_n dX31_close_0 rfl rfl ?_
  obtain ⟨_, b1, hf⟩ := Option.bind_eq_some_iff.mp hf
  refine x_cnV hf (e_stV (Yc := YX31_open) (ci := 30) (av := []) (st := []) dX31_close_1 q3413 mX31_open rfl (k_ok_some b1).1 (k_ok_some b1).2) mX31_open.2.2.1 mX31_open.2.2.2.2.1 (Nat.le_of_ble_eq_true rfl) (Nat.le_of_ble_eq_true rfl) (fun q hq => pX31_open (by omega) hq) (fun q2 hf => ?_)
  refine w_aload_n dX31_close_4 rfl rfl ?_
  obtain ⟨a3, b4, hf⟩ := Option.bind_eq_some_iff.mp hf
  refine GX31_15 b4 dX31_close_5 rfl ?_
  obtain ⟨x5, b6, hf⟩ := Option.bind_eq_some_iff.mp hf
  refine GX31_66 b6 dX31_close_8 rfl ?_
  refine w_istore_n dX31_close_11 rfl (by decide) (ls' := [some (.ref this), some (.int x5), none]) rfl ?_
  refine w_aload_n dX31_close_12 rfl rfl ?_
  obtain ⟨a7, b8, hf⟩ := Option.bind_eq_some_iff.mp hf
  refine GX31_15 b8 dX31_close_13 rfl ?_
  refine w_sipush dX31_close_16 (v := 248) (by decide) ?_
  obtain ⟨_, b9, hf⟩ := Option.bind_eq_some_iff.mp hf
  refine x_cnV hf (e_stV (Yc := YX32_add) (ci := 31) (av := [.int (248 : Int32)]) (st := []) dX31_close_19 q3417 mX32_add rfl (k_ok_some b9).1 (k_ok_some b9).2) mX32_add.2.2.1 mX32_add.2.2.2.2.1 (Nat.le_of_ble_eq_true rfl) (Nat.le_of_ble_eq_true rfl) (fun q hq => pX32_add (by omega) hq) (fun q10 hf => ?_)
  refine w_aload_n dX31_close_22 rfl rfl ?_
  obtain ⟨a11, b12, hf⟩ := Option.bind_eq_some_iff.mp hf
  refine GX31_15 b12 dX31_close_23 rfl ?_
  refine w_aload_n dX31_close_26 rfl rfl ?_
  obtain ⟨x13, b14, hf⟩ := Option.bind_eq_some_iff.mp hf
  refine GX31_52 b14 dX31_close_27 rfl ?_
  refine w_iconst dX31_close_30 (v := 4) (by decide) ?_
  obtain ⟨_, b15, hf⟩ := Option.bind_eq_some_iff.mp hf
  refine x_cnV hf (e_stV (Yc := YX32_number) (ci := 31) (av := [.int x13, .int (4 : Int32)]) (st := []) dX31_close_31 q3422 mX32_number rfl (k_ok_some b15).1 (k_ok_some b15).2) mX32_number.2.2.1 mX32_number.2.2.2.2.1 (Nat.le_of_ble_eq_true rfl) (Nat.le_of_ble_eq_true rfl) (fun q hq => pX32_number (by omega) hq) (fun q16 hf => ?_)
  refine w_aload_n dX31_close_34 rfl rfl ?_
  obtain ⟨a17, b18, hf⟩ := Option.bind_eq_some_iff.mp hf
  refine GX31_15 b18 dX31_close_35 rfl ?_
  refine w_ldc dX31_close_38 q3421 ?_
  refine w_iconst dX31_close_40 (v := 4) (by decide) ?_
  obtain ⟨_, b19, hf⟩ := Option.bind_eq_some_iff.mp hf
  refine x_cnV hf (e_stV (Yc := YX32_number) (ci := 31) (av := [.int (25400000 : Int32), .int (4 : Int32)]) (st := []) dX31_close_41 q3422 mX32_number rfl (k_ok_some b19).1 (k_ok_some b19).2) mX32_number.2.2.1 mX32_number.2.2.2.2.1 (Nat.le_of_ble_eq_true rfl) (Nat.le_of_ble_eq_true rfl) (fun q hq => pX32_number (by omega) hq) (fun q20 hf => ?_)
  refine w_aload_n dX31_close_44 rfl rfl ?_
  obtain ⟨a21, b22, hf⟩ := Option.bind_eq_some_iff.mp hf
  refine GX31_15 b22 dX31_close_45 rfl ?_
  refine w_ldc dX31_close_48 q3427 ?_
  refine w_iconst dX31_close_50 (v := 4) (by decide) ?_
  obtain ⟨_, b23, hf⟩ := Option.bind_eq_some_iff.mp hf
  refine x_cnV hf (e_stV (Yc := YX32_number) (ci := 31) (av := [.int (473628672 : Int32), .int (4 : Int32)]) (st := []) dX31_close_51 q3422 mX32_number rfl (k_ok_some b23).1 (k_ok_some b23).2) mX32_number.2.2.1 mX32_number.2.2.2.2.1 (Nat.le_of_ble_eq_true rfl) (Nat.le_of_ble_eq_true rfl) (fun q hq => pX32_number (by omega) hq) (fun q24 hf => ?_)
  refine w_aload_n dX31_close_54 rfl rfl ?_
  obtain ⟨a25, b26, hf⟩ := Option.bind_eq_some_iff.mp hf
  refine GX31_15 b26 dX31_close_55 rfl ?_
  refine w_sipush dX31_close_58 (v := 1000) (by decide) ?_
  refine w_iconst dX31_close_61 (v := 4) (by decide) ?_
  obtain ⟨_, b27, hf⟩ := Option.bind_eq_some_iff.mp hf
  refine x_cnV hf (e_stV (Yc := YX32_number) (ci := 31) (av := [.int (1000 : Int32), .int (4 : Int32)]) (st := []) dX31_close_62 q3422 mX32_number rfl (k_ok_some b27).1 (k_ok_some b27).2) mX32_number.2.2.1 mX32_number.2.2.2.2.1 (Nat.le_of_ble_eq_true rfl) (Nat.le_of_ble_eq_true rfl) (fun q hq => pX32_number (by omega) hq) (fun q28 hf => ?_)
  refine w_aload_n dX31_close_65 rfl rfl ?_
  obtain ⟨a29, b30, hf⟩ := Option.bind_eq_some_iff.mp hf
  refine GX31_15 b30 dX31_close_66 rfl ?_
  refine w_aload_n dX31_close_69 rfl rfl ?_
  obtain ⟨x31, b32, hf⟩ := Option.bind_eq_some_iff.mp hf
  refine GX31_75 b32 dX31_close_70 rfl ?_
  refine w_iconst dX31_close_73 (v := 4) (by decide) ?_
  obtain ⟨_, b33, hf⟩ := Option.bind_eq_some_iff.mp hf
  refine x_cnV hf (e_stV (Yc := YX32_number) (ci := 31) (av := [.int x31, .int (4 : Int32)]) (st := []) dX31_close_74 q3422 mX32_number rfl (k_ok_some b33).1 (k_ok_some b33).2) mX32_number.2.2.1 mX32_number.2.2.2.2.1 (Nat.le_of_ble_eq_true rfl) (Nat.le_of_ble_eq_true rfl) (fun q hq => pX32_number (by omega) hq) (fun q34 hf => ?_)
  refine w_aload_n dX31_close_77 rfl rfl ?_
  obtain ⟨a35, b36, hf⟩ := Option.bind_eq_some_iff.mp hf
  refine GX31_15 b36 dX31_close_78 rfl ?_
  refine w_aload_n dX31_close_81 rfl rfl ?_
  obtain ⟨x37, b38, hf⟩ := Option.bind_eq_some_iff.mp hf
  refine GX31_78 b38 dX31_close_82 rfl ?_
  refine w_iconst dX31_close_85 (v := 4) (by decide) ?_
  obtain ⟨_, b39, hf⟩ := Option.bind_eq_some_iff.mp hf
  refine x_cnV hf (e_stV (Yc := YX32_number) (ci := 31) (av := [.int x37, .int (4 : Int32)]) (st := []) dX31_close_86 q3422 mX32_number rfl (k_ok_some b39).1 (k_ok_some b39).2) mX32_number.2.2.1 mX32_number.2.2.2.2.1 (Nat.le_of_ble_eq_true rfl) (Nat.le_of_ble_eq_true rfl) (fun q hq => pX32_number (by omega) hq) (fun q40 hf => ?_)
  refine w_aload_n dX31_close_89 rfl rfl ?_
  obtain ⟨a41, b42, hf⟩ := Option.bind_eq_some_iff.mp hf
  refine GX31_15 b42 dX31_close_90 rfl ?_
  refine w_aload_n dX31_close_93 rfl rfl ?_
  obtain ⟨x43, b44, hf⟩ := Option.bind_eq_some_iff.mp hf
  refine GX31_72 b44 dX31_close_94 rfl ?_
  refine w_if_le 104 dX31_close_97 (by decide) (fun c45 => ?_) (fun c45 => ?_)
  · replace hf := (if_pos (show x43 ≤ 0 from c45)).symm.trans hf
    refine w_iconst dX31_close_104 (v := 0) (by decide) ?_
    exact (pX31_close_b105 hd hf).to ⟨rfl, rfl, trivial⟩
  · replace hf := (if_neg (show ¬ (x43 ≤ 0) from c45)).symm.trans hf
    refine w_iconst dX31_close_100 (v := 1) (by decide) ?_
    refine w_goto 105 dX31_close_101 (by decide) ?_
    exact (pX31_close_b105 hd hf).to ⟨rfl, rfl, trivial⟩
abbrev cX3_run : ByteArray := prog_26_method_3_code
def yX3_run : MethodName := ⟨RX3, "run", "(I)I"⟩
def YX3_run : eY := (yX3_run, cX3_run, 4, (Option.some FieldType.int), [(14, 68, 71, 249)])
theorem mX3_run : e_mv YX3_run RX3 1 := ⟨q2408, q2409, q2410, by decide, by decide +kernel, (e_sig (by decide +kernel))⟩
theorem dX3_run_0 : decode cX3_run 0 = .ok (.aload_n 0, 1) := dc_42 (by decide +kernel)
theorem dX3_run_1 : decode cX3_run 1 = .ok (.invokevirtual 231, 3) := dc_182 (a := 0) (b := 231) (n := 231) (by decide +kernel)
theorem dX3_run_4 : decode cX3_run 4 = .ok (.aload_n 0, 1) := dc_42 (by decide +kernel)
theorem dX3_run_5 : decode cX3_run 5 = .ok (.getfield 45, 3) := dc_180 (a := 0) (b := 45) (n := 45) (by decide +kernel)
theorem dX3_run_8 : decode cX3_run 8 = .ok (.iload_n 1, 1) := dc_27 (by decide +kernel)
theorem dX3_run_9 : decode cX3_run 9 = .ok (.putfield 232, 3) := dc_181 (a := 0) (b := 232) (n := 232) (by decide +kernel)
theorem dX3_run_12 : decode cX3_run 12 = .ok (.iconst 0, 1) := dc_3 (by decide +kernel)
theorem dX3_run_13 : decode cX3_run 13 = .ok (.istore_n 2, 1) := dc_61 (by decide +kernel)
theorem dX3_run_14 : decode cX3_run 14 = .ok (.aload_n 0, 1) := dc_42 (by decide +kernel)
theorem dX3_run_15 : decode cX3_run 15 = .ok (.getfield 45, 3) := dc_180 (a := 0) (b := 45) (n := 45) (by decide +kernel)
theorem dX3_run_18 : decode cX3_run 18 = .ok (.invokevirtual 235, 3) := dc_182 (a := 0) (b := 235) (n := 235) (by decide +kernel)
theorem dX3_run_21 : decode cX3_run 21 = .ok (.istore_n 3, 1) := dc_62 (by decide +kernel)
theorem dX3_run_22 : decode cX3_run 22 = .ok (.iload_n 3, 1) := dc_29 (by decide +kernel)
theorem dX3_run_23 : decode cX3_run 23 = .ok (.iconst (-1), 1) := dc_2 (by decide +kernel)
theorem dX3_run_24 : decode cX3_run 24 = .ok (.if_icmp .eq 40, 3) := dc_159 (a := 0) (b := 40) (v := 40) (by decide +kernel)
theorem dX3_run_27 : decode cX3_run 27 = .ok (.aload_n 0, 1) := dc_42 (by decide +kernel)
theorem dX3_run_28 : decode cX3_run 28 = .ok (.getfield 222, 3) := dc_180 (a := 0) (b := 222) (n := 222) (by decide +kernel)
theorem dX3_run_31 : decode cX3_run 31 = .ok (.ifCond .ne 33, 3) := dc_154 (a := 0) (b := 33) (v := 33) (by decide +kernel)
theorem dX3_run_34 : decode cX3_run 34 = .ok (.aload_n 0, 1) := dc_42 (by decide +kernel)
theorem dX3_run_35 : decode cX3_run 35 = .ok (.getfield 45, 3) := dc_180 (a := 0) (b := 45) (n := 45) (by decide +kernel)
theorem dX3_run_38 : decode cX3_run 38 = .ok (.invokevirtual 239, 3) := dc_182 (a := 0) (b := 239) (n := 239) (by decide +kernel)
theorem dX3_run_41 : decode cX3_run 41 = .ok (.aload_n 0, 1) := dc_42 (by decide +kernel)
theorem dX3_run_42 : decode cX3_run 42 = .ok (.iload_n 3, 1) := dc_29 (by decide +kernel)
theorem dX3_run_43 : decode cX3_run 43 = .ok (.invokevirtual 242, 3) := dc_182 (a := 0) (b := 242) (n := 242) (by decide +kernel)
theorem dX3_run_46 : decode cX3_run 46 = .ok (.aload_n 0, 1) := dc_42 (by decide +kernel)
theorem dX3_run_47 : decode cX3_run 47 = .ok (.getfield 222, 3) := dc_180 (a := 0) (b := 222) (n := 222) (by decide +kernel)
theorem dX3_run_50 : decode cX3_run 50 = .ok (.ifCond .ne (-28), 3) := dc_154 (a := 255) (b := 228) (v := -28) (by decide +kernel)
theorem dX3_run_53 : decode cX3_run 53 = .ok (.aload_n 0, 1) := dc_42 (by decide +kernel)
theorem dX3_run_54 : decode cX3_run 54 = .ok (.getfield 45, 3) := dc_180 (a := 0) (b := 45) (n := 45) (by decide +kernel)
theorem dX3_run_57 : decode cX3_run 57 = .ok (.invokevirtual 235, 3) := dc_182 (a := 0) (b := 235) (n := 235) (by decide +kernel)
theorem dX3_run_60 : decode cX3_run 60 = .ok (.istore_n 3, 1) := dc_62 (by decide +kernel)
theorem dX3_run_61 : decode cX3_run 61 = .ok (.goto (-39), 3) := dc_167 (a := 255) (b := 217) (v := -39) (by decide +kernel)
theorem dX3_run_64 : decode cX3_run 64 = .ok (.aload_n 0, 1) := dc_42 (by decide +kernel)
theorem dX3_run_65 : decode cX3_run 65 = .ok (.invokevirtual 246, 3) := dc_182 (a := 0) (b := 246) (n := 246) (by decide +kernel)
theorem dX3_run_68 : decode cX3_run 68 = .ok (.goto 26, 3) := dc_167 (a := 0) (b := 26) (v := 26) (by decide +kernel)
theorem dX3_run_71 : decode cX3_run 71 = .ok (.astore_n 3, 1) := dc_78 (by decide +kernel)
theorem dX3_run_72 : decode cX3_run 72 = .ok (.ldc 251, 2) := dc_18 (a := 251) (by decide +kernel)
theorem dX3_run_74 : decode cX3_run 74 = .ok (.aload_n 0, 1) := dc_42 (by decide +kernel)
theorem dX3_run_75 : decode cX3_run 75 = .ok (.getfield 14, 3) := dc_180 (a := 0) (b := 14) (n := 14) (by decide +kernel)
theorem dX3_run_78 : decode cX3_run 78 = .ok (.getfield 252, 3) := dc_180 (a := 0) (b := 252) (n := 252) (by decide +kernel)
theorem dX3_run_81 : decode cX3_run 81 = .ok (.imul, 1) := dc_104 (by decide +kernel)
theorem dX3_run_82 : decode cX3_run 82 = .ok (.aload_n 0, 1) := dc_42 (by decide +kernel)
theorem dX3_run_83 : decode cX3_run 83 = .ok (.getfield 45, 3) := dc_180 (a := 0) (b := 45) (n := 45) (by decide +kernel)
theorem dX3_run_86 : decode cX3_run 86 = .ok (.getfield 255, 3) := dc_180 (a := 0) (b := 255) (n := 255) (by decide +kernel)
theorem dX3_run_89 : decode cX3_run 89 = .ok (.getfield 259, 3) := dc_180 (a := 1) (b := 3) (n := 259) (by decide +kernel)
theorem dX3_run_92 : decode cX3_run 92 = .ok (.iadd, 1) := dc_96 (by decide +kernel)
theorem dX3_run_93 : decode cX3_run 93 = .ok (.istore_n 2, 1) := dc_61 (by decide +kernel)
theorem dX3_run_94 : decode cX3_run 94 = .ok (.aload_n 0, 1) := dc_42 (by decide +kernel)
theorem dX3_run_95 : decode cX3_run 95 = .ok (.getfield 53, 3) := dc_180 (a := 0) (b := 53) (n := 53) (by decide +kernel)
theorem dX3_run_98 : decode cX3_run 98 = .ok (.getfield 264, 3) := dc_180 (a := 1) (b := 8) (n := 264) (by decide +kernel)
theorem dX3_run_101 : decode cX3_run 101 = .ok (.ifCond .le 13, 3) := dc_158 (a := 0) (b := 13) (v := 13) (by decide +kernel)
theorem dX3_run_104 : decode cX3_run 104 = .ok (.aload_n 0, 1) := dc_42 (by decide +kernel)
theorem dX3_run_105 : decode cX3_run 105 = .ok (.getfield 53, 3) := dc_180 (a := 0) (b := 53) (n := 53) (by decide +kernel)
theorem dX3_run_108 : decode cX3_run 108 = .ok (.invokevirtual 269, 3) := dc_182 (a := 1) (b := 13) (n := 269) (by decide +kernel)
theorem dX3_run_111 : decode cX3_run 111 = .ok (.goto (-17), 3) := dc_167 (a := 255) (b := 239) (v := -17) (by decide +kernel)
theorem dX3_run_114 : decode cX3_run 114 = .ok (.aload_n 0, 1) := dc_42 (by decide +kernel)
theorem dX3_run_115 : decode cX3_run 115 = .ok (.getfield 119, 3) := dc_180 (a := 0) (b := 119) (n := 119) (by decide +kernel)
theorem dX3_run_118 : decode cX3_run 118 = .ok (.invokevirtual 272, 3) := dc_182 (a := 1) (b := 16) (n := 272) (by decide +kernel)
theorem dX3_run_121 : decode cX3_run 121 = .ok (.istore_n 3, 1) := dc_62 (by decide +kernel)
theorem dX3_run_122 : decode cX3_run 122 = .ok (.aload_n 0, 1) := dc_42 (by decide +kernel)
theorem dX3_run_123 : decode cX3_run 123 = .ok (.getfield 178, 3) := dc_180 (a := 0) (b := 178) (n := 178) (by decide +kernel)
theorem dX3_run_126 : decode cX3_run 126 = .ok (.iconst 0, 1) := dc_3 (by decide +kernel)
theorem dX3_run_127 : decode cX3_run 127 = .ok (.aload_n 0, 1) := dc_42 (by decide +kernel)
theorem dX3_run_128 : decode cX3_run 128 = .ok (.getfield 45, 3) := dc_180 (a := 0) (b := 45) (n := 45) (by decide +kernel)
theorem dX3_run_131 : decode cX3_run 131 = .ok (.getfield 274, 3) := dc_180 (a := 1) (b := 18) (n := 274) (by decide +kernel)
theorem dX3_run_134 : decode cX3_run 134 = .ok (.iastore, 1) := dc_79 (by decide +kernel)
theorem dX3_run_135 : decode cX3_run 135 = .ok (.aload_n 0, 1) := dc_42 (by decide +kernel)
theorem dX3_run_136 : decode cX3_run 136 = .ok (.getfield 178, 3) := dc_180 (a := 0) (b := 178) (n := 178) (by decide +kernel)
theorem dX3_run_139 : decode cX3_run 139 = .ok (.iconst 1, 1) := dc_4 (by decide +kernel)
theorem dX3_run_140 : decode cX3_run 140 = .ok (.aload_n 0, 1) := dc_42 (by decide +kernel)
theorem dX3_run_141 : decode cX3_run 141 = .ok (.getfield 119, 3) := dc_180 (a := 0) (b := 119) (n := 119) (by decide +kernel)
theorem dX3_run_144 : decode cX3_run 144 = .ok (.getfield 277, 3) := dc_180 (a := 1) (b := 21) (n := 277) (by decide +kernel)
theorem dX3_run_147 : decode cX3_run 147 = .ok (.iastore, 1) := dc_79 (by decide +kernel)
theorem dX3_run_148 : decode cX3_run 148 = .ok (.iload_n 2, 1) := dc_28 (by decide +kernel)
theorem dX3_run_149 : decode cX3_run 149 = .ok (.ireturn, 1) := dc_172 (by decide +kernel)
theorem GX3_222 {w : eW} {d : Nat} {Y : eY} {pc : Nat} {ls : eL} {st : List Value} {h : eH} {Q : eO → eH → Prop} {a : Nat} {x : Int32} (hf : g_I 2 h a 35 = some x) (hd : decode Y.2.1 pc = .ok (.getfield 222, 3)) (hY : Y.1.cls = RX3) (kk : wp w d Y (pc + 3) ls (.int x :: st) h Q) : wp w d Y pc ls (.ref a :: st) h Q := x_gI (ci := 2) (k := 35) hf hd rfl (by decide) (by rw [hY]; exact q1827) kk
theorem GX3_252 {w : eW} {d : Nat} {Y : eY} {pc : Nat} {ls : eL} {st : List Value} {h : eH} {Q : eO → eH → Prop} {a : Nat} {x : Int32} (hf : g_I 3 h a 0 = some x) (hd : decode Y.2.1 pc = .ok (.getfield 252, 3)) (hY : Y.1.cls = RX3) (kk : wp w d Y (pc + 3) ls (.int x :: st) h Q) : wp w d Y pc ls (.ref a :: st) h Q := x_gIN (ci := 3) (k := 0) hf hd rfl (by decide) (by rw [hY]; exact q522) kk
theorem GX3_255 {w : eW} {d : Nat} {Y : eY} {pc : Nat} {ls : eL} {st : List Value} {h : eH} {Q : eO → eH → Prop} {a : Nat} {x : Nat} (hf : g_A 7 h a 5 = some x) (hd : decode Y.2.1 pc = .ok (.getfield 255, 3)) (hY : Y.1.cls = RX3) (kk : wp w d Y (pc + 3) ls (.ref x :: st) h Q) : wp w d Y pc ls (.ref a :: st) h Q := x_gAN (ci := 7) (k := 5) hf hd rfl (by decide) (by rw [hY]; exact q838) kk
theorem GX3_259 {w : eW} {d : Nat} {Y : eY} {pc : Nat} {ls : eL} {st : List Value} {h : eH} {Q : eO → eH → Prop} {a : Nat} {x : Int32} (hf : g_I 10 h a 9 = some x) (hd : decode Y.2.1 pc = .ok (.getfield 259, 3)) (hY : Y.1.cls = RX3) (kk : wp w d Y (pc + 3) ls (.int x :: st) h Q) : wp w d Y pc ls (.ref a :: st) h Q := x_gIN (ci := 10) (k := 9) hf hd rfl (by decide) (by rw [hY]; exact q749) kk
theorem GX3_274 {w : eW} {d : Nat} {Y : eY} {pc : Nat} {ls : eL} {st : List Value} {h : eH} {Q : eO → eH → Prop} {a : Nat} {x : Int32} (hf : g_I 7 h a 8 = some x) (hd : decode Y.2.1 pc = .ok (.getfield 274, 3)) (hY : Y.1.cls = RX3) (kk : wp w d Y (pc + 3) ls (.int x :: st) h Q) : wp w d Y pc ls (.ref a :: st) h Q := x_gIN (ci := 7) (k := 8) hf hd rfl (by decide) (by rw [hY]; exact q843) kk
theorem GX3_277 {w : eW} {d : Nat} {Y : eY} {pc : Nat} {ls : eL} {st : List Value} {h : eH} {Q : eO → eH → Prop} {a : Nat} {x : Int32} (hf : g_I 30 h a 13 = some x) (hd : decode Y.2.1 pc = .ok (.getfield 277, 3)) (hY : Y.1.cls = RX3) (kk : wp w d Y (pc + 3) ls (.int x :: st) h Q) : wp w d Y pc ls (.ref a :: st) h Q := x_gIN (ci := 30) (k := 13) hf hd rfl (by decide) (by rw [hY]; exact q1731) kk
theorem SX3_232 {w : eW} {d : Nat} {Y : eY} {pc : Nat} {ls : eL} {st : List Value} {h : eH} {Q : eO → eH → Prop} {a : Nat} {h' : eH} {x : Int32} (hf : p_V 7 h a 9 (.int x) = some h') (hd : decode Y.2.1 pc = .ok (.putfield 232, 3)) (hY : Y.1.cls = RX3) (kk : wp w d Y (pc + 3) ls st h' Q) : wp w d Y pc ls (.int x :: .ref a :: st) h Q := x_pIN (ci := 7) (k := 9) hf hd rfl (by decide) (by rw [hY]; exact q844) rfl rfl kk
def fX3_run_b94 (N : Nat) (rE : Nat → Int32 → eH → Option ((Unit ⊕ Nat) × eH)) (rN : Nat → eH → Option ((Int32 ⊕ Nat) × eH)) : Nat → Nat → Int32 → eH → Option (Int32 × eH)
  | 0, _, _, _ => none
  | n + 1, l0, l2, h =>
    (g_A 2 h l0 6).bind fun a1 =>
    (g_I 8 h a1 11).bind fun x3 =>
    if x3 ≤ 0 then
      (g_A 2 h l0 15).bind fun a6 =>
      (k_ok 30 h a6).bind fun _ =>
      (fX31_close N a6 h).bind fun q9 =>
      (g_A 2 q9.2 l0 36).bind fun a10 =>
      (g_A 2 q9.2 l0 5).bind fun a12 =>
      (g_I 7 q9.2 a12 8).bind fun x14 =>
      (q_V 100 q9.2 a10 (0 : Int32) (.int x14)).bind fun h16 =>
      (g_A 2 h16 l0 36).bind fun a18 =>
      (g_A 2 h16 l0 15).bind fun a20 =>
      (g_I 30 h16 a20 13).bind fun x22 =>
      (q_V 100 h16 a18 (1 : Int32) (.int x22)).bind fun h24 =>
      some (l2, h24)
    else
      (g_A 2 h l0 6).bind fun a26 =>
      (k_ok 8 h a26).bind fun _ =>
      (fX9_close N a26 h).bind fun q29 =>
      fX3_run_b94 N rE rN n l0 l2 q29.2
theorem pX3_run_b94 {w : eW} {d : Nat} {dr : Nat} (hd : dr + 25 ≤ d + 1) (hdr : 12 ≤ dr) {N : Nat} {rE : Nat → Int32 → eH → Option ((Unit ⊕ Nat) × eH)} {rN : Nat → eH → Option ((Int32 ⊕ Nat) × eH)} (hrE : ∀ a t0 h q, rE a t0 h = some q → wm w dr YX8_expand [.ref a, .int t0] h (e_is (e_rt c_V q))) (hrN : ∀ a h q, rN a h = some q → wm w dr YX8_number [.ref a] h (e_is (e_rt c_I q))) : ∀ (n : Nat) l0 l2 h q, fX3_run_b94 N rE rN n l0 l2 h = some q → wp w (d + 1) YX3_run 94 [some (.ref l0), none, some (.int l2), none] [] h (e_is (e_rn c_I q)) := by
  intro n
  induction n with
  | zero => intro l0 l2 h q hf; simp [fX3_run_b94] at hf
  | succ n ih =>
    intro l0 l2 h q hf
    rw [fX3_run_b94] at hf
    refine w_aload_n dX3_run_94 rfl rfl ?_
    obtain ⟨a1, b2, hf⟩ := Option.bind_eq_some_iff.mp hf
    refine GX3_53 b2 dX3_run_95 rfl ?_
    obtain ⟨x3, b4, hf⟩ := Option.bind_eq_some_iff.mp hf
    refine GX3_264 b4 dX3_run_98 rfl ?_
    refine w_if_le 114 dX3_run_101 (by decide) (fun c5 => ?_) (fun c5 => ?_)
    · replace hf := (if_pos (show x3 ≤ 0 from c5)).symm.trans hf
      refine w_aload_n dX3_run_114 rfl rfl ?_
      obtain ⟨a6, b7, hf⟩ := Option.bind_eq_some_iff.mp hf
      refine GX3_119 b7 dX3_run_115 rfl ?_
      obtain ⟨_, b8, hf⟩ := Option.bind_eq_some_iff.mp hf
      refine x_cnI hf (e_stV (Yc := YX31_close) (ci := 30) (av := []) (st := []) dX3_run_118 q4068 mX31_close rfl (k_ok_some b8).1 (k_ok_some b8).2) mX31_close.2.2.1 mX31_close.2.2.2.2.1 (Nat.le_of_ble_eq_true rfl) (Nat.le_of_ble_eq_true rfl) (fun q hq => pX31_close (by omega) hq) (fun q9 hf => ?_)
      refine w_istore_n dX3_run_121 rfl (by decide) (ls' := [some (.ref l0), none, some (.int l2), some (.int q9.1)]) rfl ?_
      refine w_aload_n dX3_run_122 rfl rfl ?_
      obtain ⟨a10, b11, hf⟩ := Option.bind_eq_some_iff.mp hf
      refine GX3_178 b11 dX3_run_123 rfl ?_
      refine w_iconst dX3_run_126 (v := 0) (by decide) ?_
      refine w_aload_n dX3_run_127 rfl rfl ?_
      obtain ⟨a12, b13, hf⟩ := Option.bind_eq_some_iff.mp hf
      refine GX3_45 b13 dX3_run_128 rfl ?_
      obtain ⟨x14, b15, hf⟩ := Option.bind_eq_some_iff.mp hf
      refine GX3_274 b15 dX3_run_131 rfl ?_
      obtain ⟨h16, b17, hf⟩ := Option.bind_eq_some_iff.mp hf
      refine x_qI b17 dX3_run_134 ?_
      refine w_aload_n dX3_run_135 rfl rfl ?_
      obtain ⟨a18, b19, hf⟩ := Option.bind_eq_some_iff.mp hf
      refine GX3_178 b19 dX3_run_136 rfl ?_
      refine w_iconst dX3_run_139 (v := 1) (by decide) ?_
      refine w_aload_n dX3_run_140 rfl rfl ?_
      obtain ⟨a20, b21, hf⟩ := Option.bind_eq_some_iff.mp hf
      refine GX3_119 b21 dX3_run_141 rfl ?_
      obtain ⟨x22, b23, hf⟩ := Option.bind_eq_some_iff.mp hf
      refine GX3_277 b23 dX3_run_144 rfl ?_
      obtain ⟨h24, b25, hf⟩ := Option.bind_eq_some_iff.mp hf
      refine x_qI b25 dX3_run_147 ?_
      refine w_iload_n dX3_run_148 rfl rfl ?_
      cases hf
      exact w_iret dX3_run_149 rfl rfl rfl
    · replace hf := (if_neg (show ¬ (x3 ≤ 0) from c5)).symm.trans hf
      refine w_aload_n dX3_run_104 rfl rfl ?_
      obtain ⟨a26, b27, hf⟩ := Option.bind_eq_some_iff.mp hf
      refine GX3_53 b27 dX3_run_105 rfl ?_
      obtain ⟨_, b28, hf⟩ := Option.bind_eq_some_iff.mp hf
      refine x_cnV hf (e_stV (Yc := YX9_close) (ci := 8) (av := []) (st := []) dX3_run_108 q3871 mX9_close rfl (k_ok_some b28).1 (k_ok_some b28).2) mX9_close.2.2.1 mX9_close.2.2.2.2.1 (Nat.le_of_ble_eq_true rfl) (Nat.le_of_ble_eq_true rfl) (fun q hq => pX9_close (by omega) hq) (fun q29 hf => ?_)
      refine w_goto 94 dX3_run_111 (by decide) ?_
      exact (ih _ _ _ _ hf).to ⟨rfl, rfl, trivial⟩
def fX3_run_b71 (N : Nat) (rE : Nat → Int32 → eH → Option ((Unit ⊕ Nat) × eH)) (rN : Nat → eH → Option ((Int32 ⊕ Nat) × eH)) (l0 : Nat) (s0 : Nat) (h : eH) : Option (Int32 × eH) :=
  (g_A 2 h l0 0).bind fun a1 =>
  (g_I 3 h a1 0).bind fun x3 =>
  (g_A 2 h l0 5).bind fun a5 =>
  (g_A 7 h a5 5).bind fun a7 =>
  (g_I 10 h a7 9).bind fun x9 =>
  fX3_run_b94 N rE rN N l0 (((100000 : Int32) * x3) + x9) h
theorem pX3_run_b71 {w : eW} {d : Nat} {dr : Nat} (hd : dr + 25 ≤ d + 1) (hdr : 12 ≤ dr) {N : Nat} {rE : Nat → Int32 → eH → Option ((Unit ⊕ Nat) × eH)} {rN : Nat → eH → Option ((Int32 ⊕ Nat) × eH)} (hrE : ∀ a t0 h q, rE a t0 h = some q → wm w dr YX8_expand [.ref a, .int t0] h (e_is (e_rt c_V q))) (hrN : ∀ a h q, rN a h = some q → wm w dr YX8_number [.ref a] h (e_is (e_rt c_I q))) {l0 : Nat} {s0 : Nat} {h : eH} {q} (hf : fX3_run_b71 N rE rN l0 s0 h = some q) : wp w (d + 1) YX3_run 71 [some (.ref l0), none, none, none] [.ref s0] h (e_is (e_rn c_I q)) := by
  unfold fX3_run_b71 at hf
  refine w_astore_n dX3_run_71 rfl (by decide) (ls' := [some (.ref l0), none, none, some (.ref s0)]) rfl ?_
  refine w_ldc dX3_run_72 q4067 ?_
  refine w_aload_n dX3_run_74 rfl rfl ?_
  obtain ⟨a1, b2, hf⟩ := Option.bind_eq_some_iff.mp hf
  refine GX3_14 b2 dX3_run_75 rfl ?_
  obtain ⟨x3, b4, hf⟩ := Option.bind_eq_some_iff.mp hf
  refine GX3_252 b4 dX3_run_78 rfl ?_
  refine w_imul dX3_run_81 ?_
  refine w_aload_n dX3_run_82 rfl rfl ?_
  obtain ⟨a5, b6, hf⟩ := Option.bind_eq_some_iff.mp hf
  refine GX3_45 b6 dX3_run_83 rfl ?_
  obtain ⟨a7, b8, hf⟩ := Option.bind_eq_some_iff.mp hf
  refine GX3_255 b8 dX3_run_86 rfl ?_
  obtain ⟨x9, b10, hf⟩ := Option.bind_eq_some_iff.mp hf
  refine GX3_259 b10 dX3_run_89 rfl ?_
  refine w_iadd dX3_run_92 ?_
  refine w_istore_n dX3_run_93 rfl (by decide) (ls' := [some (.ref l0), none, some (.int (((100000 : Int32) * x3) + x9)), some (.ref s0)]) rfl ?_
  exact (pX3_run_b94 hd hdr hrE hrN N _ _ _ _ hf).to ⟨rfl, rfl, trivial⟩
def fX3_run_b64 (N : Nat) (rE : Nat → Int32 → eH → Option ((Unit ⊕ Nat) × eH)) (rN : Nat → eH → Option ((Int32 ⊕ Nat) × eH)) (l0 : Nat) (l2 : Int32) (h : eH) : Option (Int32 × eH) :=
  (k_ok 2 h l0).bind fun _ =>
  t_C 50 (fX3_finish N l0 h) (kt := fun a4 h5 =>
    fX3_run_b71 N rE rN l0 a4 h5
    ) (k := fun x2 h3 =>
  fX3_run_b94 N rE rN N l0 l2 h3
  )
theorem pX3_run_b64 {w : eW} {d : Nat} {dr : Nat} (hd : dr + 25 ≤ d + 1) (hdr : 12 ≤ dr) {N : Nat} {rE : Nat → Int32 → eH → Option ((Unit ⊕ Nat) × eH)} {rN : Nat → eH → Option ((Int32 ⊕ Nat) × eH)} (hrE : ∀ a t0 h q, rE a t0 h = some q → wm w dr YX8_expand [.ref a, .int t0] h (e_is (e_rt c_V q))) (hrN : ∀ a h q, rN a h = some q → wm w dr YX8_number [.ref a] h (e_is (e_rt c_I q))) {l0 : Nat} {l2 : Int32} {h : eH} {q} (hf : fX3_run_b64 N rE rN l0 l2 h = some q) : wp w (d + 1) YX3_run 64 [some (.ref l0), none, some (.int l2), none] [] h (e_is (e_rn c_I q)) := by
  unfold fX3_run_b64 at hf
  refine w_aload_n dX3_run_64 rfl rfl ?_
  obtain ⟨_, b1, hf⟩ := Option.bind_eq_some_iff.mp hf
  refine x_ccV hf (e_stV (Yc := YX3_finish) (ci := 2) (av := []) (st := []) dX3_run_65 q4063 mX3_finish rfl (k_ok_some b1).1 (k_ok_some b1).2) mX3_finish.2.2.1 mX3_finish.2.2.2.2.1 (Nat.le_of_ble_eq_true rfl) (Nat.le_of_ble_eq_true rfl) rfl (by decide) (by decide) (Nat.le_of_ble_eq_true rfl) (Nat.le_of_ble_eq_true rfl) q2411 (fun q hq => pX3_finish (by omega) hq) (fun a4 h5 hf => ?_) (fun x2 h3 hf => ?_)
  · exact (pX3_run_b71 hd hdr hrE hrN hf).to ⟨rfl, trivial⟩
  refine w_goto 94 dX3_run_68 (by decide) ?_
  exact (pX3_run_b94 hd hdr hrE hrN N _ _ _ _ hf).to ⟨rfl, rfl, trivial⟩
def fX3_run_b22 (N : Nat) (rE : Nat → Int32 → eH → Option ((Unit ⊕ Nat) × eH)) (rN : Nat → eH → Option ((Int32 ⊕ Nat) × eH)) : Nat → Nat → Int32 → Int32 → eH → Option (Int32 × eH)
  | 0, _, _, _, _ => none
  | n + 1, l0, l2, l3, h =>
    if l3 = (-1 : Int32) then
      fX3_run_b64 N rE rN l0 l2 h
    else
      (g_I 2 h l0 35).bind fun x2 =>
      if ¬ x2 = 0 then
        fX3_run_b64 N rE rN l0 l2 h
      else
        (g_A 2 h l0 5).bind fun a5 =>
        (k_ok 7 h a5).bind fun _ =>
        t_C 50 (fX8_tick a5 h) (kt := fun a10 h11 =>
          fX3_run_b71 N rE rN l0 a10 h11
          ) (k := fun x8 h9 =>
        (k_ok 2 h9 l0).bind fun _ =>
        t_C 50 (fX3_act N rE rN l0 l3 h9) (kt := fun a15 h16 =>
          fX3_run_b71 N rE rN l0 a15 h16
          ) (k := fun x13 h14 =>
        (g_I 2 h14 l0 35).bind fun x17 =>
        if ¬ x17 = 0 then
          fX3_run_b22 N rE rN n l0 l2 l3 h14
        else
          (g_A 2 h14 l0 5).bind fun a20 =>
          (k_ok 7 h14 a20).bind fun _ =>
          t_C 50 (fX8_getExpanded N rE a20 h14) (kt := fun a25 h26 =>
            fX3_run_b71 N rE rN l0 a25 h26
            ) (k := fun x23 h24 =>
          fX3_run_b22 N rE rN n l0 l2 x23 h24
          )
        )
        )
theorem pX3_run_b22 {w : eW} {d : Nat} {dr : Nat} (hd : dr + 25 ≤ d + 1) (hdr : 12 ≤ dr) {N : Nat} {rE : Nat → Int32 → eH → Option ((Unit ⊕ Nat) × eH)} {rN : Nat → eH → Option ((Int32 ⊕ Nat) × eH)} (hrE : ∀ a t0 h q, rE a t0 h = some q → wm w dr YX8_expand [.ref a, .int t0] h (e_is (e_rt c_V q))) (hrN : ∀ a h q, rN a h = some q → wm w dr YX8_number [.ref a] h (e_is (e_rt c_I q))) : ∀ (n : Nat) l0 l2 l3 h q, fX3_run_b22 N rE rN n l0 l2 l3 h = some q → wp w (d + 1) YX3_run 22 [some (.ref l0), none, some (.int l2), some (.int l3)] [] h (e_is (e_rn c_I q)) := by
  intro n
  induction n with
  | zero => intro l0 l2 l3 h q hf; simp [fX3_run_b22] at hf
  | succ n ih =>
    intro l0 l2 l3 h q hf
    rw [fX3_run_b22] at hf
    refine w_iload_n dX3_run_22 rfl rfl ?_
    refine w_iconst dX3_run_23 (v := -1) (by decide) ?_
    refine w_icmp_eq 64 dX3_run_24 (by decide) (fun c1 => ?_) (fun c1 => ?_)
    · replace hf := (if_pos (show l3 = (-1 : Int32) from c1)).symm.trans hf
      exact (pX3_run_b64 hd hdr hrE hrN hf).to ⟨rfl, rfl, trivial⟩
    · replace hf := (if_neg (show ¬ (l3 = (-1 : Int32)) from c1)).symm.trans hf
      refine w_aload_n dX3_run_27 rfl rfl ?_
      obtain ⟨x2, b3, hf⟩ := Option.bind_eq_some_iff.mp hf
      refine GX3_222 b3 dX3_run_28 rfl ?_
      refine w_if_ne 64 dX3_run_31 (by decide) (fun c4 => ?_) (fun c4 => ?_)
      · replace hf := (if_pos (show ¬ x2 = 0 from c4)).symm.trans hf
        exact (pX3_run_b64 hd hdr hrE hrN hf).to ⟨rfl, rfl, trivial⟩
      · replace hf := (if_neg (show ¬ (¬ x2 = 0) from (fun z => z c4))).symm.trans hf
        refine w_aload_n dX3_run_34 rfl rfl ?_
        obtain ⟨a5, b6, hf⟩ := Option.bind_eq_some_iff.mp hf
        refine GX3_45 b6 dX3_run_35 rfl ?_
        obtain ⟨_, b7, hf⟩ := Option.bind_eq_some_iff.mp hf
        refine x_ccV hf (e_stVN (Yc := YX8_tick) (ci := 7) (av := []) (st := []) dX3_run_38 q2784 mX8_tick rfl (k_ok_some b7).1 (k_ok_some b7).2) mX8_tick.2.2.1 mX8_tick.2.2.2.2.1 (Nat.le_of_ble_eq_true rfl) (Nat.le_of_ble_eq_true rfl) rfl (by decide) (by decide) (Nat.le_of_ble_eq_true rfl) (Nat.le_of_ble_eq_true rfl) q2411 (fun q hq => pX8_tick (by omega) hq) (fun a10 h11 hf => ?_) (fun x8 h9 hf => ?_)
        · exact (pX3_run_b71 hd hdr hrE hrN hf).to ⟨rfl, trivial⟩
        refine w_aload_n dX3_run_41 rfl rfl ?_
        refine w_iload_n dX3_run_42 rfl rfl ?_
        obtain ⟨_, b12, hf⟩ := Option.bind_eq_some_iff.mp hf
        refine x_ccV hf (e_stV (Yc := YX3_act) (ci := 2) (av := [.int l3]) (st := []) dX3_run_43 q2785 mX3_act rfl (k_ok_some b12).1 (k_ok_some b12).2) mX3_act.2.2.1 mX3_act.2.2.2.2.1 (Nat.le_of_ble_eq_true rfl) (Nat.le_of_ble_eq_true rfl) rfl (by decide) (by decide) (Nat.le_of_ble_eq_true rfl) (Nat.le_of_ble_eq_true rfl) q2411 (fun q hq => pX3_act (by omega) hdr hrE hrN hq) (fun a15 h16 hf => ?_) (fun x13 h14 hf => ?_)
        · exact (pX3_run_b71 hd hdr hrE hrN hf).to ⟨rfl, trivial⟩
        refine w_aload_n dX3_run_46 rfl rfl ?_
        obtain ⟨x17, b18, hf⟩ := Option.bind_eq_some_iff.mp hf
        refine GX3_222 b18 dX3_run_47 rfl ?_
        refine w_if_ne 22 dX3_run_50 (by decide) (fun c19 => ?_) (fun c19 => ?_)
        · replace hf := (if_pos (show ¬ x17 = 0 from c19)).symm.trans hf
          exact (ih _ _ _ _ _ hf).to ⟨rfl, rfl, rfl, trivial⟩
        · replace hf := (if_neg (show ¬ (¬ x17 = 0) from (fun z => z c19))).symm.trans hf
          refine w_aload_n dX3_run_53 rfl rfl ?_
          obtain ⟨a20, b21, hf⟩ := Option.bind_eq_some_iff.mp hf
          refine GX3_45 b21 dX3_run_54 rfl ?_
          obtain ⟨_, b22, hf⟩ := Option.bind_eq_some_iff.mp hf
          refine x_ccI hf (e_stVN (Yc := YX8_getExpanded) (ci := 7) (av := []) (st := []) dX3_run_57 q2413 mX8_getExpanded rfl (k_ok_some b22).1 (k_ok_some b22).2) mX8_getExpanded.2.2.1 mX8_getExpanded.2.2.2.2.1 (Nat.le_of_ble_eq_true rfl) (Nat.le_of_ble_eq_true rfl) rfl (by decide) (by decide) (Nat.le_of_ble_eq_true rfl) (Nat.le_of_ble_eq_true rfl) q2411 (fun q hq => pX8_getExpanded (by omega) hdr hrE hq) (fun a25 h26 hf => ?_) (fun x23 h24 hf => ?_)
          · exact (pX3_run_b71 hd hdr hrE hrN hf).to ⟨rfl, trivial⟩
          refine w_istore_n dX3_run_60 rfl (by decide) (ls' := [some (.ref l0), none, some (.int l2), some (.int x23)]) rfl ?_
          refine w_goto 22 dX3_run_61 (by decide) ?_
          exact (ih _ _ _ _ _ hf).to ⟨rfl, rfl, rfl, trivial⟩
def fX3_run (N : Nat) (rE : Nat → Int32 → eH → Option ((Unit ⊕ Nat) × eH)) (rN : Nat → eH → Option ((Int32 ⊕ Nat) × eH)) (this : Nat) (p0 : Int32) (h : eH) : Option (Int32 × eH) :=
  (k_ok 2 h this).bind fun _ =>
  (fX3_begin N this h).bind fun q2 =>
  (g_A 2 q2.2 this 5).bind fun a3 =>
  (p_V 7 q2.2 a3 9 (.int p0)).bind fun h5 =>
  (g_A 2 h5 this 5).bind fun a7 =>
  (k_ok 7 h5 a7).bind fun _ =>
  t_C 50 (fX8_getExpanded N rE a7 h5) (kt := fun a12 h13 =>
    fX3_run_b71 N rE rN this a12 h13
    ) (k := fun x10 h11 =>
  fX3_run_b22 N rE rN N this (0 : Int32) x10 h11
  )
theorem pX3_run {w : eW} {d : Nat} {dr : Nat} (hd : dr + 25 ≤ d) (hdr : 12 ≤ dr) {N : Nat} {rE : Nat → Int32 → eH → Option ((Unit ⊕ Nat) × eH)} {rN : Nat → eH → Option ((Int32 ⊕ Nat) × eH)} (hrE : ∀ a t0 h q, rE a t0 h = some q → wm w dr YX8_expand [.ref a, .int t0] h (e_is (e_rt c_V q))) (hrN : ∀ a h q, rN a h = some q → wm w dr YX8_number [.ref a] h (e_is (e_rt c_I q))) {this : Nat} {p0 : Int32} {h : eH} {q} (hf : fX3_run N rE rN this p0 h = some q) : wm w d YX3_run [.ref this, .int p0] h (e_is (e_rn c_I q)) := by
  obtain ⟨d, rfl⟩ : ∃ e, d = e + 1 := ⟨d - 1, by omega⟩
  show wp w (d + 1) YX3_run 0 [some (.ref this), some (.int p0), none, none] [] h _
  unfold fX3_run at hf
  refine w_aload_n dX3_run_0 rfl rfl ?_
  obtain ⟨_, b1, hf⟩ := Option.bind_eq_some_iff.mp hf
  refine x_cnV hf (e_stV (Yc := YX3_begin) (ci := 2) (av := []) (st := []) dX3_run_1 q2412 mX3_begin rfl (k_ok_some b1).1 (k_ok_some b1).2) mX3_begin.2.2.1 mX3_begin.2.2.2.2.1 (Nat.le_of_ble_eq_true rfl) (Nat.le_of_ble_eq_true rfl) (fun q hq => pX3_begin (by omega) hq) (fun q2 hf => ?_)
  refine w_aload_n dX3_run_4 rfl rfl ?_
  obtain ⟨a3, b4, hf⟩ := Option.bind_eq_some_iff.mp hf
  refine GX3_45 b4 dX3_run_5 rfl ?_
  refine w_iload_n dX3_run_8 rfl rfl ?_
  obtain ⟨h5, b6, hf⟩ := Option.bind_eq_some_iff.mp hf
  refine SX3_232 b6 dX3_run_9 rfl ?_
  refine w_iconst dX3_run_12 (v := 0) (by decide) ?_
  refine w_istore_n dX3_run_13 rfl (by decide) (ls' := [some (.ref this), some (.int p0), some (.int (0 : Int32)), none]) rfl ?_
  refine w_aload_n dX3_run_14 rfl rfl ?_
  obtain ⟨a7, b8, hf⟩ := Option.bind_eq_some_iff.mp hf
  refine GX3_45 b8 dX3_run_15 rfl ?_
  obtain ⟨_, b9, hf⟩ := Option.bind_eq_some_iff.mp hf
  refine x_ccI hf (e_stVN (Yc := YX8_getExpanded) (ci := 7) (av := []) (st := []) dX3_run_18 q2413 mX8_getExpanded rfl (k_ok_some b9).1 (k_ok_some b9).2) mX8_getExpanded.2.2.1 mX8_getExpanded.2.2.2.2.1 (Nat.le_of_ble_eq_true rfl) (Nat.le_of_ble_eq_true rfl) rfl (by decide) (by decide) (Nat.le_of_ble_eq_true rfl) (Nat.le_of_ble_eq_true rfl) q2411 (fun q hq => pX8_getExpanded (by omega) hdr hrE hq) (fun a12 h13 hf => ?_) (fun x10 h11 hf => ?_)
  · exact (pX3_run_b71 hd hdr hrE hrN hf).to ⟨rfl, trivial⟩
  refine w_istore_n dX3_run_21 rfl (by decide) (ls' := [some (.ref this), some (.int p0), some (.int (0 : Int32)), some (.int x10)]) rfl ?_
  exact (pX3_run_b22 hd hdr hrE hrN N _ _ _ _ _ hf).to ⟨rfl, rfl, rfl, trivial⟩
abbrev cX1_take : ByteArray := prog_1_method_13_code
def yX1_take : MethodName := ⟨RX1, "take", "(II)I"⟩
def YX1_take : eY := (yX1_take, cX1_take, 3, (Option.some FieldType.int), [])
theorem mX1_take : e_mv YX1_take RX1 2 := ⟨q2197, qs15, q2198, by decide, by decide +kernel, (e_sig (by decide +kernel))⟩
theorem dX1_take_0 : decode cX1_take 0 = .ok (.iload_n 1, 1) := dc_27 (by decide +kernel)
theorem dX1_take_1 : decode cX1_take 1 = .ok (.bipush 16, 2) := dc_16 (a := 16) (v := 16) (by decide +kernel)
theorem dX1_take_3 : decode cX1_take 3 = .ok (.if_icmp .ge 46, 3) := dc_162 (a := 0) (b := 46) (v := 46) (by decide +kernel)
theorem dX1_take_6 : decode cX1_take 6 = .ok (.aload_n 0, 1) := dc_42 (by decide +kernel)
theorem dX1_take_7 : decode cX1_take 7 = .ok (.getfield 38, 3) := dc_180 (a := 0) (b := 38) (n := 38) (by decide +kernel)
theorem dX1_take_10 : decode cX1_take 10 = .ok (.aload_n 0, 1) := dc_42 (by decide +kernel)
theorem dX1_take_11 : decode cX1_take 11 = .ok (.getfield 31, 3) := dc_180 (a := 0) (b := 31) (n := 31) (by decide +kernel)
theorem dX1_take_14 : decode cX1_take 14 = .ok (.iload_n 2, 1) := dc_28 (by decide +kernel)
theorem dX1_take_15 : decode cX1_take 15 = .ok (.invokevirtual 71, 3) := dc_182 (a := 0) (b := 71) (n := 71) (by decide +kernel)
theorem dX1_take_18 : decode cX1_take 18 = .ok (.ifCond .ne 15, 3) := dc_154 (a := 0) (b := 15) (v := 15) (by decide +kernel)
theorem dX1_take_21 : decode cX1_take 21 = .ok (.iload_n 2, 1) := dc_28 (by decide +kernel)
theorem dX1_take_22 : decode cX1_take 22 = .ok (.bipush 24, 2) := dc_16 (a := 24) (v := 24) (by decide +kernel)
theorem dX1_take_24 : decode cX1_take 24 = .ok (.if_icmp .ge 7, 3) := dc_162 (a := 0) (b := 7) (v := 7) (by decide +kernel)
theorem dX1_take_27 : decode cX1_take 27 = .ok (.iconst 1, 1) := dc_4 (by decide +kernel)
theorem dX1_take_28 : decode cX1_take 28 = .ok (.goto 4, 3) := dc_167 (a := 0) (b := 4) (v := 4) (by decide +kernel)
theorem dX1_take_31 : decode cX1_take 31 = .ok (.iconst 4, 1) := dc_7 (by decide +kernel)
theorem dX1_take_32 : decode cX1_take 32 = .ok (.ireturn, 1) := dc_172 (by decide +kernel)
theorem dX1_take_33 : decode cX1_take 33 = .ok (.aload_n 0, 1) := dc_42 (by decide +kernel)
theorem dX1_take_34 : decode cX1_take 34 = .ok (.getfield 45, 3) := dc_180 (a := 0) (b := 45) (n := 45) (by decide +kernel)
theorem dX1_take_37 : decode cX1_take 37 = .ok (.getfield 75, 3) := dc_180 (a := 0) (b := 75) (n := 75) (by decide +kernel)
theorem dX1_take_40 : decode cX1_take 40 = .ok (.iload_n 1, 1) := dc_27 (by decide +kernel)
theorem dX1_take_41 : decode cX1_take 41 = .ok (.aload_n 0, 1) := dc_42 (by decide +kernel)
theorem dX1_take_42 : decode cX1_take 42 = .ok (.getfield 38, 3) := dc_180 (a := 0) (b := 38) (n := 38) (by decide +kernel)
theorem dX1_take_45 : decode cX1_take 45 = .ok (.invokevirtual 79, 3) := dc_182 (a := 0) (b := 79) (n := 79) (by decide +kernel)
theorem dX1_take_48 : decode cX1_take 48 = .ok (.ireturn, 1) := dc_172 (by decide +kernel)
theorem dX1_take_49 : decode cX1_take 49 = .ok (.iload_n 1, 1) := dc_27 (by decide +kernel)
theorem dX1_take_50 : decode cX1_take 50 = .ok (.bipush 18, 2) := dc_16 (a := 18) (v := 18) (by decide +kernel)
theorem dX1_take_52 : decode cX1_take 52 = .ok (.if_icmp .ge 30, 3) := dc_162 (a := 0) (b := 30) (v := 30) (by decide +kernel)
theorem dX1_take_55 : decode cX1_take 55 = .ok (.aload_n 0, 1) := dc_42 (by decide +kernel)
theorem dX1_take_56 : decode cX1_take 56 = .ok (.getfield 45, 3) := dc_180 (a := 0) (b := 45) (n := 45) (by decide +kernel)
theorem dX1_take_59 : decode cX1_take 59 = .ok (.getfield 85, 3) := dc_180 (a := 0) (b := 85) (n := 85) (by decide +kernel)
theorem dX1_take_62 : decode cX1_take 62 = .ok (.aload_n 0, 1) := dc_42 (by decide +kernel)
theorem dX1_take_63 : decode cX1_take 63 = .ok (.getfield 31, 3) := dc_180 (a := 0) (b := 31) (n := 31) (by decide +kernel)
theorem dX1_take_66 : decode cX1_take 66 = .ok (.iload_n 2, 1) := dc_28 (by decide +kernel)
theorem dX1_take_67 : decode cX1_take 67 = .ok (.iload_n 1, 1) := dc_27 (by decide +kernel)
theorem dX1_take_68 : decode cX1_take 68 = .ok (.bipush 17, 2) := dc_16 (a := 17) (v := 17) (by decide +kernel)
theorem dX1_take_70 : decode cX1_take 70 = .ok (.if_icmp .ne 7, 3) := dc_160 (a := 0) (b := 7) (v := 7) (by decide +kernel)
theorem dX1_take_73 : decode cX1_take 73 = .ok (.iconst 1, 1) := dc_4 (by decide +kernel)
theorem dX1_take_74 : decode cX1_take 74 = .ok (.goto 4, 3) := dc_167 (a := 0) (b := 4) (v := 4) (by decide +kernel)
theorem dX1_take_77 : decode cX1_take 77 = .ok (.iconst 0, 1) := dc_3 (by decide +kernel)
theorem dX1_take_78 : decode cX1_take 78 = .ok (.invokevirtual 89, 3) := dc_182 (a := 0) (b := 89) (n := 89) (by decide +kernel)
theorem dX1_take_81 : decode cX1_take 81 = .ok (.ireturn, 1) := dc_172 (by decide +kernel)
theorem dX1_take_82 : decode cX1_take 82 = .ok (.aload_n 0, 1) := dc_42 (by decide +kernel)
theorem dX1_take_83 : decode cX1_take 83 = .ok (.getfield 31, 3) := dc_180 (a := 0) (b := 31) (n := 31) (by decide +kernel)
theorem dX1_take_86 : decode cX1_take 86 = .ok (.iconst 0, 1) := dc_3 (by decide +kernel)
theorem dX1_take_87 : decode cX1_take 87 = .ok (.aload_n 0, 1) := dc_42 (by decide +kernel)
theorem dX1_take_88 : decode cX1_take 88 = .ok (.getfield 45, 3) := dc_180 (a := 0) (b := 45) (n := 45) (by decide +kernel)
theorem dX1_take_91 : decode cX1_take 91 = .ok (.getfield 95, 3) := dc_180 (a := 0) (b := 95) (n := 95) (by decide +kernel)
theorem dX1_take_94 : decode cX1_take 94 = .ok (.getfield 99, 3) := dc_180 (a := 0) (b := 99) (n := 99) (by decide +kernel)
theorem dX1_take_97 : decode cX1_take 97 = .ok (.getfield 105, 3) := dc_180 (a := 0) (b := 105) (n := 105) (by decide +kernel)
theorem dX1_take_100 : decode cX1_take 100 = .ok (.iconst 0, 1) := dc_3 (by decide +kernel)
theorem dX1_take_101 : decode cX1_take 101 = .ok (.iload_n 2, 1) := dc_28 (by decide +kernel)
theorem dX1_take_102 : decode cX1_take 102 = .ok (.invokestatic 10, 3) := dc_184 (a := 0) (b := 10) (n := 10) (by decide +kernel)
theorem dX1_take_105 : decode cX1_take 105 = .ok (.aload_n 0, 1) := dc_42 (by decide +kernel)
theorem dX1_take_106 : decode cX1_take 106 = .ok (.getfield 45, 3) := dc_180 (a := 0) (b := 45) (n := 45) (by decide +kernel)
theorem dX1_take_109 : decode cX1_take 109 = .ok (.getfield 95, 3) := dc_180 (a := 0) (b := 95) (n := 95) (by decide +kernel)
theorem dX1_take_112 : decode cX1_take 112 = .ok (.getfield 99, 3) := dc_180 (a := 0) (b := 99) (n := 99) (by decide +kernel)
theorem dX1_take_115 : decode cX1_take 115 = .ok (.iload_n 2, 1) := dc_28 (by decide +kernel)
theorem dX1_take_116 : decode cX1_take 116 = .ok (.putfield 110, 3) := dc_181 (a := 0) (b := 110) (n := 110) (by decide +kernel)
theorem dX1_take_119 : decode cX1_take 119 = .ok (.aload_n 0, 1) := dc_42 (by decide +kernel)
theorem dX1_take_120 : decode cX1_take 120 = .ok (.getfield 45, 3) := dc_180 (a := 0) (b := 45) (n := 45) (by decide +kernel)
theorem dX1_take_123 : decode cX1_take 123 = .ok (.aload_n 0, 1) := dc_42 (by decide +kernel)
theorem dX1_take_124 : decode cX1_take 124 = .ok (.getfield 50, 3) := dc_180 (a := 0) (b := 50) (n := 50) (by decide +kernel)
theorem dX1_take_127 : decode cX1_take 127 = .ok (.invokevirtual 113, 3) := dc_182 (a := 0) (b := 113) (n := 113) (by decide +kernel)
theorem dX1_take_130 : decode cX1_take 130 = .ok (.ireturn, 1) := dc_172 (by decide +kernel)
theorem GX1_105 {w : eW} {d : Nat} {Y : eY} {pc : Nat} {ls : eL} {st : List Value} {h : eH} {Q : eO → eH → Prop} {a : Nat} {x : Nat} (hf : g_A 10 h a 3 = some x) (hd : decode Y.2.1 pc = .ok (.getfield 105, 3)) (hY : Y.1.cls = RX1) (kk : wp w d Y (pc + 3) ls (.ref x :: st) h Q) : wp w d Y pc ls (.ref a :: st) h Q := x_gAN (ci := 10) (k := 3) hf hd rfl (by decide) (by rw [hY]; exact q741) kk
theorem GX1_31 {w : eW} {d : Nat} {Y : eY} {pc : Nat} {ls : eL} {st : List Value} {h : eH} {Q : eO → eH → Prop} {a : Nat} {x : Nat} (hf : g_A 0 h a 0 = some x) (hd : decode Y.2.1 pc = .ok (.getfield 31, 3)) (hY : Y.1.cls = RX1) (kk : wp w d Y (pc + 3) ls (.ref x :: st) h Q) : wp w d Y pc ls (.ref a :: st) h Q := x_gA (ci := 0) (k := 0) hf hd rfl (by decide) (by rw [hY]; exact q2054) kk
theorem GX1_38 {w : eW} {d : Nat} {Y : eY} {pc : Nat} {ls : eL} {st : List Value} {h : eH} {Q : eO → eH → Prop} {a : Nat} {x : Nat} (hf : g_A 0 h a 2 = some x) (hd : decode Y.2.1 pc = .ok (.getfield 38, 3)) (hY : Y.1.cls = RX1) (kk : wp w d Y (pc + 3) ls (.ref x :: st) h Q) : wp w d Y pc ls (.ref a :: st) h Q := x_gA (ci := 0) (k := 2) hf hd rfl (by decide) (by rw [hY]; exact q2056) kk
theorem GX1_50 {w : eW} {d : Nat} {Y : eY} {pc : Nat} {ls : eL} {st : List Value} {h : eH} {Q : eO → eH → Prop} {a : Nat} {x : Int32} (hf : g_I 0 h a 4 = some x) (hd : decode Y.2.1 pc = .ok (.getfield 50, 3)) (hY : Y.1.cls = RX1) (kk : wp w d Y (pc + 3) ls (.int x :: st) h Q) : wp w d Y pc ls (.ref a :: st) h Q := x_gI (ci := 0) (k := 4) hf hd rfl (by decide) (by rw [hY]; exact q2058) kk
theorem GX1_75 {w : eW} {d : Nat} {Y : eY} {pc : Nat} {ls : eL} {st : List Value} {h : eH} {Q : eO → eH → Prop} {a : Nat} {x : Nat} (hf : g_A 2 h a 1 = some x) (hd : decode Y.2.1 pc = .ok (.getfield 75, 3)) (hY : Y.1.cls = RX1) (kk : wp w d Y (pc + 3) ls (.ref x :: st) h Q) : wp w d Y pc ls (.ref a :: st) h Q := x_gAN (ci := 2) (k := 1) hf hd rfl (by decide) (by rw [hY]; exact q1789) kk
theorem GX1_95 {w : eW} {d : Nat} {Y : eY} {pc : Nat} {ls : eL} {st : List Value} {h : eH} {Q : eO → eH → Prop} {a : Nat} {x : Nat} (hf : g_A 2 h a 5 = some x) (hd : decode Y.2.1 pc = .ok (.getfield 95, 3)) (hY : Y.1.cls = RX1) (kk : wp w d Y (pc + 3) ls (.ref x :: st) h Q) : wp w d Y pc ls (.ref a :: st) h Q := x_gAN (ci := 2) (k := 5) hf hd rfl (by decide) (by rw [hY]; exact q1794) kk
theorem GX1_99 {w : eW} {d : Nat} {Y : eY} {pc : Nat} {ls : eL} {st : List Value} {h : eH} {Q : eO → eH → Prop} {a : Nat} {x : Nat} (hf : g_A 7 h a 5 = some x) (hd : decode Y.2.1 pc = .ok (.getfield 99, 3)) (hY : Y.1.cls = RX1) (kk : wp w d Y (pc + 3) ls (.ref x :: st) h Q) : wp w d Y pc ls (.ref a :: st) h Q := x_gAN (ci := 7) (k := 5) hf hd rfl (by decide) (by rw [hY]; exact q839) kk
theorem SX1_110 {w : eW} {d : Nat} {Y : eY} {pc : Nat} {ls : eL} {st : List Value} {h : eH} {Q : eO → eH → Prop} {a : Nat} {h' : eH} {x : Int32} (hf : p_V 10 h a 4 (.int x) = some h') (hd : decode Y.2.1 pc = .ok (.putfield 110, 3)) (hY : Y.1.cls = RX1) (kk : wp w d Y (pc + 3) ls st h' Q) : wp w d Y pc ls (.int x :: .ref a :: st) h Q := x_pIN (ci := 10) (k := 4) hf hd rfl (by decide) (by rw [hY]; exact q743) rfl rfl kk
def fX1_take_b32 (N : Nat) (rE : Nat → Int32 → eH → Option ((Unit ⊕ Nat) × eH)) (rN : Nat → eH → Option ((Int32 ⊕ Nat) × eH)) (s0 : Int32) (h : eH) : Option (Int32 × eH) :=
  some (s0, h)
theorem pX1_take_b32 {w : eW} {d : Nat} {dr : Nat} (hd : dr + 26 ≤ d + 1) (hdr : 12 ≤ dr) {N : Nat} {rE : Nat → Int32 → eH → Option ((Unit ⊕ Nat) × eH)} {rN : Nat → eH → Option ((Int32 ⊕ Nat) × eH)} (hrE : ∀ a t0 h q, rE a t0 h = some q → wm w dr YX8_expand [.ref a, .int t0] h (e_is (e_rt c_V q))) (hrN : ∀ a h q, rN a h = some q → wm w dr YX8_number [.ref a] h (e_is (e_rt c_I q))) {s0 : Int32} {h : eH} {q} (hf : fX1_take_b32 N rE rN s0 h = some q) : wp w (d + 1) YX1_take 32 [none, none, none] [.int s0] h (e_is (e_rn c_I q)) := by
  unfold fX1_take_b32 at hf
  cases hf
  exact w_iret dX1_take_32 rfl rfl rfl
def fX1_take_b78 (N : Nat) (rE : Nat → Int32 → eH → Option ((Unit ⊕ Nat) × eH)) (rN : Nat → eH → Option ((Int32 ⊕ Nat) × eH)) (s0 : Nat) (s1 : Nat) (s2 : Int32) (s3 : Int32) (h : eH) : Option (Int32 × eH) :=
  (k_ok 13 h s0).bind fun _ =>
  (fX14_read N s0 s1 s2 s3 h).bind fun q2 =>
  some (q2.1, q2.2)
theorem pX1_take_b78 {w : eW} {d : Nat} {dr : Nat} (hd : dr + 26 ≤ d + 1) (hdr : 12 ≤ dr) {N : Nat} {rE : Nat → Int32 → eH → Option ((Unit ⊕ Nat) × eH)} {rN : Nat → eH → Option ((Int32 ⊕ Nat) × eH)} (hrE : ∀ a t0 h q, rE a t0 h = some q → wm w dr YX8_expand [.ref a, .int t0] h (e_is (e_rt c_V q))) (hrN : ∀ a h q, rN a h = some q → wm w dr YX8_number [.ref a] h (e_is (e_rt c_I q))) {s0 : Nat} {s1 : Nat} {s2 : Int32} {s3 : Int32} {h : eH} {q} (hf : fX1_take_b78 N rE rN s0 s1 s2 s3 h = some q) : wp w (d + 1) YX1_take 78 [none, none, none] [.int s3, .int s2, .ref s1, .ref s0] h (e_is (e_rn c_I q)) := by
  unfold fX1_take_b78 at hf
  obtain ⟨_, b1, hf⟩ := Option.bind_eq_some_iff.mp hf
  refine x_cnI hf (e_stV (Yc := YX14_read) (ci := 13) (av := [.ref s1, .int s2, .int s3]) (st := []) dX1_take_78 q2303 mX14_read rfl (k_ok_some b1).1 (k_ok_some b1).2) mX14_read.2.2.1 mX14_read.2.2.2.2.1 (Nat.le_of_ble_eq_true rfl) (Nat.le_of_ble_eq_true rfl) (fun q hq => pX14_read (by omega) hq) (fun q2 hf => ?_)
  cases hf
  exact w_iret dX1_take_81 rfl rfl rfl
def fX1_take (N : Nat) (rE : Nat → Int32 → eH → Option ((Unit ⊕ Nat) × eH)) (rN : Nat → eH → Option ((Int32 ⊕ Nat) × eH)) (this : Nat) (p0 : Int32) (p1 : Int32) (h : eH) : Option (Int32 × eH) :=
  if (16 : Int32) ≤ p0 then
    if (18 : Int32) ≤ p0 then
      (g_A 0 h this 0).bind fun a3 =>
      (g_A 0 h this 3).bind fun a5 =>
      (g_A 2 h a5 5).bind fun a7 =>
      (g_A 7 h a7 5).bind fun a9 =>
      (g_A 10 h a9 3).bind fun a11 =>
      (a_cpy h a3 (0 : Int32) a11 (0 : Int32) p1).bind fun h13 =>
      (g_A 0 h13 this 3).bind fun a15 =>
      (g_A 2 h13 a15 5).bind fun a17 =>
      (g_A 7 h13 a17 5).bind fun a19 =>
      (p_V 10 h13 a19 4 (.int p1)).bind fun h21 =>
      (g_A 0 h21 this 3).bind fun a23 =>
      (g_I 0 h21 this 4).bind fun x25 =>
      (k_ok 2 h21 a23).bind fun _ =>
      (fX3_run N rE rN a23 x25 h21).bind fun q28 =>
      some (q28.1, q28.2)
    else
      (g_A 0 h this 3).bind fun a29 =>
      (g_A 2 h a29 7).bind fun a31 =>
      (g_A 0 h this 0).bind fun a33 =>
      if ¬ p0 = (17 : Int32) then
        fX1_take_b78 N rE rN a31 a33 p1 (0 : Int32) h
      else
        fX1_take_b78 N rE rN a31 a33 p1 (1 : Int32) h
  else
    (g_A 0 h this 2).bind fun a36 =>
    (g_A 0 h this 0).bind fun a38 =>
    (k_ok 1 h a36).bind fun _ =>
    (fX2_take a36 a38 p1 h).bind fun q41 =>
    if ¬ q41.1 = 0 then
      (g_A 0 q41.2 this 3).bind fun a43 =>
      (g_A 2 q41.2 a43 1).bind fun a45 =>
      (g_A 0 q41.2 this 2).bind fun a47 =>
      (k_ok 4 q41.2 a45).bind fun _ =>
      (fX5_load N a45 p0 a47 q41.2).bind fun q50 =>
      some (q50.1, q50.2)
    else
      if (24 : Int32) ≤ p1 then
        fX1_take_b32 N rE rN (4 : Int32) q41.2
      else
        fX1_take_b32 N rE rN (1 : Int32) q41.2
theorem pX1_take {w : eW} {d : Nat} {dr : Nat} (hd : dr + 26 ≤ d) (hdr : 12 ≤ dr) {N : Nat} {rE : Nat → Int32 → eH → Option ((Unit ⊕ Nat) × eH)} {rN : Nat → eH → Option ((Int32 ⊕ Nat) × eH)} (hrE : ∀ a t0 h q, rE a t0 h = some q → wm w dr YX8_expand [.ref a, .int t0] h (e_is (e_rt c_V q))) (hrN : ∀ a h q, rN a h = some q → wm w dr YX8_number [.ref a] h (e_is (e_rt c_I q))) {this : Nat} {p0 : Int32} {p1 : Int32} {h : eH} {q} (hf : fX1_take N rE rN this p0 p1 h = some q) : wm w d YX1_take [.ref this, .int p0, .int p1] h (e_is (e_rn c_I q)) := by
  obtain ⟨d, rfl⟩ : ∃ e, d = e + 1 := ⟨d - 1, by omega⟩
  show wp w (d + 1) YX1_take 0 [some (.ref this), some (.int p0), some (.int p1)] [] h _
  unfold fX1_take at hf
  refine w_iload_n dX1_take_0 rfl rfl ?_
  refine w_bipush dX1_take_1 (v := 16) (by decide) ?_
  refine w_icmp_ge 49 dX1_take_3 (by decide) (fun c1 => ?_) (fun c1 => ?_)
  · replace hf := (if_pos (show (16 : Int32) ≤ p0 from c1)).symm.trans hf
    refine w_iload_n dX1_take_49 rfl rfl ?_
    refine w_bipush dX1_take_50 (v := 18) (by decide) ?_
    refine w_icmp_ge 82 dX1_take_52 (by decide) (fun c2 => ?_) (fun c2 => ?_)
    · replace hf := (if_pos (show (18 : Int32) ≤ p0 from c2)).symm.trans hf
      refine w_aload_n dX1_take_82 rfl rfl ?_
      obtain ⟨a3, b4, hf⟩ := Option.bind_eq_some_iff.mp hf
      refine GX1_31 b4 dX1_take_83 rfl ?_
      refine w_iconst dX1_take_86 (v := 0) (by decide) ?_
      refine w_aload_n dX1_take_87 rfl rfl ?_
      obtain ⟨a5, b6, hf⟩ := Option.bind_eq_some_iff.mp hf
      refine GX1_45 b6 dX1_take_88 rfl ?_
      obtain ⟨a7, b8, hf⟩ := Option.bind_eq_some_iff.mp hf
      refine GX1_95 b8 dX1_take_91 rfl ?_
      obtain ⟨a9, b10, hf⟩ := Option.bind_eq_some_iff.mp hf
      refine GX1_99 b10 dX1_take_94 rfl ?_
      obtain ⟨a11, b12, hf⟩ := Option.bind_eq_some_iff.mp hf
      refine GX1_105 b12 dX1_take_97 rfl ?_
      refine w_iconst dX1_take_100 (v := 0) (by decide) ?_
      refine w_iload_n dX1_take_101 rfl rfl ?_
      obtain ⟨h13, b14, hf⟩ := Option.bind_eq_some_iff.mp hf
      refine x_cpy b14 dX1_take_102 q953 q955 q954 q441 (Nat.le_of_ble_eq_true rfl) ?_
      refine w_aload_n dX1_take_105 rfl rfl ?_
      obtain ⟨a15, b16, hf⟩ := Option.bind_eq_some_iff.mp hf
      refine GX1_45 b16 dX1_take_106 rfl ?_
      obtain ⟨a17, b18, hf⟩ := Option.bind_eq_some_iff.mp hf
      refine GX1_95 b18 dX1_take_109 rfl ?_
      obtain ⟨a19, b20, hf⟩ := Option.bind_eq_some_iff.mp hf
      refine GX1_99 b20 dX1_take_112 rfl ?_
      refine w_iload_n dX1_take_115 rfl rfl ?_
      obtain ⟨h21, b22, hf⟩ := Option.bind_eq_some_iff.mp hf
      refine SX1_110 b22 dX1_take_116 rfl ?_
      refine w_aload_n dX1_take_119 rfl rfl ?_
      obtain ⟨a23, b24, hf⟩ := Option.bind_eq_some_iff.mp hf
      refine GX1_45 b24 dX1_take_120 rfl ?_
      refine w_aload_n dX1_take_123 rfl rfl ?_
      obtain ⟨x25, b26, hf⟩ := Option.bind_eq_some_iff.mp hf
      refine GX1_50 b26 dX1_take_124 rfl ?_
      obtain ⟨_, b27, hf⟩ := Option.bind_eq_some_iff.mp hf
      refine x_cnI hf (e_stV (Yc := YX3_run) (ci := 2) (av := [.int x25]) (st := []) dX1_take_127 q2407 mX3_run rfl (k_ok_some b27).1 (k_ok_some b27).2) mX3_run.2.2.1 mX3_run.2.2.2.2.1 (Nat.le_of_ble_eq_true rfl) (Nat.le_of_ble_eq_true rfl) (fun q hq => pX3_run (by omega) hdr hrE hrN hq) (fun q28 hf => ?_)
      cases hf
      exact w_iret dX1_take_130 rfl rfl rfl
    · replace hf := (if_neg (show ¬ ((18 : Int32) ≤ p0) from c2)).symm.trans hf
      refine w_aload_n dX1_take_55 rfl rfl ?_
      obtain ⟨a29, b30, hf⟩ := Option.bind_eq_some_iff.mp hf
      refine GX1_45 b30 dX1_take_56 rfl ?_
      obtain ⟨a31, b32, hf⟩ := Option.bind_eq_some_iff.mp hf
      refine GX1_85 b32 dX1_take_59 rfl ?_
      refine w_aload_n dX1_take_62 rfl rfl ?_
      obtain ⟨a33, b34, hf⟩ := Option.bind_eq_some_iff.mp hf
      refine GX1_31 b34 dX1_take_63 rfl ?_
      refine w_iload_n dX1_take_66 rfl rfl ?_
      refine w_iload_n dX1_take_67 rfl rfl ?_
      refine w_bipush dX1_take_68 (v := 17) (by decide) ?_
      refine w_icmp_ne 77 dX1_take_70 (by decide) (fun c35 => ?_) (fun c35 => ?_)
      · replace hf := (if_pos (show ¬ p0 = (17 : Int32) from c35)).symm.trans hf
        refine w_iconst dX1_take_77 (v := 0) (by decide) ?_
        exact (pX1_take_b78 hd hdr hrE hrN hf).to trivial
      · replace hf := (if_neg (show ¬ (¬ p0 = (17 : Int32)) from (fun z => z c35))).symm.trans hf
        refine w_iconst dX1_take_73 (v := 1) (by decide) ?_
        refine w_goto 78 dX1_take_74 (by decide) ?_
        exact (pX1_take_b78 hd hdr hrE hrN hf).to trivial
  · replace hf := (if_neg (show ¬ ((16 : Int32) ≤ p0) from c1)).symm.trans hf
    refine w_aload_n dX1_take_6 rfl rfl ?_
    obtain ⟨a36, b37, hf⟩ := Option.bind_eq_some_iff.mp hf
    refine GX1_38 b37 dX1_take_7 rfl ?_
    refine w_aload_n dX1_take_10 rfl rfl ?_
    obtain ⟨a38, b39, hf⟩ := Option.bind_eq_some_iff.mp hf
    refine GX1_31 b39 dX1_take_11 rfl ?_
    refine w_iload_n dX1_take_14 rfl rfl ?_
    obtain ⟨_, b40, hf⟩ := Option.bind_eq_some_iff.mp hf
    refine x_cnI hf (e_stV (Yc := YX2_take) (ci := 1) (av := [.ref a38, .int p1]) (st := []) dX1_take_15 q2199 mX2_take rfl (k_ok_some b40).1 (k_ok_some b40).2) mX2_take.2.2.1 mX2_take.2.2.2.2.1 (Nat.le_of_ble_eq_true rfl) (Nat.le_of_ble_eq_true rfl) (fun q hq => pX2_take (by omega) hq) (fun q41 hf => ?_)
    refine w_if_ne 33 dX1_take_18 (by decide) (fun c42 => ?_) (fun c42 => ?_)
    · replace hf := (if_pos (show ¬ q41.1 = 0 from c42)).symm.trans hf
      refine w_aload_n dX1_take_33 rfl rfl ?_
      obtain ⟨a43, b44, hf⟩ := Option.bind_eq_some_iff.mp hf
      refine GX1_45 b44 dX1_take_34 rfl ?_
      obtain ⟨a45, b46, hf⟩ := Option.bind_eq_some_iff.mp hf
      refine GX1_75 b46 dX1_take_37 rfl ?_
      refine w_iload_n dX1_take_40 rfl rfl ?_
      refine w_aload_n dX1_take_41 rfl rfl ?_
      obtain ⟨a47, b48, hf⟩ := Option.bind_eq_some_iff.mp hf
      refine GX1_38 b48 dX1_take_42 rfl ?_
      obtain ⟨_, b49, hf⟩ := Option.bind_eq_some_iff.mp hf
      refine x_cnI hf (e_stV (Yc := YX5_load) (ci := 4) (av := [.int p0, .ref a47]) (st := []) dX1_take_45 q2204 mX5_load rfl (k_ok_some b49).1 (k_ok_some b49).2) mX5_load.2.2.1 mX5_load.2.2.2.2.1 (Nat.le_of_ble_eq_true rfl) (Nat.le_of_ble_eq_true rfl) (fun q hq => pX5_load (by omega) hq) (fun q50 hf => ?_)
      cases hf
      exact w_iret dX1_take_48 rfl rfl rfl
    · replace hf := (if_neg (show ¬ (¬ q41.1 = 0) from (fun z => z c42))).symm.trans hf
      refine w_iload_n dX1_take_21 rfl rfl ?_
      refine w_bipush dX1_take_22 (v := 24) (by decide) ?_
      refine w_icmp_ge 31 dX1_take_24 (by decide) (fun c51 => ?_) (fun c51 => ?_)
      · replace hf := (if_pos (show (24 : Int32) ≤ p1 from c51)).symm.trans hf
        refine w_iconst dX1_take_31 (v := 4) (by decide) ?_
        exact (pX1_take_b32 hd hdr hrE hrN hf).to trivial
      · replace hf := (if_neg (show ¬ ((24 : Int32) ≤ p1) from c51)).symm.trans hf
        refine w_iconst dX1_take_27 (v := 1) (by decide) ?_
        refine w_goto 32 dX1_take_28 (by decide) ?_
        exact (pX1_take_b32 hd hdr hrE hrN hf).to trivial
abbrev cX1_end : ByteArray := prog_1_method_14_code
def yX1_end : MethodName := ⟨RX1, "end", "(II)I"⟩
def YX1_end : eY := (yX1_end, cX1_end, 4, (Option.some FieldType.int), [])
theorem mX1_end : e_mv YX1_end RX1 2 := ⟨q2192, q2193, q2194, by decide, by decide +kernel, (e_sig (by decide +kernel))⟩
theorem dX1_end_0 : decode cX1_end 0 = .ok (.iload_n 1, 1) := dc_27 (by decide +kernel)
theorem dX1_end_1 : decode cX1_end 1 = .ok (.ifCond .lt 21, 3) := dc_155 (a := 0) (b := 21) (v := 21) (by decide +kernel)
theorem dX1_end_4 : decode cX1_end 4 = .ok (.iload_n 1, 1) := dc_27 (by decide +kernel)
theorem dX1_end_5 : decode cX1_end 5 = .ok (.bipush 18, 2) := dc_16 (a := 18) (v := 18) (by decide +kernel)
theorem dX1_end_7 : decode cX1_end 7 = .ok (.if_icmp .gt 15, 3) := dc_163 (a := 0) (b := 15) (v := 15) (by decide +kernel)
theorem dX1_end_10 : decode cX1_end 10 = .ok (.iload_n 2, 1) := dc_28 (by decide +kernel)
theorem dX1_end_11 : decode cX1_end 11 = .ok (.ifCond .lt 11, 3) := dc_155 (a := 0) (b := 11) (v := 11) (by decide +kernel)
theorem dX1_end_14 : decode cX1_end 14 = .ok (.iload_n 2, 1) := dc_28 (by decide +kernel)
theorem dX1_end_15 : decode cX1_end 15 = .ok (.aload_n 0, 1) := dc_42 (by decide +kernel)
theorem dX1_end_16 : decode cX1_end 16 = .ok (.getfield 57, 3) := dc_180 (a := 0) (b := 57) (n := 57) (by decide +kernel)
theorem dX1_end_19 : decode cX1_end 19 = .ok (.if_icmp .le 11, 3) := dc_164 (a := 0) (b := 11) (v := 11) (by decide +kernel)
theorem dX1_end_22 : decode cX1_end 22 = .ok (.new 68, 3) := dc_187 (a := 0) (b := 68) (n := 68) (by decide +kernel)
theorem dX1_end_25 : decode cX1_end 25 = .ok (.dup, 1) := dc_89 (by decide +kernel)
theorem dX1_end_26 : decode cX1_end 26 = .ok (.invokespecial 70, 3) := dc_183 (a := 0) (b := 70) (n := 70) (by decide +kernel)
theorem dX1_end_29 : decode cX1_end 29 = .ok (.athrow, 1) := dc_191 (by decide +kernel)
theorem dX1_end_30 : decode cX1_end 30 = .ok (.aload_n 0, 1) := dc_42 (by decide +kernel)
theorem dX1_end_31 : decode cX1_end 31 = .ok (.iload_n 1, 1) := dc_27 (by decide +kernel)
theorem dX1_end_32 : decode cX1_end 32 = .ok (.iload_n 2, 1) := dc_28 (by decide +kernel)
theorem dX1_end_33 : decode cX1_end 33 = .ok (.invokevirtual 116, 3) := dc_182 (a := 0) (b := 116) (n := 116) (by decide +kernel)
theorem dX1_end_36 : decode cX1_end 36 = .ok (.istore_n 3, 1) := dc_62 (by decide +kernel)
theorem dX1_end_37 : decode cX1_end 37 = .ok (.aload_n 0, 1) := dc_42 (by decide +kernel)
theorem dX1_end_38 : decode cX1_end 38 = .ok (.iconst 0, 1) := dc_3 (by decide +kernel)
theorem dX1_end_39 : decode cX1_end 39 = .ok (.putfield 57, 3) := dc_181 (a := 0) (b := 57) (n := 57) (by decide +kernel)
theorem dX1_end_42 : decode cX1_end 42 = .ok (.iload_n 3, 1) := dc_29 (by decide +kernel)
theorem dX1_end_43 : decode cX1_end 43 = .ok (.ireturn, 1) := dc_172 (by decide +kernel)
theorem GX1_57 {w : eW} {d : Nat} {Y : eY} {pc : Nat} {ls : eL} {st : List Value} {h : eH} {Q : eO → eH → Prop} {a : Nat} {x : Int32} (hf : g_I 0 h a 1 = some x) (hd : decode Y.2.1 pc = .ok (.getfield 57, 3)) (hY : Y.1.cls = RX1) (kk : wp w d Y (pc + 3) ls (.int x :: st) h Q) : wp w d Y pc ls (.ref a :: st) h Q := x_gI (ci := 0) (k := 1) hf hd rfl (by decide) (by rw [hY]; exact q2055) kk
theorem SX1_57 {w : eW} {d : Nat} {Y : eY} {pc : Nat} {ls : eL} {st : List Value} {h : eH} {Q : eO → eH → Prop} {a : Nat} {h' : eH} {x : Int32} (hf : p_V 0 h a 1 (.int x) = some h') (hd : decode Y.2.1 pc = .ok (.putfield 57, 3)) (hY : Y.1.cls = RX1) (kk : wp w d Y (pc + 3) ls st h' Q) : wp w d Y pc ls (.int x :: .ref a :: st) h Q := x_pI (ci := 0) (k := 1) hf hd rfl (by decide) (by rw [hY]; exact q2055) rfl rfl kk
def fX1_end_b22 (N : Nat) (rE : Nat → Int32 → eH → Option ((Unit ⊕ Nat) × eH)) (rN : Nat → eH → Option ((Int32 ⊕ Nat) × eH))  (h : eH) : Option ((Int32 ⊕ Nat) × eH) :=
  (n_exc 50 h).bind fun q1 => some (.inr q1.1, q1.2)
theorem pX1_end_b22 {w : eW} {d : Nat} {dr : Nat} (hd : dr + 27 ≤ d + 1) (hdr : 12 ≤ dr) {N : Nat} {rE : Nat → Int32 → eH → Option ((Unit ⊕ Nat) × eH)} {rN : Nat → eH → Option ((Int32 ⊕ Nat) × eH)} (hrE : ∀ a t0 h q, rE a t0 h = some q → wm w dr YX8_expand [.ref a, .int t0] h (e_is (e_rt c_V q))) (hrN : ∀ a h q, rN a h = some q → wm w dr YX8_number [.ref a] h (e_is (e_rt c_I q)))  {h : eH} {q} (hf : fX1_end_b22 N rE rN h = some q) : wp w (d + 1) YX1_end 22 [none, none, none, none] [] h (e_is (e_rt c_I q)) := by
  unfold fX1_end_b22 at hf
  obtain ⟨q1, b2, hf⟩ := Option.bind_eq_some_iff.mp hf
  cases hf
  exact x_thr (ci := 50) b2 (Nat.le_of_ble_eq_true rfl) (Nat.le_of_ble_eq_true rfl) dX1_end_22 dX1_end_25 dX1_end_26 dX1_end_29 rfl q2173 q2174 q474 q2182 (Nat.le_of_ble_eq_true rfl) rfl (by omega)
def fX1_end (N : Nat) (rE : Nat → Int32 → eH → Option ((Unit ⊕ Nat) × eH)) (rN : Nat → eH → Option ((Int32 ⊕ Nat) × eH)) (this : Nat) (p0 : Int32) (p1 : Int32) (h : eH) : Option ((Int32 ⊕ Nat) × eH) :=
  if p0 < 0 then
    fX1_end_b22 N rE rN h
  else
    if (18 : Int32) < p0 then
      fX1_end_b22 N rE rN h
    else
      if p1 < 0 then
        fX1_end_b22 N rE rN h
      else
        (g_I 0 h this 1).bind fun x4 =>
        if p1 ≤ x4 then
          (k_ok 0 h this).bind fun _ =>
          (fX1_take N rE rN this p0 p1 h).bind fun q8 =>
          (p_V 0 q8.2 this 1 (.int (0 : Int32))).bind fun h9 =>
          some (.inl q8.1, h9)
        else
          fX1_end_b22 N rE rN h
theorem pX1_end {w : eW} {d : Nat} {dr : Nat} (hd : dr + 27 ≤ d) (hdr : 12 ≤ dr) {N : Nat} {rE : Nat → Int32 → eH → Option ((Unit ⊕ Nat) × eH)} {rN : Nat → eH → Option ((Int32 ⊕ Nat) × eH)} (hrE : ∀ a t0 h q, rE a t0 h = some q → wm w dr YX8_expand [.ref a, .int t0] h (e_is (e_rt c_V q))) (hrN : ∀ a h q, rN a h = some q → wm w dr YX8_number [.ref a] h (e_is (e_rt c_I q))) {this : Nat} {p0 : Int32} {p1 : Int32} {h : eH} {q} (hf : fX1_end N rE rN this p0 p1 h = some q) : wm w d YX1_end [.ref this, .int p0, .int p1] h (e_is (e_rt c_I q)) := by
  obtain ⟨d, rfl⟩ : ∃ e, d = e + 1 := ⟨d - 1, by omega⟩
  show wp w (d + 1) YX1_end 0 [some (.ref this), some (.int p0), some (.int p1), none] [] h _
  unfold fX1_end at hf
  refine w_iload_n dX1_end_0 rfl rfl ?_
  refine w_if_lt 22 dX1_end_1 (by decide) (fun c1 => ?_) (fun c1 => ?_)
  · replace hf := (if_pos (show p0 < 0 from c1)).symm.trans hf
    exact (pX1_end_b22 hd hdr hrE hrN hf).to trivial
  · replace hf := (if_neg (show ¬ (p0 < 0) from c1)).symm.trans hf
    refine w_iload_n dX1_end_4 rfl rfl ?_
    refine w_bipush dX1_end_5 (v := 18) (by decide) ?_
    refine w_icmp_gt 22 dX1_end_7 (by decide) (fun c2 => ?_) (fun c2 => ?_)
    · replace hf := (if_pos (show (18 : Int32) < p0 from c2)).symm.trans hf
      exact (pX1_end_b22 hd hdr hrE hrN hf).to trivial
    · replace hf := (if_neg (show ¬ ((18 : Int32) < p0) from c2)).symm.trans hf
      refine w_iload_n dX1_end_10 rfl rfl ?_
      refine w_if_lt 22 dX1_end_11 (by decide) (fun c3 => ?_) (fun c3 => ?_)
      · replace hf := (if_pos (show p1 < 0 from c3)).symm.trans hf
        exact (pX1_end_b22 hd hdr hrE hrN hf).to trivial
      · replace hf := (if_neg (show ¬ (p1 < 0) from c3)).symm.trans hf
        refine w_iload_n dX1_end_14 rfl rfl ?_
        refine w_aload_n dX1_end_15 rfl rfl ?_
        obtain ⟨x4, b5, hf⟩ := Option.bind_eq_some_iff.mp hf
        refine GX1_57 b5 dX1_end_16 rfl ?_
        refine w_icmp_le 30 dX1_end_19 (by decide) (fun c6 => ?_) (fun c6 => ?_)
        · replace hf := (if_pos (show p1 ≤ x4 from c6)).symm.trans hf
          refine w_aload_n dX1_end_30 rfl rfl ?_
          refine w_iload_n dX1_end_31 rfl rfl ?_
          refine w_iload_n dX1_end_32 rfl rfl ?_
          obtain ⟨_, b7, hf⟩ := Option.bind_eq_some_iff.mp hf
          refine x_cnI hf (e_stV (Yc := YX1_take) (ci := 0) (av := [.int p0, .int p1]) (st := []) dX1_end_33 q2195 mX1_take rfl (k_ok_some b7).1 (k_ok_some b7).2) mX1_take.2.2.1 mX1_take.2.2.2.2.1 (Nat.le_of_ble_eq_true rfl) (Nat.le_of_ble_eq_true rfl) (fun q hq => pX1_take (by omega) hdr hrE hrN hq) (fun q8 hf => ?_)
          refine w_istore_n dX1_end_36 rfl (by decide) (ls' := [some (.ref this), some (.int p0), some (.int p1), some (.int q8.1)]) rfl ?_
          refine w_aload_n dX1_end_37 rfl rfl ?_
          refine w_iconst dX1_end_38 (v := 0) (by decide) ?_
          obtain ⟨h9, b10, hf⟩ := Option.bind_eq_some_iff.mp hf
          refine SX1_57 b10 dX1_end_39 rfl ?_
          refine w_iload_n dX1_end_42 rfl rfl ?_
          cases hf
          exact w_iret dX1_end_43 rfl rfl rfl
        · replace hf := (if_neg (show ¬ (p1 ≤ x4) from c6)).symm.trans hf
          exact (pX1_end_b22 hd hdr hrE hrN hf).to trivial
abbrev cX1_lay : ByteArray := prog_1_method_10_code
def yX1_lay : MethodName := ⟨RX1, "lay", "(I)V"⟩
def YX1_lay : eY := (yX1_lay, cX1_lay, 3, none, [])
theorem mX1_lay : e_mv YX1_lay RX1 1 := ⟨q2162, qs14, q2163, by decide, by decide +kernel, (e_sig (by decide +kernel))⟩
theorem dX1_lay_0 : decode cX1_lay 0 = .ok (.bipush 24, 2) := dc_16 (a := 24) (v := 24) (by decide +kernel)
theorem dX1_lay_2 : decode cX1_lay 2 = .ok (.istore_n 2, 1) := dc_61 (by decide +kernel)
theorem dX1_lay_3 : decode cX1_lay 3 = .ok (.iload_n 2, 1) := dc_28 (by decide +kernel)
theorem dX1_lay_4 : decode cX1_lay 4 = .ok (.ifCond .lt 29, 3) := dc_155 (a := 0) (b := 29) (v := 29) (by decide +kernel)
theorem dX1_lay_7 : decode cX1_lay 7 = .ok (.aload_n 0, 1) := dc_42 (by decide +kernel)
theorem dX1_lay_8 : decode cX1_lay 8 = .ok (.getfield 31, 3) := dc_180 (a := 0) (b := 31) (n := 31) (by decide +kernel)
theorem dX1_lay_11 : decode cX1_lay 11 = .ok (.aload_n 0, 1) := dc_42 (by decide +kernel)
theorem dX1_lay_12 : decode cX1_lay 12 = .ok (.dup, 1) := dc_89 (by decide +kernel)
theorem dX1_lay_13 : decode cX1_lay 13 = .ok (.getfield 57, 3) := dc_180 (a := 0) (b := 57) (n := 57) (by decide +kernel)
theorem dX1_lay_16 : decode cX1_lay 16 = .ok (.dup_x1, 1) := dc_90 (by decide +kernel)
theorem dX1_lay_17 : decode cX1_lay 17 = .ok (.iconst 1, 1) := dc_4 (by decide +kernel)
theorem dX1_lay_18 : decode cX1_lay 18 = .ok (.iadd, 1) := dc_96 (by decide +kernel)
theorem dX1_lay_19 : decode cX1_lay 19 = .ok (.putfield 57, 3) := dc_181 (a := 0) (b := 57) (n := 57) (by decide +kernel)
theorem dX1_lay_22 : decode cX1_lay 22 = .ok (.iload_n 1, 1) := dc_27 (by decide +kernel)
theorem dX1_lay_23 : decode cX1_lay 23 = .ok (.iload_n 2, 1) := dc_28 (by decide +kernel)
theorem dX1_lay_24 : decode cX1_lay 24 = .ok (.ishr, 1) := dc_122 (by decide +kernel)
theorem dX1_lay_25 : decode cX1_lay 25 = .ok (.i2b, 1) := dc_145 (by decide +kernel)
theorem dX1_lay_26 : decode cX1_lay 26 = .ok (.bastore, 1) := dc_84 (by decide +kernel)
theorem dX1_lay_27 : decode cX1_lay 27 = .ok (.iinc 2 (-8), 3) := dc_132 (a := 2) (b := 248) (v := -8) (by decide +kernel)
theorem dX1_lay_30 : decode cX1_lay 30 = .ok (.goto (-27), 3) := dc_167 (a := 255) (b := 229) (v := -27) (by decide +kernel)
theorem dX1_lay_33 : decode cX1_lay 33 = .ok (.return_, 1) := dc_177 (by decide +kernel)
def fX1_lay_b3 (N : Nat) : Nat → Nat → Int32 → Int32 → eH → Option (Unit × eH)
  | 0, _, _, _, _ => none
  | n + 1, l0, l1, l2, h =>
    if l2 < 0 then
      some ((), h)
    else
      (g_A 0 h l0 0).bind fun a2 =>
      (g_I 0 h l0 1).bind fun x4 =>
      (p_V 0 h l0 1 (.int (x4 + (1 : Int32)))).bind fun h6 =>
      (q_V 102 h6 a2 x4 (.int (((l1 >>> (l2 &&& 31))).toInt8.toInt32).toInt8.toInt32)).bind fun h8 =>
      fX1_lay_b3 N n l0 l1 (l2 + (-8 : Int32)) h8
theorem pX1_lay_b3 {w : eW} {d : Nat} (hd : 0 ≤ d) {N : Nat} : ∀ (n : Nat) l0 l1 l2 h q, fX1_lay_b3 N n l0 l1 l2 h = some q → wp w d YX1_lay 3 [some (.ref l0), some (.int l1), some (.int l2)] [] h (e_is (e_rn c_V q)) := by
  intro n
  induction n with
  | zero => intro l0 l1 l2 h q hf; simp [fX1_lay_b3] at hf
  | succ n ih =>
    intro l0 l1 l2 h q hf
    rw [fX1_lay_b3] at hf
    refine w_iload_n dX1_lay_3 rfl rfl ?_
    refine w_if_lt 33 dX1_lay_4 (by decide) (fun c1 => ?_) (fun c1 => ?_)
    · replace hf := (if_pos (show l2 < 0 from c1)).symm.trans hf
      cases hf
      exact w_vret dX1_lay_33 rfl rfl
    · replace hf := (if_neg (show ¬ (l2 < 0) from c1)).symm.trans hf
      refine w_aload_n dX1_lay_7 rfl rfl ?_
      obtain ⟨a2, b3, hf⟩ := Option.bind_eq_some_iff.mp hf
      refine GX1_31 b3 dX1_lay_8 rfl ?_
      refine w_aload_n dX1_lay_11 rfl rfl ?_
      refine w_dup dX1_lay_12 rfl ?_
      obtain ⟨x4, b5, hf⟩ := Option.bind_eq_some_iff.mp hf
      refine GX1_57 b5 dX1_lay_13 rfl ?_
      refine w_dup_x1 dX1_lay_16 rfl rfl ?_
      refine w_iconst dX1_lay_17 (v := 1) (by decide) ?_
      refine w_iadd dX1_lay_18 ?_
      obtain ⟨h6, b7, hf⟩ := Option.bind_eq_some_iff.mp hf
      refine SX1_57 b7 dX1_lay_19 rfl ?_
      refine w_iload_n dX1_lay_22 rfl rfl ?_
      refine w_iload_n dX1_lay_23 rfl rfl ?_
      refine w_ishr dX1_lay_24 ?_
      refine w_i2b dX1_lay_25 ?_
      obtain ⟨h8, b9, hf⟩ := Option.bind_eq_some_iff.mp hf
      refine x_qB b9 dX1_lay_26 ?_
      refine w_iinc dX1_lay_27 (v := (l2 + (-8 : Int32))) rfl rfl (by decide) (ls' := [some (.ref l0), some (.int l1), some (.int (l2 + (-8 : Int32)))]) rfl ?_
      refine w_goto 3 dX1_lay_30 (by decide) ?_
      exact (ih _ _ _ _ _ hf).to ⟨rfl, rfl, rfl, trivial⟩
def fX1_lay (N : Nat) (this : Nat) (p0 : Int32) (h : eH) : Option (Unit × eH) :=
  fX1_lay_b3 N N this p0 (24 : Int32) h
theorem pX1_lay {w : eW} {d : Nat} (hd : 0 ≤ d) {N : Nat} {this : Nat} {p0 : Int32} {h : eH} {q} (hf : fX1_lay N this p0 h = some q) : wm w d YX1_lay [.ref this, .int p0] h (e_is (e_rn c_V q)) := by
  show wp w d YX1_lay 0 [some (.ref this), some (.int p0), none] [] h _
  unfold fX1_lay at hf
  refine w_bipush dX1_lay_0 (v := 24) (by decide) ?_
  refine w_istore_n dX1_lay_2 rfl (by decide) (ls' := [some (.ref this), some (.int p0), some (.int (24 : Int32))]) rfl ?_
  exact (pX1_lay_b3 hd N _ _ _ _ _ hf).to ⟨rfl, rfl, rfl, trivial⟩
abbrev cX1_feed : ByteArray := prog_1_method_11_code
def yX1_feed : MethodName := ⟨RX1, "feed", "(IIIII)V"⟩
def YX1_feed : eY := (yX1_feed, cX1_feed, 6, none, [])
theorem mX1_feed : e_mv YX1_feed RX1 5 := ⟨q2092, q2093, q2094, by decide, by decide +kernel, (e_sig (by decide +kernel))⟩
theorem dX1_feed_0 : decode cX1_feed 0 = .ok (.aload_n 0, 1) := dc_42 (by decide +kernel)
theorem dX1_feed_1 : decode cX1_feed 1 = .ok (.getfield 57, 3) := dc_180 (a := 0) (b := 57) (n := 57) (by decide +kernel)
theorem dX1_feed_4 : decode cX1_feed 4 = .ok (.bipush 20, 2) := dc_16 (a := 20) (v := 20) (by decide +kernel)
theorem dX1_feed_6 : decode cX1_feed 6 = .ok (.iadd, 1) := dc_96 (by decide +kernel)
theorem dX1_feed_7 : decode cX1_feed 7 = .ok (.ldc 30, 2) := dc_18 (a := 30) (by decide +kernel)
theorem dX1_feed_9 : decode cX1_feed 9 = .ok (.if_icmp .le 11, 3) := dc_164 (a := 0) (b := 11) (v := 11) (by decide +kernel)
theorem dX1_feed_12 : decode cX1_feed 12 = .ok (.new 60, 3) := dc_187 (a := 0) (b := 60) (n := 60) (by decide +kernel)
theorem dX1_feed_15 : decode cX1_feed 15 = .ok (.dup, 1) := dc_89 (by decide +kernel)
theorem dX1_feed_16 : decode cX1_feed 16 = .ok (.invokespecial 62, 3) := dc_183 (a := 0) (b := 62) (n := 62) (by decide +kernel)
theorem dX1_feed_19 : decode cX1_feed 19 = .ok (.athrow, 1) := dc_191 (by decide +kernel)
theorem dX1_feed_20 : decode cX1_feed 20 = .ok (.aload_n 0, 1) := dc_42 (by decide +kernel)
theorem dX1_feed_21 : decode cX1_feed 21 = .ok (.iload_n 1, 1) := dc_27 (by decide +kernel)
theorem dX1_feed_22 : decode cX1_feed 22 = .ok (.invokevirtual 63, 3) := dc_182 (a := 0) (b := 63) (n := 63) (by decide +kernel)
theorem dX1_feed_25 : decode cX1_feed 25 = .ok (.aload_n 0, 1) := dc_42 (by decide +kernel)
theorem dX1_feed_26 : decode cX1_feed 26 = .ok (.iload_n 2, 1) := dc_28 (by decide +kernel)
theorem dX1_feed_27 : decode cX1_feed 27 = .ok (.invokevirtual 63, 3) := dc_182 (a := 0) (b := 63) (n := 63) (by decide +kernel)
theorem dX1_feed_30 : decode cX1_feed 30 = .ok (.aload_n 0, 1) := dc_42 (by decide +kernel)
theorem dX1_feed_31 : decode cX1_feed 31 = .ok (.iload_n 3, 1) := dc_29 (by decide +kernel)
theorem dX1_feed_32 : decode cX1_feed 32 = .ok (.invokevirtual 63, 3) := dc_182 (a := 0) (b := 63) (n := 63) (by decide +kernel)
theorem dX1_feed_35 : decode cX1_feed 35 = .ok (.aload_n 0, 1) := dc_42 (by decide +kernel)
theorem dX1_feed_36 : decode cX1_feed 36 = .ok (.iload 4, 2) := dc_21 (a := 4) (by decide +kernel)
theorem dX1_feed_38 : decode cX1_feed 38 = .ok (.invokevirtual 63, 3) := dc_182 (a := 0) (b := 63) (n := 63) (by decide +kernel)
theorem dX1_feed_41 : decode cX1_feed 41 = .ok (.aload_n 0, 1) := dc_42 (by decide +kernel)
theorem dX1_feed_42 : decode cX1_feed 42 = .ok (.iload 5, 2) := dc_21 (a := 5) (by decide +kernel)
theorem dX1_feed_44 : decode cX1_feed 44 = .ok (.invokevirtual 63, 3) := dc_182 (a := 0) (b := 63) (n := 63) (by decide +kernel)
theorem dX1_feed_47 : decode cX1_feed 47 = .ok (.return_, 1) := dc_177 (by decide +kernel)
def fX1_feed (N : Nat) (this : Nat) (p0 : Int32) (p1 : Int32) (p2 : Int32) (p3 : Int32) (p4 : Int32) (h : eH) : Option ((Unit ⊕ Nat) × eH) :=
  (g_I 0 h this 1).bind fun x1 =>
  if (x1 + (20 : Int32)) ≤ (65536 : Int32) then
    (k_ok 0 h this).bind fun _ =>
    (fX1_lay N this p0 h).bind fun q5 =>
    (k_ok 0 q5.2 this).bind fun _ =>
    (fX1_lay N this p1 q5.2).bind fun q7 =>
    (k_ok 0 q7.2 this).bind fun _ =>
    (fX1_lay N this p2 q7.2).bind fun q9 =>
    (k_ok 0 q9.2 this).bind fun _ =>
    (fX1_lay N this p3 q9.2).bind fun q11 =>
    (k_ok 0 q11.2 this).bind fun _ =>
    (fX1_lay N this p4 q11.2).bind fun q13 =>
    some (.inl (), q13.2)
  else
    (n_exc 51 h).bind fun q14 => some (.inr q14.1, q14.2)
theorem pX1_feed {w : eW} {d : Nat} (hd : 6 ≤ d) {N : Nat} {this : Nat} {p0 : Int32} {p1 : Int32} {p2 : Int32} {p3 : Int32} {p4 : Int32} {h : eH} {q} (hf : fX1_feed N this p0 p1 p2 p3 p4 h = some q) : wm w d YX1_feed [.ref this, .int p0, .int p1, .int p2, .int p3, .int p4] h (e_is (e_rt c_V q)) := by
  obtain ⟨d, rfl⟩ : ∃ e, d = e + 1 := ⟨d - 1, by omega⟩
  show wp w (d + 1) YX1_feed 0 [some (.ref this), some (.int p0), some (.int p1), some (.int p2), some (.int p3), some (.int p4)] [] h _
  unfold fX1_feed at hf
  refine w_aload_n dX1_feed_0 rfl rfl ?_
  obtain ⟨x1, b2, hf⟩ := Option.bind_eq_some_iff.mp hf
  refine GX1_57 b2 dX1_feed_1 rfl ?_
  refine w_bipush dX1_feed_4 (v := 20) (by decide) ?_
  refine w_iadd dX1_feed_6 ?_
  refine w_ldc dX1_feed_7 q492 ?_
  refine w_icmp_le 20 dX1_feed_9 (by decide) (fun c3 => ?_) (fun c3 => ?_)
  · replace hf := (if_pos (show (x1 + (20 : Int32)) ≤ (65536 : Int32) from c3)).symm.trans hf
    refine w_aload_n dX1_feed_20 rfl rfl ?_
    refine w_iload_n dX1_feed_21 rfl rfl ?_
    obtain ⟨_, b4, hf⟩ := Option.bind_eq_some_iff.mp hf
    refine x_cnV hf (e_stV (Yc := YX1_lay) (ci := 0) (av := [.int p0]) (st := []) dX1_feed_22 q2160 mX1_lay rfl (k_ok_some b4).1 (k_ok_some b4).2) mX1_lay.2.2.1 mX1_lay.2.2.2.2.1 (Nat.le_of_ble_eq_true rfl) (Nat.le_of_ble_eq_true rfl) (fun q hq => pX1_lay (by omega) hq) (fun q5 hf => ?_)
    refine w_aload_n dX1_feed_25 rfl rfl ?_
    refine w_iload_n dX1_feed_26 rfl rfl ?_
    obtain ⟨_, b6, hf⟩ := Option.bind_eq_some_iff.mp hf
    refine x_cnV hf (e_stV (Yc := YX1_lay) (ci := 0) (av := [.int p1]) (st := []) dX1_feed_27 q2160 mX1_lay rfl (k_ok_some b6).1 (k_ok_some b6).2) mX1_lay.2.2.1 mX1_lay.2.2.2.2.1 (Nat.le_of_ble_eq_true rfl) (Nat.le_of_ble_eq_true rfl) (fun q hq => pX1_lay (by omega) hq) (fun q7 hf => ?_)
    refine w_aload_n dX1_feed_30 rfl rfl ?_
    refine w_iload_n dX1_feed_31 rfl rfl ?_
    obtain ⟨_, b8, hf⟩ := Option.bind_eq_some_iff.mp hf
    refine x_cnV hf (e_stV (Yc := YX1_lay) (ci := 0) (av := [.int p2]) (st := []) dX1_feed_32 q2160 mX1_lay rfl (k_ok_some b8).1 (k_ok_some b8).2) mX1_lay.2.2.1 mX1_lay.2.2.2.2.1 (Nat.le_of_ble_eq_true rfl) (Nat.le_of_ble_eq_true rfl) (fun q hq => pX1_lay (by omega) hq) (fun q9 hf => ?_)
    refine w_aload_n dX1_feed_35 rfl rfl ?_
    refine w_iload dX1_feed_36 rfl ?_
    obtain ⟨_, b10, hf⟩ := Option.bind_eq_some_iff.mp hf
    refine x_cnV hf (e_stV (Yc := YX1_lay) (ci := 0) (av := [.int p3]) (st := []) dX1_feed_38 q2160 mX1_lay rfl (k_ok_some b10).1 (k_ok_some b10).2) mX1_lay.2.2.1 mX1_lay.2.2.2.2.1 (Nat.le_of_ble_eq_true rfl) (Nat.le_of_ble_eq_true rfl) (fun q hq => pX1_lay (by omega) hq) (fun q11 hf => ?_)
    refine w_aload_n dX1_feed_41 rfl rfl ?_
    refine w_iload dX1_feed_42 rfl ?_
    obtain ⟨_, b12, hf⟩ := Option.bind_eq_some_iff.mp hf
    refine x_cnV hf (e_stV (Yc := YX1_lay) (ci := 0) (av := [.int p4]) (st := []) dX1_feed_44 q2160 mX1_lay rfl (k_ok_some b12).1 (k_ok_some b12).2) mX1_lay.2.2.1 mX1_lay.2.2.2.2.1 (Nat.le_of_ble_eq_true rfl) (Nat.le_of_ble_eq_true rfl) (fun q hq => pX1_lay (by omega) hq) (fun q13 hf => ?_)
    cases hf
    exact w_vret dX1_feed_47 rfl rfl
  · replace hf := (if_neg (show ¬ ((x1 + (20 : Int32)) ≤ (65536 : Int32)) from c3)).symm.trans hf
    obtain ⟨q14, b15, hf⟩ := Option.bind_eq_some_iff.mp hf
    cases hf
    exact x_thr (ci := 51) b15 (Nat.le_of_ble_eq_true rfl) (Nat.le_of_ble_eq_true rfl) dX1_feed_12 dX1_feed_15 dX1_feed_16 dX1_feed_19 rfl q2095 q2096 q473 q2137 (Nat.le_of_ble_eq_true rfl) rfl (by omega)
abbrev cX1_fuel : ByteArray := prog_1_method_12_code
def yX1_fuel : MethodName := ⟨RX1, "fuel", "(I)V"⟩
def YX1_fuel : eY := (yX1_fuel, cX1_fuel, 2, none, [])
theorem mX1_fuel : e_mv YX1_fuel RX1 1 := ⟨q2169, q2170, q2171, by decide, by decide +kernel, (e_sig (by decide +kernel))⟩
theorem dX1_fuel_0 : decode cX1_fuel 0 = .ok (.iload_n 1, 1) := dc_27 (by decide +kernel)
theorem dX1_fuel_1 : decode cX1_fuel 1 = .ok (.ifCond .lt 9, 3) := dc_155 (a := 0) (b := 9) (v := 9) (by decide +kernel)
theorem dX1_fuel_4 : decode cX1_fuel 4 = .ok (.iload_n 1, 1) := dc_27 (by decide +kernel)
theorem dX1_fuel_5 : decode cX1_fuel 5 = .ok (.ldc 67, 2) := dc_18 (a := 67) (by decide +kernel)
theorem dX1_fuel_7 : decode cX1_fuel 7 = .ok (.if_icmp .le 11, 3) := dc_164 (a := 0) (b := 11) (v := 11) (by decide +kernel)
theorem dX1_fuel_10 : decode cX1_fuel 10 = .ok (.new 68, 3) := dc_187 (a := 0) (b := 68) (n := 68) (by decide +kernel)
theorem dX1_fuel_13 : decode cX1_fuel 13 = .ok (.dup, 1) := dc_89 (by decide +kernel)
theorem dX1_fuel_14 : decode cX1_fuel 14 = .ok (.invokespecial 70, 3) := dc_183 (a := 0) (b := 70) (n := 70) (by decide +kernel)
theorem dX1_fuel_17 : decode cX1_fuel 17 = .ok (.athrow, 1) := dc_191 (by decide +kernel)
theorem dX1_fuel_18 : decode cX1_fuel 18 = .ok (.aload_n 0, 1) := dc_42 (by decide +kernel)
theorem dX1_fuel_19 : decode cX1_fuel 19 = .ok (.iload_n 1, 1) := dc_27 (by decide +kernel)
theorem dX1_fuel_20 : decode cX1_fuel 20 = .ok (.putfield 50, 3) := dc_181 (a := 0) (b := 50) (n := 50) (by decide +kernel)
theorem dX1_fuel_23 : decode cX1_fuel 23 = .ok (.return_, 1) := dc_177 (by decide +kernel)
def fX1_fuel_b10  (h : eH) : Option ((Unit ⊕ Nat) × eH) :=
  (n_exc 50 h).bind fun q1 => some (.inr q1.1, q1.2)
theorem pX1_fuel_b10 {w : eW} {d : Nat} (hd : 6 ≤ d + 1)  {h : eH} {q} (hf : fX1_fuel_b10  h = some q) : wp w (d + 1) YX1_fuel 10 [none, none] [] h (e_is (e_rt c_V q)) := by
  unfold fX1_fuel_b10 at hf
  obtain ⟨q1, b2, hf⟩ := Option.bind_eq_some_iff.mp hf
  cases hf
  exact x_thr (ci := 50) b2 (Nat.le_of_ble_eq_true rfl) (Nat.le_of_ble_eq_true rfl) dX1_fuel_10 dX1_fuel_13 dX1_fuel_14 dX1_fuel_17 rfl q2173 q2174 q474 q2182 (Nat.le_of_ble_eq_true rfl) rfl (by omega)
def fX1_fuel (this : Nat) (p0 : Int32) (h : eH) : Option ((Unit ⊕ Nat) × eH) :=
  if p0 < 0 then
    fX1_fuel_b10 h
  else
    if p0 ≤ (200000 : Int32) then
      (p_V 0 h this 4 (.int p0)).bind fun h3 =>
      some (.inl (), h3)
    else
      fX1_fuel_b10 h
theorem pX1_fuel {w : eW} {d : Nat} (hd : 6 ≤ d) {this : Nat} {p0 : Int32} {h : eH} {q} (hf : fX1_fuel this p0 h = some q) : wm w d YX1_fuel [.ref this, .int p0] h (e_is (e_rt c_V q)) := by
  obtain ⟨d, rfl⟩ : ∃ e, d = e + 1 := ⟨d - 1, by omega⟩
  show wp w (d + 1) YX1_fuel 0 [some (.ref this), some (.int p0)] [] h _
  unfold fX1_fuel at hf
  refine w_iload_n dX1_fuel_0 rfl rfl ?_
  refine w_if_lt 10 dX1_fuel_1 (by decide) (fun c1 => ?_) (fun c1 => ?_)
  · replace hf := (if_pos (show p0 < 0 from c1)).symm.trans hf
    exact (pX1_fuel_b10 hd hf).to trivial
  · replace hf := (if_neg (show ¬ (p0 < 0) from c1)).symm.trans hf
    refine w_iload_n dX1_fuel_4 rfl rfl ?_
    refine w_ldc dX1_fuel_5 q2172 ?_
    refine w_icmp_le 18 dX1_fuel_7 (by decide) (fun c2 => ?_) (fun c2 => ?_)
    · replace hf := (if_pos (show p0 ≤ (200000 : Int32) from c2)).symm.trans hf
      refine w_aload_n dX1_fuel_18 rfl rfl ?_
      refine w_iload_n dX1_fuel_19 rfl rfl ?_
      obtain ⟨h3, b4, hf⟩ := Option.bind_eq_some_iff.mp hf
      refine SX1_50 b4 dX1_fuel_20 rfl ?_
      cases hf
      exact w_vret dX1_fuel_23 rfl rfl
    · replace hf := (if_neg (show ¬ (p0 ≤ (200000 : Int32)) from c2)).symm.trans hf
      exact (pX1_fuel_b10 hd hf).to trivial
abbrev cX32_at : ByteArray := prog_5_method_6_code
def yX32_at : MethodName := ⟨RX32, "at", "(I)I"⟩
def YX32_at : eY := (yX32_at, cX32_at, 2, (Option.some FieldType.int), [])
theorem mX32_at : e_mv YX32_at RX32 1 := ⟨q4096, q4097, q4098, by decide, by decide +kernel, (e_sig (by decide +kernel))⟩
theorem dX32_at_0 : decode cX32_at 0 = .ok (.aload_n 0, 1) := dc_42 (by decide +kernel)
theorem dX32_at_1 : decode cX32_at 1 = .ok (.getfield 7, 3) := dc_180 (a := 0) (b := 7) (n := 7) (by decide +kernel)
theorem dX32_at_4 : decode cX32_at 4 = .ok (.iload_n 1, 1) := dc_27 (by decide +kernel)
theorem dX32_at_5 : decode cX32_at 5 = .ok (.baload, 1) := dc_51 (by decide +kernel)
theorem dX32_at_6 : decode cX32_at 6 = .ok (.sipush 255, 3) := dc_17 (a := 0) (b := 255) (v := 255) (by decide +kernel)
theorem dX32_at_9 : decode cX32_at 9 = .ok (.iand, 1) := dc_126 (by decide +kernel)
theorem dX32_at_10 : decode cX32_at 10 = .ok (.ireturn, 1) := dc_172 (by decide +kernel)
def fX32_at (this : Nat) (p0 : Int32) (h : eH) : Option (Int32 × eH) :=
  (g_A 31 h this 0).bind fun a1 =>
  (r_I 102 h a1 p0).bind fun x3 =>
  some ((x3 &&& (255 : Int32)), h)
theorem pX32_at {w : eW} {d : Nat} (hd : 0 ≤ d) {this : Nat} {p0 : Int32} {h : eH} {q} (hf : fX32_at this p0 h = some q) : wm w d YX32_at [.ref this, .int p0] h (e_is (e_rn c_I q)) := by
  show wp w d YX32_at 0 [some (.ref this), some (.int p0)] [] h _
  unfold fX32_at at hf
  refine w_aload_n dX32_at_0 rfl rfl ?_
  obtain ⟨a1, b2, hf⟩ := Option.bind_eq_some_iff.mp hf
  refine GX32_7 b2 dX32_at_1 rfl ?_
  refine w_iload_n dX32_at_4 rfl rfl ?_
  obtain ⟨x3, b4, hf⟩ := Option.bind_eq_some_iff.mp hf
  refine x_rB b4 dX32_at_5 ?_
  refine w_sipush dX32_at_6 (v := 255) (by decide) ?_
  refine w_iand dX32_at_9 ?_
  cases hf
  exact w_iret dX32_at_10 rfl rfl rfl
abbrev cX1_out : ByteArray := prog_1_method_17_code
def yX1_out : MethodName := ⟨RX1, "out", "(I)I"⟩
def YX1_out : eY := (yX1_out, cX1_out, 2, (Option.some FieldType.int), [])
theorem mX1_out : e_mv YX1_out RX1 1 := ⟨q4077, q4078, q4079, by decide, by decide +kernel, (e_sig (by decide +kernel))⟩
theorem dX1_out_0 : decode cX1_out 0 = .ok (.iload_n 1, 1) := dc_27 (by decide +kernel)
theorem dX1_out_1 : decode cX1_out 1 = .ok (.ifCond .lt 20, 3) := dc_155 (a := 0) (b := 20) (v := 20) (by decide +kernel)
theorem dX1_out_4 : decode cX1_out 4 = .ok (.iload_n 1, 1) := dc_27 (by decide +kernel)
theorem dX1_out_5 : decode cX1_out 5 = .ok (.aload_n 0, 1) := dc_42 (by decide +kernel)
theorem dX1_out_6 : decode cX1_out 6 = .ok (.getfield 45, 3) := dc_180 (a := 0) (b := 45) (n := 45) (by decide +kernel)
theorem dX1_out_9 : decode cX1_out 9 = .ok (.getfield 123, 3) := dc_180 (a := 0) (b := 123) (n := 123) (by decide +kernel)
theorem dX1_out_12 : decode cX1_out 12 = .ok (.getfield 127, 3) := dc_180 (a := 0) (b := 127) (n := 127) (by decide +kernel)
theorem dX1_out_15 : decode cX1_out 15 = .ok (.getfield 133, 3) := dc_180 (a := 0) (b := 133) (n := 133) (by decide +kernel)
theorem dX1_out_18 : decode cX1_out 18 = .ok (.if_icmp .lt 11, 3) := dc_161 (a := 0) (b := 11) (v := 11) (by decide +kernel)
theorem dX1_out_21 : decode cX1_out 21 = .ok (.new 136, 3) := dc_187 (a := 0) (b := 136) (n := 136) (by decide +kernel)
theorem dX1_out_24 : decode cX1_out 24 = .ok (.dup, 1) := dc_89 (by decide +kernel)
theorem dX1_out_25 : decode cX1_out 25 = .ok (.invokespecial 138, 3) := dc_183 (a := 0) (b := 138) (n := 138) (by decide +kernel)
theorem dX1_out_28 : decode cX1_out 28 = .ok (.athrow, 1) := dc_191 (by decide +kernel)
theorem dX1_out_29 : decode cX1_out 29 = .ok (.aload_n 0, 1) := dc_42 (by decide +kernel)
theorem dX1_out_30 : decode cX1_out 30 = .ok (.getfield 45, 3) := dc_180 (a := 0) (b := 45) (n := 45) (by decide +kernel)
theorem dX1_out_33 : decode cX1_out 33 = .ok (.getfield 123, 3) := dc_180 (a := 0) (b := 123) (n := 123) (by decide +kernel)
theorem dX1_out_36 : decode cX1_out 36 = .ok (.getfield 127, 3) := dc_180 (a := 0) (b := 127) (n := 127) (by decide +kernel)
theorem dX1_out_39 : decode cX1_out 39 = .ok (.iload_n 1, 1) := dc_27 (by decide +kernel)
theorem dX1_out_40 : decode cX1_out 40 = .ok (.invokevirtual 139, 3) := dc_182 (a := 0) (b := 139) (n := 139) (by decide +kernel)
theorem dX1_out_43 : decode cX1_out 43 = .ok (.ireturn, 1) := dc_172 (by decide +kernel)
theorem GX1_123 {w : eW} {d : Nat} {Y : eY} {pc : Nat} {ls : eL} {st : List Value} {h : eH} {Q : eO → eH → Prop} {a : Nat} {x : Nat} (hf : g_A 2 h a 15 = some x) (hd : decode Y.2.1 pc = .ok (.getfield 123, 3)) (hY : Y.1.cls = RX1) (kk : wp w d Y (pc + 3) ls (.ref x :: st) h Q) : wp w d Y pc ls (.ref a :: st) h Q := x_gAN (ci := 2) (k := 15) hf hd rfl (by decide) (by rw [hY]; exact q1807) kk
theorem GX1_127 {w : eW} {d : Nat} {Y : eY} {pc : Nat} {ls : eL} {st : List Value} {h : eH} {Q : eO → eH → Prop} {a : Nat} {x : Nat} (hf : g_A 30 h a 1 = some x) (hd : decode Y.2.1 pc = .ok (.getfield 127, 3)) (hY : Y.1.cls = RX1) (kk : wp w d Y (pc + 3) ls (.ref x :: st) h Q) : wp w d Y pc ls (.ref a :: st) h Q := x_gAN (ci := 30) (k := 1) hf hd rfl (by decide) (by rw [hY]; exact q1716) kk
theorem GX1_133 {w : eW} {d : Nat} {Y : eY} {pc : Nat} {ls : eL} {st : List Value} {h : eH} {Q : eO → eH → Prop} {a : Nat} {x : Int32} (hf : g_I 31 h a 1 = some x) (hd : decode Y.2.1 pc = .ok (.getfield 133, 3)) (hY : Y.1.cls = RX1) (kk : wp w d Y (pc + 3) ls (.int x :: st) h Q) : wp w d Y pc ls (.ref a :: st) h Q := x_gIN (ci := 31) (k := 1) hf hd rfl (by decide) (by rw [hY]; exact q1674) kk
def fX1_out_b21  (h : eH) : Option ((Int32 ⊕ Nat) × eH) :=
  (n_exc 52 h).bind fun q1 => some (.inr q1.1, q1.2)
theorem pX1_out_b21 {w : eW} {d : Nat} (hd : 6 ≤ d + 1)  {h : eH} {q} (hf : fX1_out_b21  h = some q) : wp w (d + 1) YX1_out 21 [none, none] [] h (e_is (e_rt c_I q)) := by
  unfold fX1_out_b21 at hf
  obtain ⟨q1, b2, hf⟩ := Option.bind_eq_some_iff.mp hf
  cases hf
  exact x_thr (ci := 52) b2 (Nat.le_of_ble_eq_true rfl) (Nat.le_of_ble_eq_true rfl) dX1_out_21 dX1_out_24 dX1_out_25 dX1_out_28 rfl q4080 q4081 q480 q4089 (Nat.le_of_ble_eq_true rfl) rfl (by omega)
def fX1_out (this : Nat) (p0 : Int32) (h : eH) : Option ((Int32 ⊕ Nat) × eH) :=
  if p0 < 0 then
    fX1_out_b21 h
  else
    (g_A 0 h this 3).bind fun a2 =>
    (g_A 2 h a2 15).bind fun a4 =>
    (g_A 30 h a4 1).bind fun a6 =>
    (g_I 31 h a6 1).bind fun x8 =>
    if p0 < x8 then
      (g_A 0 h this 3).bind fun a11 =>
      (g_A 2 h a11 15).bind fun a13 =>
      (g_A 30 h a13 1).bind fun a15 =>
      (k_ok 31 h a15).bind fun _ =>
      (fX32_at a15 p0 h).bind fun q18 =>
      some (.inl q18.1, q18.2)
    else
      fX1_out_b21 h
theorem pX1_out {w : eW} {d : Nat} (hd : 6 ≤ d) {this : Nat} {p0 : Int32} {h : eH} {q} (hf : fX1_out this p0 h = some q) : wm w d YX1_out [.ref this, .int p0] h (e_is (e_rt c_I q)) := by
  obtain ⟨d, rfl⟩ : ∃ e, d = e + 1 := ⟨d - 1, by omega⟩
  show wp w (d + 1) YX1_out 0 [some (.ref this), some (.int p0)] [] h _
  unfold fX1_out at hf
  refine w_iload_n dX1_out_0 rfl rfl ?_
  refine w_if_lt 21 dX1_out_1 (by decide) (fun c1 => ?_) (fun c1 => ?_)
  · replace hf := (if_pos (show p0 < 0 from c1)).symm.trans hf
    exact (pX1_out_b21 hd hf).to trivial
  · replace hf := (if_neg (show ¬ (p0 < 0) from c1)).symm.trans hf
    refine w_iload_n dX1_out_4 rfl rfl ?_
    refine w_aload_n dX1_out_5 rfl rfl ?_
    obtain ⟨a2, b3, hf⟩ := Option.bind_eq_some_iff.mp hf
    refine GX1_45 b3 dX1_out_6 rfl ?_
    obtain ⟨a4, b5, hf⟩ := Option.bind_eq_some_iff.mp hf
    refine GX1_123 b5 dX1_out_9 rfl ?_
    obtain ⟨a6, b7, hf⟩ := Option.bind_eq_some_iff.mp hf
    refine GX1_127 b7 dX1_out_12 rfl ?_
    obtain ⟨x8, b9, hf⟩ := Option.bind_eq_some_iff.mp hf
    refine GX1_133 b9 dX1_out_15 rfl ?_
    refine w_icmp_lt 29 dX1_out_18 (by decide) (fun c10 => ?_) (fun c10 => ?_)
    · replace hf := (if_pos (show p0 < x8 from c10)).symm.trans hf
      refine w_aload_n dX1_out_29 rfl rfl ?_
      obtain ⟨a11, b12, hf⟩ := Option.bind_eq_some_iff.mp hf
      refine GX1_45 b12 dX1_out_30 rfl ?_
      obtain ⟨a13, b14, hf⟩ := Option.bind_eq_some_iff.mp hf
      refine GX1_123 b14 dX1_out_33 rfl ?_
      obtain ⟨a15, b16, hf⟩ := Option.bind_eq_some_iff.mp hf
      refine GX1_127 b16 dX1_out_36 rfl ?_
      refine w_iload_n dX1_out_39 rfl rfl ?_
      obtain ⟨_, b17, hf⟩ := Option.bind_eq_some_iff.mp hf
      refine x_cnI hf (e_stV (Yc := YX32_at) (ci := 31) (av := [.int p0]) (st := []) dX1_out_40 q4095 mX32_at rfl (k_ok_some b17).1 (k_ok_some b17).2) mX32_at.2.2.1 mX32_at.2.2.2.2.1 (Nat.le_of_ble_eq_true rfl) (Nat.le_of_ble_eq_true rfl) (fun q hq => pX32_at (by omega) hq) (fun q18 hf => ?_)
      cases hf
      exact w_iret dX1_out_43 rfl rfl rfl
    · replace hf := (if_neg (show ¬ (p0 < x8) from c10)).symm.trans hf
      exact (pX1_out_b21 hd hf).to trivial
abbrev cX1_size : ByteArray := prog_1_method_16_code
def yX1_size : MethodName := ⟨RX1, "size", "()I"⟩
def YX1_size : eY := (yX1_size, cX1_size, 1, (Option.some FieldType.int), [])
theorem mX1_size : e_mv YX1_size RX1 0 := ⟨q2084, q2085, q2086, by decide, by decide +kernel, (e_sig (by decide +kernel))⟩
theorem dX1_size_0 : decode cX1_size 0 = .ok (.aload_n 0, 1) := dc_42 (by decide +kernel)
theorem dX1_size_1 : decode cX1_size 1 = .ok (.getfield 45, 3) := dc_180 (a := 0) (b := 45) (n := 45) (by decide +kernel)
theorem dX1_size_4 : decode cX1_size 4 = .ok (.getfield 123, 3) := dc_180 (a := 0) (b := 123) (n := 123) (by decide +kernel)
theorem dX1_size_7 : decode cX1_size 7 = .ok (.getfield 127, 3) := dc_180 (a := 0) (b := 127) (n := 127) (by decide +kernel)
theorem dX1_size_10 : decode cX1_size 10 = .ok (.getfield 133, 3) := dc_180 (a := 0) (b := 133) (n := 133) (by decide +kernel)
theorem dX1_size_13 : decode cX1_size 13 = .ok (.ireturn, 1) := dc_172 (by decide +kernel)
def fX1_size (this : Nat) (h : eH) : Option (Int32 × eH) :=
  (g_A 0 h this 3).bind fun a1 =>
  (g_A 2 h a1 15).bind fun a3 =>
  (g_A 30 h a3 1).bind fun a5 =>
  (g_I 31 h a5 1).bind fun x7 =>
  some (x7, h)
theorem pX1_size {w : eW} {d : Nat} (hd : 0 ≤ d) {this : Nat} {h : eH} {q} (hf : fX1_size this h = some q) : wm w d YX1_size [.ref this] h (e_is (e_rn c_I q)) := by
  show wp w d YX1_size 0 [some (.ref this)] [] h _
  unfold fX1_size at hf
  refine w_aload_n dX1_size_0 rfl rfl ?_
  obtain ⟨a1, b2, hf⟩ := Option.bind_eq_some_iff.mp hf
  refine GX1_45 b2 dX1_size_1 rfl ?_
  obtain ⟨a3, b4, hf⟩ := Option.bind_eq_some_iff.mp hf
  refine GX1_123 b4 dX1_size_4 rfl ?_
  obtain ⟨a5, b6, hf⟩ := Option.bind_eq_some_iff.mp hf
  refine GX1_127 b6 dX1_size_7 rfl ?_
  obtain ⟨x7, b8, hf⟩ := Option.bind_eq_some_iff.mp hf
  refine GX1_133 b8 dX1_size_10 rfl ?_
  cases hf
  exact w_iret dX1_size_13 rfl rfl rfl
abbrev cX12_areAlike : ByteArray := prog_14_method_6_code
def yX12_areAlike : MethodName := ⟨RX12, "areAlike", "(II)Z"⟩
def YX12_areAlike : eY := (yX12_areAlike, cX12_areAlike, 6, (Option.some FieldType.boolean), [])
theorem mX12_areAlike : e_mv YX12_areAlike RX12 2 := ⟨q2703, q2704, q2705, by decide, by decide +kernel, (e_sig (by decide +kernel))⟩
theorem dX12_areAlike_0 : decode cX12_areAlike 0 = .ok (.aload_n 0, 1) := dc_42 (by decide +kernel)
theorem dX12_areAlike_1 : decode cX12_areAlike 1 = .ok (.getfield 21, 3) := dc_180 (a := 0) (b := 21) (n := 21) (by decide +kernel)
theorem dX12_areAlike_4 : decode cX12_areAlike 4 = .ok (.iload_n 1, 1) := dc_27 (by decide +kernel)
theorem dX12_areAlike_5 : decode cX12_areAlike 5 = .ok (.iaload, 1) := dc_46 (by decide +kernel)
theorem dX12_areAlike_6 : decode cX12_areAlike 6 = .ok (.aload_n 0, 1) := dc_42 (by decide +kernel)
theorem dX12_areAlike_7 : decode cX12_areAlike 7 = .ok (.getfield 15, 3) := dc_180 (a := 0) (b := 15) (n := 15) (by decide +kernel)
theorem dX12_areAlike_10 : decode cX12_areAlike 10 = .ok (.iload_n 1, 1) := dc_27 (by decide +kernel)
theorem dX12_areAlike_11 : decode cX12_areAlike 11 = .ok (.iaload, 1) := dc_46 (by decide +kernel)
theorem dX12_areAlike_12 : decode cX12_areAlike 12 = .ok (.isub, 1) := dc_100 (by decide +kernel)
theorem dX12_areAlike_13 : decode cX12_areAlike 13 = .ok (.istore_n 3, 1) := dc_62 (by decide +kernel)
theorem dX12_areAlike_14 : decode cX12_areAlike 14 = .ok (.aload_n 0, 1) := dc_42 (by decide +kernel)
theorem dX12_areAlike_15 : decode cX12_areAlike 15 = .ok (.getfield 21, 3) := dc_180 (a := 0) (b := 21) (n := 21) (by decide +kernel)
theorem dX12_areAlike_18 : decode cX12_areAlike 18 = .ok (.iload_n 2, 1) := dc_28 (by decide +kernel)
theorem dX12_areAlike_19 : decode cX12_areAlike 19 = .ok (.iaload, 1) := dc_46 (by decide +kernel)
theorem dX12_areAlike_20 : decode cX12_areAlike 20 = .ok (.aload_n 0, 1) := dc_42 (by decide +kernel)
theorem dX12_areAlike_21 : decode cX12_areAlike 21 = .ok (.getfield 15, 3) := dc_180 (a := 0) (b := 15) (n := 15) (by decide +kernel)
theorem dX12_areAlike_24 : decode cX12_areAlike 24 = .ok (.iload_n 2, 1) := dc_28 (by decide +kernel)
theorem dX12_areAlike_25 : decode cX12_areAlike 25 = .ok (.iaload, 1) := dc_46 (by decide +kernel)
theorem dX12_areAlike_26 : decode cX12_areAlike 26 = .ok (.isub, 1) := dc_100 (by decide +kernel)
theorem dX12_areAlike_27 : decode cX12_areAlike 27 = .ok (.iload_n 3, 1) := dc_29 (by decide +kernel)
theorem dX12_areAlike_28 : decode cX12_areAlike 28 = .ok (.if_icmp .ne 36, 3) := dc_160 (a := 0) (b := 36) (v := 36) (by decide +kernel)
theorem dX12_areAlike_31 : decode cX12_areAlike 31 = .ok (.aload_n 0, 1) := dc_42 (by decide +kernel)
theorem dX12_areAlike_32 : decode cX12_areAlike 32 = .ok (.getfield 18, 3) := dc_180 (a := 0) (b := 18) (n := 18) (by decide +kernel)
theorem dX12_areAlike_35 : decode cX12_areAlike 35 = .ok (.iload_n 2, 1) := dc_28 (by decide +kernel)
theorem dX12_areAlike_36 : decode cX12_areAlike 36 = .ok (.iaload, 1) := dc_46 (by decide +kernel)
theorem dX12_areAlike_37 : decode cX12_areAlike 37 = .ok (.aload_n 0, 1) := dc_42 (by decide +kernel)
theorem dX12_areAlike_38 : decode cX12_areAlike 38 = .ok (.getfield 15, 3) := dc_180 (a := 0) (b := 15) (n := 15) (by decide +kernel)
theorem dX12_areAlike_41 : decode cX12_areAlike 41 = .ok (.iload_n 2, 1) := dc_28 (by decide +kernel)
theorem dX12_areAlike_42 : decode cX12_areAlike 42 = .ok (.iaload, 1) := dc_46 (by decide +kernel)
theorem dX12_areAlike_43 : decode cX12_areAlike 43 = .ok (.isub, 1) := dc_100 (by decide +kernel)
theorem dX12_areAlike_44 : decode cX12_areAlike 44 = .ok (.aload_n 0, 1) := dc_42 (by decide +kernel)
theorem dX12_areAlike_45 : decode cX12_areAlike 45 = .ok (.getfield 18, 3) := dc_180 (a := 0) (b := 18) (n := 18) (by decide +kernel)
theorem dX12_areAlike_48 : decode cX12_areAlike 48 = .ok (.iload_n 1, 1) := dc_27 (by decide +kernel)
theorem dX12_areAlike_49 : decode cX12_areAlike 49 = .ok (.iaload, 1) := dc_46 (by decide +kernel)
theorem dX12_areAlike_50 : decode cX12_areAlike 50 = .ok (.aload_n 0, 1) := dc_42 (by decide +kernel)
theorem dX12_areAlike_51 : decode cX12_areAlike 51 = .ok (.getfield 15, 3) := dc_180 (a := 0) (b := 15) (n := 15) (by decide +kernel)
theorem dX12_areAlike_54 : decode cX12_areAlike 54 = .ok (.iload_n 1, 1) := dc_27 (by decide +kernel)
theorem dX12_areAlike_55 : decode cX12_areAlike 55 = .ok (.iaload, 1) := dc_46 (by decide +kernel)
theorem dX12_areAlike_56 : decode cX12_areAlike 56 = .ok (.isub, 1) := dc_100 (by decide +kernel)
theorem dX12_areAlike_57 : decode cX12_areAlike 57 = .ok (.if_icmp .ne 7, 3) := dc_160 (a := 0) (b := 7) (v := 7) (by decide +kernel)
theorem dX12_areAlike_60 : decode cX12_areAlike 60 = .ok (.iconst 1, 1) := dc_4 (by decide +kernel)
theorem dX12_areAlike_61 : decode cX12_areAlike 61 = .ok (.goto 4, 3) := dc_167 (a := 0) (b := 4) (v := 4) (by decide +kernel)
theorem dX12_areAlike_64 : decode cX12_areAlike 64 = .ok (.iconst 0, 1) := dc_3 (by decide +kernel)
theorem dX12_areAlike_65 : decode cX12_areAlike 65 = .ok (.istore 4, 2) := dc_54 (a := 4) (by decide +kernel)
theorem dX12_areAlike_67 : decode cX12_areAlike 67 = .ok (.iconst 0, 1) := dc_3 (by decide +kernel)
theorem dX12_areAlike_68 : decode cX12_areAlike 68 = .ok (.istore 5, 2) := dc_54 (a := 5) (by decide +kernel)
theorem dX12_areAlike_70 : decode cX12_areAlike 70 = .ok (.iload 4, 2) := dc_21 (a := 4) (by decide +kernel)
theorem dX12_areAlike_72 : decode cX12_areAlike 72 = .ok (.ifCond .eq 53, 3) := dc_153 (a := 0) (b := 53) (v := 53) (by decide +kernel)
theorem dX12_areAlike_75 : decode cX12_areAlike 75 = .ok (.iload 5, 2) := dc_21 (a := 5) (by decide +kernel)
theorem dX12_areAlike_77 : decode cX12_areAlike 77 = .ok (.iload_n 3, 1) := dc_29 (by decide +kernel)
theorem dX12_areAlike_78 : decode cX12_areAlike 78 = .ok (.if_icmp .ge 47, 3) := dc_162 (a := 0) (b := 47) (v := 47) (by decide +kernel)
theorem dX12_areAlike_81 : decode cX12_areAlike 81 = .ok (.aload_n 0, 1) := dc_42 (by decide +kernel)
theorem dX12_areAlike_82 : decode cX12_areAlike 82 = .ok (.getfield 9, 3) := dc_180 (a := 0) (b := 9) (n := 9) (by decide +kernel)
theorem dX12_areAlike_85 : decode cX12_areAlike 85 = .ok (.aload_n 0, 1) := dc_42 (by decide +kernel)
theorem dX12_areAlike_86 : decode cX12_areAlike 86 = .ok (.getfield 15, 3) := dc_180 (a := 0) (b := 15) (n := 15) (by decide +kernel)
theorem dX12_areAlike_89 : decode cX12_areAlike 89 = .ok (.iload_n 1, 1) := dc_27 (by decide +kernel)
theorem dX12_areAlike_90 : decode cX12_areAlike 90 = .ok (.iaload, 1) := dc_46 (by decide +kernel)
theorem dX12_areAlike_91 : decode cX12_areAlike 91 = .ok (.iload 5, 2) := dc_21 (a := 5) (by decide +kernel)
theorem dX12_areAlike_93 : decode cX12_areAlike 93 = .ok (.iadd, 1) := dc_96 (by decide +kernel)
theorem dX12_areAlike_94 : decode cX12_areAlike 94 = .ok (.iaload, 1) := dc_46 (by decide +kernel)
theorem dX12_areAlike_95 : decode cX12_areAlike 95 = .ok (.aload_n 0, 1) := dc_42 (by decide +kernel)
theorem dX12_areAlike_96 : decode cX12_areAlike 96 = .ok (.getfield 9, 3) := dc_180 (a := 0) (b := 9) (n := 9) (by decide +kernel)
theorem dX12_areAlike_99 : decode cX12_areAlike 99 = .ok (.aload_n 0, 1) := dc_42 (by decide +kernel)
theorem dX12_areAlike_100 : decode cX12_areAlike 100 = .ok (.getfield 15, 3) := dc_180 (a := 0) (b := 15) (n := 15) (by decide +kernel)
theorem dX12_areAlike_103 : decode cX12_areAlike 103 = .ok (.iload_n 2, 1) := dc_28 (by decide +kernel)
theorem dX12_areAlike_104 : decode cX12_areAlike 104 = .ok (.iaload, 1) := dc_46 (by decide +kernel)
theorem dX12_areAlike_105 : decode cX12_areAlike 105 = .ok (.iload 5, 2) := dc_21 (a := 5) (by decide +kernel)
theorem dX12_areAlike_107 : decode cX12_areAlike 107 = .ok (.iadd, 1) := dc_96 (by decide +kernel)
theorem dX12_areAlike_108 : decode cX12_areAlike 108 = .ok (.iaload, 1) := dc_46 (by decide +kernel)
theorem dX12_areAlike_109 : decode cX12_areAlike 109 = .ok (.if_icmp .ne 7, 3) := dc_160 (a := 0) (b := 7) (v := 7) (by decide +kernel)
theorem dX12_areAlike_112 : decode cX12_areAlike 112 = .ok (.iconst 1, 1) := dc_4 (by decide +kernel)
theorem dX12_areAlike_113 : decode cX12_areAlike 113 = .ok (.goto 4, 3) := dc_167 (a := 0) (b := 4) (v := 4) (by decide +kernel)
theorem dX12_areAlike_116 : decode cX12_areAlike 116 = .ok (.iconst 0, 1) := dc_3 (by decide +kernel)
theorem dX12_areAlike_117 : decode cX12_areAlike 117 = .ok (.istore 4, 2) := dc_54 (a := 4) (by decide +kernel)
theorem dX12_areAlike_119 : decode cX12_areAlike 119 = .ok (.iinc 5 1, 3) := dc_132 (a := 5) (b := 1) (v := 1) (by decide +kernel)
theorem dX12_areAlike_122 : decode cX12_areAlike 122 = .ok (.goto (-52), 3) := dc_167 (a := 255) (b := 204) (v := -52) (by decide +kernel)
theorem dX12_areAlike_125 : decode cX12_areAlike 125 = .ok (.iload 4, 2) := dc_21 (a := 4) (by decide +kernel)
theorem dX12_areAlike_127 : decode cX12_areAlike 127 = .ok (.ireturn, 1) := dc_172 (by decide +kernel)
def fX12_areAlike_b117 (N : Nat) (k70 : Nat → Int32 → Int32 → Int32 → Int32 → Int32 → eH → Option (Int32 × eH)) (l0 : Nat) (l1 : Int32) (l2 : Int32) (l3 : Int32) (l5 : Int32) (s0 : Int32) (h : eH) : Option (Int32 × eH) :=
  k70 l0 l1 l2 l3 s0 (l5 + (1 : Int32)) h
theorem pX12_areAlike_b117 {w : eW} {d : Nat} (hd : 0 ≤ d) {N : Nat} {k70 : Nat → Int32 → Int32 → Int32 → Int32 → Int32 → eH → Option (Int32 × eH)} (hk70 : ∀ l0 l1 l2 l3 l4 l5 h q, k70 l0 l1 l2 l3 l4 l5 h = some q → wp w d YX12_areAlike 70 [some (.ref l0), some (.int l1), some (.int l2), some (.int l3), some (.int l4), some (.int l5)] [] h (e_is (e_rn c_I q))) {l0 : Nat} {l1 : Int32} {l2 : Int32} {l3 : Int32} {l5 : Int32} {s0 : Int32} {h : eH} {q} (hf : fX12_areAlike_b117 N k70 l0 l1 l2 l3 l5 s0 h = some q) : wp w d YX12_areAlike 117 [some (.ref l0), some (.int l1), some (.int l2), some (.int l3), none, some (.int l5)] [.int s0] h (e_is (e_rn c_I q)) := by
  unfold fX12_areAlike_b117 at hf
  refine w_istore dX12_areAlike_117 (by decide) (ls' := [some (.ref l0), some (.int l1), some (.int l2), some (.int l3), some (.int s0), some (.int l5)]) rfl ?_
  refine w_iinc dX12_areAlike_119 (v := (l5 + (1 : Int32))) rfl rfl (by decide) (ls' := [some (.ref l0), some (.int l1), some (.int l2), some (.int l3), some (.int s0), some (.int (l5 + (1 : Int32)))]) rfl ?_
  refine w_goto 70 dX12_areAlike_122 (by decide) ?_
  exact (hk70 _ _ _ _ _ _ _ _ hf).to ⟨rfl, rfl, rfl, rfl, rfl, rfl, trivial⟩
def fX12_areAlike_b125 (N : Nat) (l4 : Int32) (h : eH) : Option (Int32 × eH) :=
  z_r l4 (l4, h)
theorem pX12_areAlike_b125 {w : eW} {d : Nat} (hd : 0 ≤ d) {N : Nat} {l4 : Int32} {h : eH} {q} (hf : fX12_areAlike_b125 N l4 h = some q) : wp w d YX12_areAlike 125 [none, none, none, none, some (.int l4), none] [] h (e_is (e_rn c_I q)) := by
  unfold fX12_areAlike_b125 at hf
  refine w_iload dX12_areAlike_125 rfl ?_
  obtain ⟨b1, rfl⟩ := z_r_some hf
  exact w_iret dX12_areAlike_127 rfl b1 rfl
def fX12_areAlike_b70 (N : Nat) : Nat → Nat → Int32 → Int32 → Int32 → Int32 → Int32 → eH → Option (Int32 × eH)
  | 0, _, _, _, _, _, _, _ => none
  | n + 1, l0, l1, l2, l3, l4, l5, h =>
    if l4 = 0 then
      fX12_areAlike_b125 N l4 h
    else
      if l3 ≤ l5 then
        fX12_areAlike_b125 N l4 h
      else
        (g_A 11 h l0 1).bind fun a3 =>
        (g_A 11 h l0 3).bind fun a5 =>
        (r_I 100 h a5 l1).bind fun x7 =>
        (r_I 100 h a3 (x7 + l5)).bind fun x9 =>
        (g_A 11 h l0 1).bind fun a11 =>
        (g_A 11 h l0 3).bind fun a13 =>
        (r_I 100 h a13 l2).bind fun x15 =>
        (r_I 100 h a11 (x15 + l5)).bind fun x17 =>
        if ¬ x9 = x17 then
          fX12_areAlike_b117 N (fX12_areAlike_b70 N n) l0 l1 l2 l3 l5 (0 : Int32) h
        else
          fX12_areAlike_b117 N (fX12_areAlike_b70 N n) l0 l1 l2 l3 l5 (1 : Int32) h
theorem pX12_areAlike_b70 {w : eW} {d : Nat} (hd : 0 ≤ d) {N : Nat} : ∀ (n : Nat) l0 l1 l2 l3 l4 l5 h q, fX12_areAlike_b70 N n l0 l1 l2 l3 l4 l5 h = some q → wp w d YX12_areAlike 70 [some (.ref l0), some (.int l1), some (.int l2), some (.int l3), some (.int l4), some (.int l5)] [] h (e_is (e_rn c_I q)) := by
  intro n
  induction n with
  | zero => intro l0 l1 l2 l3 l4 l5 h q hf; simp [fX12_areAlike_b70] at hf
  | succ n ih =>
    intro l0 l1 l2 l3 l4 l5 h q hf
    rw [fX12_areAlike_b70] at hf
    refine w_iload dX12_areAlike_70 rfl ?_
    refine w_if_eq 125 dX12_areAlike_72 (by decide) (fun c1 => ?_) (fun c1 => ?_)
    · replace hf := (if_pos (show l4 = 0 from c1)).symm.trans hf
      exact (pX12_areAlike_b125 hd hf).to ⟨rfl, trivial⟩
    · replace hf := (if_neg (show ¬ (l4 = 0) from c1)).symm.trans hf
      refine w_iload dX12_areAlike_75 rfl ?_
      refine w_iload_n dX12_areAlike_77 rfl rfl ?_
      refine w_icmp_ge 125 dX12_areAlike_78 (by decide) (fun c2 => ?_) (fun c2 => ?_)
      · replace hf := (if_pos (show l3 ≤ l5 from c2)).symm.trans hf
        exact (pX12_areAlike_b125 hd hf).to ⟨rfl, trivial⟩
      · replace hf := (if_neg (show ¬ (l3 ≤ l5) from c2)).symm.trans hf
        refine w_aload_n dX12_areAlike_81 rfl rfl ?_
        obtain ⟨a3, b4, hf⟩ := Option.bind_eq_some_iff.mp hf
        refine GX12_9 b4 dX12_areAlike_82 rfl ?_
        refine w_aload_n dX12_areAlike_85 rfl rfl ?_
        obtain ⟨a5, b6, hf⟩ := Option.bind_eq_some_iff.mp hf
        refine GX12_15 b6 dX12_areAlike_86 rfl ?_
        refine w_iload_n dX12_areAlike_89 rfl rfl ?_
        obtain ⟨x7, b8, hf⟩ := Option.bind_eq_some_iff.mp hf
        refine x_rI b8 dX12_areAlike_90 ?_
        refine w_iload dX12_areAlike_91 rfl ?_
        refine w_iadd dX12_areAlike_93 ?_
        obtain ⟨x9, b10, hf⟩ := Option.bind_eq_some_iff.mp hf
        refine x_rI b10 dX12_areAlike_94 ?_
        refine w_aload_n dX12_areAlike_95 rfl rfl ?_
        obtain ⟨a11, b12, hf⟩ := Option.bind_eq_some_iff.mp hf
        refine GX12_9 b12 dX12_areAlike_96 rfl ?_
        refine w_aload_n dX12_areAlike_99 rfl rfl ?_
        obtain ⟨a13, b14, hf⟩ := Option.bind_eq_some_iff.mp hf
        refine GX12_15 b14 dX12_areAlike_100 rfl ?_
        refine w_iload_n dX12_areAlike_103 rfl rfl ?_
        obtain ⟨x15, b16, hf⟩ := Option.bind_eq_some_iff.mp hf
        refine x_rI b16 dX12_areAlike_104 ?_
        refine w_iload dX12_areAlike_105 rfl ?_
        refine w_iadd dX12_areAlike_107 ?_
        obtain ⟨x17, b18, hf⟩ := Option.bind_eq_some_iff.mp hf
        refine x_rI b18 dX12_areAlike_108 ?_
        refine w_icmp_ne 116 dX12_areAlike_109 (by decide) (fun c19 => ?_) (fun c19 => ?_)
        · replace hf := (if_pos (show ¬ x9 = x17 from c19)).symm.trans hf
          refine w_iconst dX12_areAlike_116 (v := 0) (by decide) ?_
          exact (pX12_areAlike_b117 hd ih hf).to ⟨rfl, rfl, rfl, rfl, rfl, trivial⟩
        · replace hf := (if_neg (show ¬ (¬ x9 = x17) from (fun z => z c19))).symm.trans hf
          refine w_iconst dX12_areAlike_112 (v := 1) (by decide) ?_
          refine w_goto 117 dX12_areAlike_113 (by decide) ?_
          exact (pX12_areAlike_b117 hd ih hf).to ⟨rfl, rfl, rfl, rfl, rfl, trivial⟩
def fX12_areAlike_b65 (N : Nat) (l0 : Nat) (l1 : Int32) (l2 : Int32) (l3 : Int32) (s0 : Int32) (h : eH) : Option (Int32 × eH) :=
  fX12_areAlike_b70 N N l0 l1 l2 l3 s0 (0 : Int32) h
theorem pX12_areAlike_b65 {w : eW} {d : Nat} (hd : 0 ≤ d) {N : Nat} {l0 : Nat} {l1 : Int32} {l2 : Int32} {l3 : Int32} {s0 : Int32} {h : eH} {q} (hf : fX12_areAlike_b65 N l0 l1 l2 l3 s0 h = some q) : wp w d YX12_areAlike 65 [some (.ref l0), some (.int l1), some (.int l2), some (.int l3), none, none] [.int s0] h (e_is (e_rn c_I q)) := by
  unfold fX12_areAlike_b65 at hf
  refine w_istore dX12_areAlike_65 (by decide) (ls' := [some (.ref l0), some (.int l1), some (.int l2), some (.int l3), some (.int s0), none]) rfl ?_
  refine w_iconst dX12_areAlike_67 (v := 0) (by decide) ?_
  refine w_istore dX12_areAlike_68 (by decide) (ls' := [some (.ref l0), some (.int l1), some (.int l2), some (.int l3), some (.int s0), some (.int (0 : Int32))]) rfl ?_
  exact (pX12_areAlike_b70 hd N _ _ _ _ _ _ _ _ hf).to ⟨rfl, rfl, rfl, rfl, rfl, rfl, trivial⟩
def fX12_areAlike_b64 (N : Nat) (l0 : Nat) (l1 : Int32) (l2 : Int32) (l3 : Int32) (h : eH) : Option (Int32 × eH) :=
  fX12_areAlike_b65 N l0 l1 l2 l3 (0 : Int32) h
theorem pX12_areAlike_b64 {w : eW} {d : Nat} (hd : 0 ≤ d) {N : Nat} {l0 : Nat} {l1 : Int32} {l2 : Int32} {l3 : Int32} {h : eH} {q} (hf : fX12_areAlike_b64 N l0 l1 l2 l3 h = some q) : wp w d YX12_areAlike 64 [some (.ref l0), some (.int l1), some (.int l2), some (.int l3), none, none] [] h (e_is (e_rn c_I q)) := by
  unfold fX12_areAlike_b64 at hf
  refine w_iconst dX12_areAlike_64 (v := 0) (by decide) ?_
  exact (pX12_areAlike_b65 hd hf).to ⟨rfl, rfl, rfl, rfl, trivial⟩
def fX12_areAlike (N : Nat) (this : Nat) (p0 : Int32) (p1 : Int32) (h : eH) : Option (Int32 × eH) :=
  (g_A 11 h this 5).bind fun a1 =>
  (r_I 100 h a1 p0).bind fun x3 =>
  (g_A 11 h this 3).bind fun a5 =>
  (r_I 100 h a5 p0).bind fun x7 =>
  (g_A 11 h this 5).bind fun a9 =>
  (r_I 100 h a9 p1).bind fun x11 =>
  (g_A 11 h this 3).bind fun a13 =>
  (r_I 100 h a13 p1).bind fun x15 =>
  if ¬ (x11 - x15) = (x3 - x7) then
    fX12_areAlike_b64 N this p0 p1 (x3 - x7) h
  else
    (g_A 11 h this 4).bind fun a18 =>
    (r_I 100 h a18 p1).bind fun x20 =>
    (g_A 11 h this 3).bind fun a22 =>
    (r_I 100 h a22 p1).bind fun x24 =>
    (g_A 11 h this 4).bind fun a26 =>
    (r_I 100 h a26 p0).bind fun x28 =>
    (g_A 11 h this 3).bind fun a30 =>
    (r_I 100 h a30 p0).bind fun x32 =>
    if ¬ (x20 - x24) = (x28 - x32) then
      fX12_areAlike_b64 N this p0 p1 (x3 - x7) h
    else
      fX12_areAlike_b65 N this p0 p1 (x3 - x7) (1 : Int32) h
theorem pX12_areAlike {w : eW} {d : Nat} (hd : 0 ≤ d) {N : Nat} {this : Nat} {p0 : Int32} {p1 : Int32} {h : eH} {q} (hf : fX12_areAlike N this p0 p1 h = some q) : wm w d YX12_areAlike [.ref this, .int p0, .int p1] h (e_is (e_rn c_I q)) := by
  show wp w d YX12_areAlike 0 [some (.ref this), some (.int p0), some (.int p1), none, none, none] [] h _
  unfold fX12_areAlike at hf
  refine w_aload_n dX12_areAlike_0 rfl rfl ?_
  obtain ⟨a1, b2, hf⟩ := Option.bind_eq_some_iff.mp hf
  refine GX12_21 b2 dX12_areAlike_1 rfl ?_
  refine w_iload_n dX12_areAlike_4 rfl rfl ?_
  obtain ⟨x3, b4, hf⟩ := Option.bind_eq_some_iff.mp hf
  refine x_rI b4 dX12_areAlike_5 ?_
  refine w_aload_n dX12_areAlike_6 rfl rfl ?_
  obtain ⟨a5, b6, hf⟩ := Option.bind_eq_some_iff.mp hf
  refine GX12_15 b6 dX12_areAlike_7 rfl ?_
  refine w_iload_n dX12_areAlike_10 rfl rfl ?_
  obtain ⟨x7, b8, hf⟩ := Option.bind_eq_some_iff.mp hf
  refine x_rI b8 dX12_areAlike_11 ?_
  refine w_isub dX12_areAlike_12 ?_
  refine w_istore_n dX12_areAlike_13 rfl (by decide) (ls' := [some (.ref this), some (.int p0), some (.int p1), some (.int (x3 - x7)), none, none]) rfl ?_
  refine w_aload_n dX12_areAlike_14 rfl rfl ?_
  obtain ⟨a9, b10, hf⟩ := Option.bind_eq_some_iff.mp hf
  refine GX12_21 b10 dX12_areAlike_15 rfl ?_
  refine w_iload_n dX12_areAlike_18 rfl rfl ?_
  obtain ⟨x11, b12, hf⟩ := Option.bind_eq_some_iff.mp hf
  refine x_rI b12 dX12_areAlike_19 ?_
  refine w_aload_n dX12_areAlike_20 rfl rfl ?_
  obtain ⟨a13, b14, hf⟩ := Option.bind_eq_some_iff.mp hf
  refine GX12_15 b14 dX12_areAlike_21 rfl ?_
  refine w_iload_n dX12_areAlike_24 rfl rfl ?_
  obtain ⟨x15, b16, hf⟩ := Option.bind_eq_some_iff.mp hf
  refine x_rI b16 dX12_areAlike_25 ?_
  refine w_isub dX12_areAlike_26 ?_
  refine w_iload_n dX12_areAlike_27 rfl rfl ?_
  refine w_icmp_ne 64 dX12_areAlike_28 (by decide) (fun c17 => ?_) (fun c17 => ?_)
  · replace hf := (if_pos (show ¬ (x11 - x15) = (x3 - x7) from c17)).symm.trans hf
    exact (pX12_areAlike_b64 hd hf).to ⟨rfl, rfl, rfl, rfl, trivial⟩
  · replace hf := (if_neg (show ¬ (¬ (x11 - x15) = (x3 - x7)) from (fun z => z c17))).symm.trans hf
    refine w_aload_n dX12_areAlike_31 rfl rfl ?_
    obtain ⟨a18, b19, hf⟩ := Option.bind_eq_some_iff.mp hf
    refine GX12_18 b19 dX12_areAlike_32 rfl ?_
    refine w_iload_n dX12_areAlike_35 rfl rfl ?_
    obtain ⟨x20, b21, hf⟩ := Option.bind_eq_some_iff.mp hf
    refine x_rI b21 dX12_areAlike_36 ?_
    refine w_aload_n dX12_areAlike_37 rfl rfl ?_
    obtain ⟨a22, b23, hf⟩ := Option.bind_eq_some_iff.mp hf
    refine GX12_15 b23 dX12_areAlike_38 rfl ?_
    refine w_iload_n dX12_areAlike_41 rfl rfl ?_
    obtain ⟨x24, b25, hf⟩ := Option.bind_eq_some_iff.mp hf
    refine x_rI b25 dX12_areAlike_42 ?_
    refine w_isub dX12_areAlike_43 ?_
    refine w_aload_n dX12_areAlike_44 rfl rfl ?_
    obtain ⟨a26, b27, hf⟩ := Option.bind_eq_some_iff.mp hf
    refine GX12_18 b27 dX12_areAlike_45 rfl ?_
    refine w_iload_n dX12_areAlike_48 rfl rfl ?_
    obtain ⟨x28, b29, hf⟩ := Option.bind_eq_some_iff.mp hf
    refine x_rI b29 dX12_areAlike_49 ?_
    refine w_aload_n dX12_areAlike_50 rfl rfl ?_
    obtain ⟨a30, b31, hf⟩ := Option.bind_eq_some_iff.mp hf
    refine GX12_15 b31 dX12_areAlike_51 rfl ?_
    refine w_iload_n dX12_areAlike_54 rfl rfl ?_
    obtain ⟨x32, b33, hf⟩ := Option.bind_eq_some_iff.mp hf
    refine x_rI b33 dX12_areAlike_55 ?_
    refine w_isub dX12_areAlike_56 ?_
    refine w_icmp_ne 64 dX12_areAlike_57 (by decide) (fun c34 => ?_) (fun c34 => ?_)
    · replace hf := (if_pos (show ¬ (x20 - x24) = (x28 - x32) from c34)).symm.trans hf
      exact (pX12_areAlike_b64 hd hf).to ⟨rfl, rfl, rfl, rfl, trivial⟩
    · replace hf := (if_neg (show ¬ (¬ (x20 - x24) = (x28 - x32)) from (fun z => z c34))).symm.trans hf
      refine w_iconst dX12_areAlike_60 (v := 1) (by decide) ?_
      refine w_goto 65 dX12_areAlike_61 (by decide) ?_
      exact (pX12_areAlike_b65 hd hf).to ⟨rfl, rfl, rfl, rfl, trivial⟩
abbrev cX8_areAlike : ByteArray := prog_4_method_73_code
def yX8_areAlike : MethodName := ⟨RX8, "areAlike", "(II)Z"⟩
def YX8_areAlike : eY := (yX8_areAlike, cX8_areAlike, 3, (Option.some FieldType.boolean), [])
theorem mX8_areAlike : e_mv YX8_areAlike RX8 2 := ⟨q2700, qs86, q2701, by decide, by decide +kernel, (e_sig (by decide +kernel))⟩
theorem dX8_areAlike_0 : decode cX8_areAlike 0 = .ok (.aload_n 0, 1) := dc_42 (by decide +kernel)
theorem dX8_areAlike_1 : decode cX8_areAlike 1 = .ok (.iload_n 1, 1) := dc_27 (by decide +kernel)
theorem dX8_areAlike_2 : decode cX8_areAlike 2 = .ok (.invokevirtual 174, 3) := dc_182 (a := 0) (b := 174) (n := 174) (by decide +kernel)
theorem dX8_areAlike_5 : decode cX8_areAlike 5 = .ok (.aload_n 0, 1) := dc_42 (by decide +kernel)
theorem dX8_areAlike_6 : decode cX8_areAlike 6 = .ok (.iload_n 2, 1) := dc_28 (by decide +kernel)
theorem dX8_areAlike_7 : decode cX8_areAlike 7 = .ok (.invokevirtual 174, 3) := dc_182 (a := 0) (b := 174) (n := 174) (by decide +kernel)
theorem dX8_areAlike_10 : decode cX8_areAlike 10 = .ok (.if_icmp .eq 5, 3) := dc_159 (a := 0) (b := 5) (v := 5) (by decide +kernel)
theorem dX8_areAlike_13 : decode cX8_areAlike 13 = .ok (.iconst 0, 1) := dc_3 (by decide +kernel)
theorem dX8_areAlike_14 : decode cX8_areAlike 14 = .ok (.ireturn, 1) := dc_172 (by decide +kernel)
theorem dX8_areAlike_15 : decode cX8_areAlike 15 = .ok (.aload_n 0, 1) := dc_42 (by decide +kernel)
theorem dX8_areAlike_16 : decode cX8_areAlike 16 = .ok (.iload_n 1, 1) := dc_27 (by decide +kernel)
theorem dX8_areAlike_17 : decode cX8_areAlike 17 = .ok (.invokevirtual 174, 3) := dc_182 (a := 0) (b := 174) (n := 174) (by decide +kernel)
theorem dX8_areAlike_20 : decode cX8_areAlike 20 = .ok (.iconst 2, 1) := dc_5 (by decide +kernel)
theorem dX8_areAlike_21 : decode cX8_areAlike 21 = .ok (.if_icmp .ne 21, 3) := dc_160 (a := 0) (b := 21) (v := 21) (by decide +kernel)
theorem dX8_areAlike_24 : decode cX8_areAlike 24 = .ok (.aload_n 0, 1) := dc_42 (by decide +kernel)
theorem dX8_areAlike_25 : decode cX8_areAlike 25 = .ok (.getfield 84, 3) := dc_180 (a := 0) (b := 84) (n := 84) (by decide +kernel)
theorem dX8_areAlike_28 : decode cX8_areAlike 28 = .ok (.aload_n 0, 1) := dc_42 (by decide +kernel)
theorem dX8_areAlike_29 : decode cX8_areAlike 29 = .ok (.iload_n 1, 1) := dc_27 (by decide +kernel)
theorem dX8_areAlike_30 : decode cX8_areAlike 30 = .ok (.invokevirtual 178, 3) := dc_182 (a := 0) (b := 178) (n := 178) (by decide +kernel)
theorem dX8_areAlike_33 : decode cX8_areAlike 33 = .ok (.aload_n 0, 1) := dc_42 (by decide +kernel)
theorem dX8_areAlike_34 : decode cX8_areAlike 34 = .ok (.iload_n 2, 1) := dc_28 (by decide +kernel)
theorem dX8_areAlike_35 : decode cX8_areAlike 35 = .ok (.invokevirtual 178, 3) := dc_182 (a := 0) (b := 178) (n := 178) (by decide +kernel)
theorem dX8_areAlike_38 : decode cX8_areAlike 38 = .ok (.invokevirtual 565, 3) := dc_182 (a := 2) (b := 53) (n := 565) (by decide +kernel)
theorem dX8_areAlike_41 : decode cX8_areAlike 41 = .ok (.ireturn, 1) := dc_172 (by decide +kernel)
theorem dX8_areAlike_42 : decode cX8_areAlike 42 = .ok (.aload_n 0, 1) := dc_42 (by decide +kernel)
theorem dX8_areAlike_43 : decode cX8_areAlike 43 = .ok (.iload_n 1, 1) := dc_27 (by decide +kernel)
theorem dX8_areAlike_44 : decode cX8_areAlike 44 = .ok (.invokevirtual 174, 3) := dc_182 (a := 0) (b := 174) (n := 174) (by decide +kernel)
theorem dX8_areAlike_47 : decode cX8_areAlike 47 = .ok (.ifCond .eq 16, 3) := dc_153 (a := 0) (b := 16) (v := 16) (by decide +kernel)
theorem dX8_areAlike_50 : decode cX8_areAlike 50 = .ok (.aload_n 0, 1) := dc_42 (by decide +kernel)
theorem dX8_areAlike_51 : decode cX8_areAlike 51 = .ok (.iload_n 1, 1) := dc_27 (by decide +kernel)
theorem dX8_areAlike_52 : decode cX8_areAlike 52 = .ok (.invokevirtual 178, 3) := dc_182 (a := 0) (b := 178) (n := 178) (by decide +kernel)
theorem dX8_areAlike_55 : decode cX8_areAlike 55 = .ok (.aload_n 0, 1) := dc_42 (by decide +kernel)
theorem dX8_areAlike_56 : decode cX8_areAlike 56 = .ok (.iload_n 2, 1) := dc_28 (by decide +kernel)
theorem dX8_areAlike_57 : decode cX8_areAlike 57 = .ok (.invokevirtual 178, 3) := dc_182 (a := 0) (b := 178) (n := 178) (by decide +kernel)
theorem dX8_areAlike_60 : decode cX8_areAlike 60 = .ok (.if_icmp .ne 7, 3) := dc_160 (a := 0) (b := 7) (v := 7) (by decide +kernel)
theorem dX8_areAlike_63 : decode cX8_areAlike 63 = .ok (.iconst 1, 1) := dc_4 (by decide +kernel)
theorem dX8_areAlike_64 : decode cX8_areAlike 64 = .ok (.goto 4, 3) := dc_167 (a := 0) (b := 4) (v := 4) (by decide +kernel)
theorem dX8_areAlike_67 : decode cX8_areAlike 67 = .ok (.iconst 0, 1) := dc_3 (by decide +kernel)
theorem dX8_areAlike_68 : decode cX8_areAlike 68 = .ok (.ireturn, 1) := dc_172 (by decide +kernel)
def fX8_areAlike_b68 (N : Nat) (s0 : Int32) (h : eH) : Option (Int32 × eH) :=
  z_r s0 (s0, h)
theorem pX8_areAlike_b68 {w : eW} {d : Nat} (hd : 2 ≤ d + 1) {N : Nat} {s0 : Int32} {h : eH} {q} (hf : fX8_areAlike_b68 N s0 h = some q) : wp w (d + 1) YX8_areAlike 68 [none, none, none] [.int s0] h (e_is (e_rn c_I q)) := by
  unfold fX8_areAlike_b68 at hf
  obtain ⟨b1, rfl⟩ := z_r_some hf
  exact w_iret dX8_areAlike_68 rfl b1 rfl
def fX8_areAlike_b63 (N : Nat)  (h : eH) : Option (Int32 × eH) :=
  fX8_areAlike_b68 N (1 : Int32) h
theorem pX8_areAlike_b63 {w : eW} {d : Nat} (hd : 2 ≤ d + 1) {N : Nat}  {h : eH} {q} (hf : fX8_areAlike_b63 N h = some q) : wp w (d + 1) YX8_areAlike 63 [none, none, none] [] h (e_is (e_rn c_I q)) := by
  unfold fX8_areAlike_b63 at hf
  refine w_iconst dX8_areAlike_63 (v := 1) (by decide) ?_
  refine w_goto 68 dX8_areAlike_64 (by decide) ?_
  exact (pX8_areAlike_b68 hd hf).to trivial
def fX8_areAlike (N : Nat) (this : Nat) (p0 : Int32) (p1 : Int32) (h : eH) : Option (Int32 × eH) :=
  (k_ok 7 h this).bind fun _ =>
  (fX8_kind this p0 h).bind fun q2 =>
  (k_ok 7 q2.2 this).bind fun _ =>
  (fX8_kind this p1 q2.2).bind fun q4 =>
  if q2.1 = q4.1 then
    (k_ok 7 q4.2 this).bind fun _ =>
    (fX8_kind this p0 q4.2).bind fun q7 =>
    if ¬ q7.1 = (2 : Int32) then
      (k_ok 7 q7.2 this).bind fun _ =>
      (fX8_kind this p0 q7.2).bind fun q10 =>
      if q10.1 = 0 then
        fX8_areAlike_b63 N q10.2
      else
        (k_ok 7 q10.2 this).bind fun _ =>
        (fX8_value this p0 q10.2).bind fun q13 =>
        (k_ok 7 q13.2 this).bind fun _ =>
        (fX8_value this p1 q13.2).bind fun q15 =>
        if ¬ q13.1 = q15.1 then
          fX8_areAlike_b68 N (0 : Int32) q15.2
        else
          fX8_areAlike_b63 N q15.2
    else
      (g_A 7 q7.2 this 6).bind fun a17 =>
      (k_ok 7 q7.2 this).bind fun _ =>
      (fX8_value this p0 q7.2).bind fun q20 =>
      (k_ok 7 q20.2 this).bind fun _ =>
      (fX8_value this p1 q20.2).bind fun q22 =>
      (k_ok 11 q22.2 a17).bind fun _ =>
      (fX12_areAlike N a17 q20.1 q22.1 q22.2).bind fun q24 =>
      z_r q24.1 (q24.1, q24.2)
  else
    some ((0 : Int32), q4.2)
theorem pX8_areAlike {w : eW} {d : Nat} (hd : 2 ≤ d) {N : Nat} {this : Nat} {p0 : Int32} {p1 : Int32} {h : eH} {q} (hf : fX8_areAlike N this p0 p1 h = some q) : wm w d YX8_areAlike [.ref this, .int p0, .int p1] h (e_is (e_rn c_I q)) := by
  obtain ⟨d, rfl⟩ : ∃ e, d = e + 1 := ⟨d - 1, by omega⟩
  show wp w (d + 1) YX8_areAlike 0 [some (.ref this), some (.int p0), some (.int p1)] [] h _
  unfold fX8_areAlike at hf
  refine w_aload_n dX8_areAlike_0 rfl rfl ?_
  refine w_iload_n dX8_areAlike_1 rfl rfl ?_
  obtain ⟨_, b1, hf⟩ := Option.bind_eq_some_iff.mp hf
  refine x_cnI hf (e_stV (Yc := YX8_kind) (ci := 7) (av := [.int p0]) (st := []) dX8_areAlike_2 q2477 mX8_kind rfl (k_ok_some b1).1 (k_ok_some b1).2) mX8_kind.2.2.1 mX8_kind.2.2.2.2.1 (Nat.le_of_ble_eq_true rfl) (Nat.le_of_ble_eq_true rfl) (fun q hq => pX8_kind (by omega) hq) (fun q2 hf => ?_)
  refine w_aload_n dX8_areAlike_5 rfl rfl ?_
  refine w_iload_n dX8_areAlike_6 rfl rfl ?_
  obtain ⟨_, b3, hf⟩ := Option.bind_eq_some_iff.mp hf
  refine x_cnI hf (e_stV (Yc := YX8_kind) (ci := 7) (av := [.int p1]) (st := [.int q2.1]) dX8_areAlike_7 q2477 mX8_kind rfl (k_ok_some b3).1 (k_ok_some b3).2) mX8_kind.2.2.1 mX8_kind.2.2.2.2.1 (Nat.le_of_ble_eq_true rfl) (Nat.le_of_ble_eq_true rfl) (fun q hq => pX8_kind (by omega) hq) (fun q4 hf => ?_)
  refine w_icmp_eq 15 dX8_areAlike_10 (by decide) (fun c5 => ?_) (fun c5 => ?_)
  · replace hf := (if_pos (show q2.1 = q4.1 from c5)).symm.trans hf
    refine w_aload_n dX8_areAlike_15 rfl rfl ?_
    refine w_iload_n dX8_areAlike_16 rfl rfl ?_
    obtain ⟨_, b6, hf⟩ := Option.bind_eq_some_iff.mp hf
    refine x_cnI hf (e_stV (Yc := YX8_kind) (ci := 7) (av := [.int p0]) (st := []) dX8_areAlike_17 q2477 mX8_kind rfl (k_ok_some b6).1 (k_ok_some b6).2) mX8_kind.2.2.1 mX8_kind.2.2.2.2.1 (Nat.le_of_ble_eq_true rfl) (Nat.le_of_ble_eq_true rfl) (fun q hq => pX8_kind (by omega) hq) (fun q7 hf => ?_)
    refine w_iconst dX8_areAlike_20 (v := 2) (by decide) ?_
    refine w_icmp_ne 42 dX8_areAlike_21 (by decide) (fun c8 => ?_) (fun c8 => ?_)
    · replace hf := (if_pos (show ¬ q7.1 = (2 : Int32) from c8)).symm.trans hf
      refine w_aload_n dX8_areAlike_42 rfl rfl ?_
      refine w_iload_n dX8_areAlike_43 rfl rfl ?_
      obtain ⟨_, b9, hf⟩ := Option.bind_eq_some_iff.mp hf
      refine x_cnI hf (e_stV (Yc := YX8_kind) (ci := 7) (av := [.int p0]) (st := []) dX8_areAlike_44 q2477 mX8_kind rfl (k_ok_some b9).1 (k_ok_some b9).2) mX8_kind.2.2.1 mX8_kind.2.2.2.2.1 (Nat.le_of_ble_eq_true rfl) (Nat.le_of_ble_eq_true rfl) (fun q hq => pX8_kind (by omega) hq) (fun q10 hf => ?_)
      refine w_if_eq 63 dX8_areAlike_47 (by decide) (fun c11 => ?_) (fun c11 => ?_)
      · replace hf := (if_pos (show q10.1 = 0 from c11)).symm.trans hf
        exact (pX8_areAlike_b63 hd hf).to trivial
      · replace hf := (if_neg (show ¬ (q10.1 = 0) from c11)).symm.trans hf
        refine w_aload_n dX8_areAlike_50 rfl rfl ?_
        refine w_iload_n dX8_areAlike_51 rfl rfl ?_
        obtain ⟨_, b12, hf⟩ := Option.bind_eq_some_iff.mp hf
        refine x_cnI hf (e_stV (Yc := YX8_value) (ci := 7) (av := [.int p0]) (st := []) dX8_areAlike_52 q2488 mX8_value rfl (k_ok_some b12).1 (k_ok_some b12).2) mX8_value.2.2.1 mX8_value.2.2.2.2.1 (Nat.le_of_ble_eq_true rfl) (Nat.le_of_ble_eq_true rfl) (fun q hq => pX8_value (by omega) hq) (fun q13 hf => ?_)
        refine w_aload_n dX8_areAlike_55 rfl rfl ?_
        refine w_iload_n dX8_areAlike_56 rfl rfl ?_
        obtain ⟨_, b14, hf⟩ := Option.bind_eq_some_iff.mp hf
        refine x_cnI hf (e_stV (Yc := YX8_value) (ci := 7) (av := [.int p1]) (st := [.int q13.1]) dX8_areAlike_57 q2488 mX8_value rfl (k_ok_some b14).1 (k_ok_some b14).2) mX8_value.2.2.1 mX8_value.2.2.2.2.1 (Nat.le_of_ble_eq_true rfl) (Nat.le_of_ble_eq_true rfl) (fun q hq => pX8_value (by omega) hq) (fun q15 hf => ?_)
        refine w_icmp_ne 67 dX8_areAlike_60 (by decide) (fun c16 => ?_) (fun c16 => ?_)
        · replace hf := (if_pos (show ¬ q13.1 = q15.1 from c16)).symm.trans hf
          refine w_iconst dX8_areAlike_67 (v := 0) (by decide) ?_
          exact (pX8_areAlike_b68 hd hf).to trivial
        · replace hf := (if_neg (show ¬ (¬ q13.1 = q15.1) from (fun z => z c16))).symm.trans hf
          exact (pX8_areAlike_b63 hd hf).to trivial
    · replace hf := (if_neg (show ¬ (¬ q7.1 = (2 : Int32)) from (fun z => z c8))).symm.trans hf
      refine w_aload_n dX8_areAlike_24 rfl rfl ?_
      obtain ⟨a17, b18, hf⟩ := Option.bind_eq_some_iff.mp hf
      refine GX8_84 b18 dX8_areAlike_25 rfl ?_
      refine w_aload_n dX8_areAlike_28 rfl rfl ?_
      refine w_iload_n dX8_areAlike_29 rfl rfl ?_
      obtain ⟨_, b19, hf⟩ := Option.bind_eq_some_iff.mp hf
      refine x_cnI hf (e_stV (Yc := YX8_value) (ci := 7) (av := [.int p0]) (st := [.ref a17]) dX8_areAlike_30 q2488 mX8_value rfl (k_ok_some b19).1 (k_ok_some b19).2) mX8_value.2.2.1 mX8_value.2.2.2.2.1 (Nat.le_of_ble_eq_true rfl) (Nat.le_of_ble_eq_true rfl) (fun q hq => pX8_value (by omega) hq) (fun q20 hf => ?_)
      refine w_aload_n dX8_areAlike_33 rfl rfl ?_
      refine w_iload_n dX8_areAlike_34 rfl rfl ?_
      obtain ⟨_, b21, hf⟩ := Option.bind_eq_some_iff.mp hf
      refine x_cnI hf (e_stV (Yc := YX8_value) (ci := 7) (av := [.int p1]) (st := [.int q20.1, .ref a17]) dX8_areAlike_35 q2488 mX8_value rfl (k_ok_some b21).1 (k_ok_some b21).2) mX8_value.2.2.1 mX8_value.2.2.2.2.1 (Nat.le_of_ble_eq_true rfl) (Nat.le_of_ble_eq_true rfl) (fun q hq => pX8_value (by omega) hq) (fun q22 hf => ?_)
      obtain ⟨_, b23, hf⟩ := Option.bind_eq_some_iff.mp hf
      refine x_cnI hf (e_stV (Yc := YX12_areAlike) (ci := 11) (av := [.int q20.1, .int q22.1]) (st := []) dX8_areAlike_38 q2702 mX12_areAlike rfl (k_ok_some b23).1 (k_ok_some b23).2) mX12_areAlike.2.2.1 mX12_areAlike.2.2.2.2.1 (Nat.le_of_ble_eq_true rfl) (Nat.le_of_ble_eq_true rfl) (fun q hq => pX12_areAlike (by omega) hq) (fun q24 hf => ?_)
      obtain ⟨b25, rfl⟩ := z_r_some hf
      exact w_iret dX8_areAlike_41 rfl b25 rfl
  · replace hf := (if_neg (show ¬ (q2.1 = q4.1) from c5)).symm.trans hf
    refine w_iconst dX8_areAlike_13 (v := 0) (by decide) ?_
    cases hf
    exact w_iret dX8_areAlike_14 rfl rfl rfl
abbrev cX8_take : ByteArray := prog_4_method_23_code
def yX8_take : MethodName := ⟨RX8, "take", "(I)V"⟩
def YX8_take : eY := (yX8_take, cX8_take, 2, none, [])
theorem mX8_take : e_mv YX8_take RX8 1 := ⟨q2527, qs56, q2528, by decide, by decide +kernel, (e_sig (by decide +kernel))⟩
theorem dX8_take_0 : decode cX8_take 0 = .ok (.aload_n 0, 1) := dc_42 (by decide +kernel)
theorem dX8_take_1 : decode cX8_take 1 = .ok (.aload_n 0, 1) := dc_42 (by decide +kernel)
theorem dX8_take_2 : decode cX8_take 2 = .ok (.getfield 28, 3) := dc_180 (a := 0) (b := 28) (n := 28) (by decide +kernel)
theorem dX8_take_5 : decode cX8_take 5 = .ok (.aload_n 0, 1) := dc_42 (by decide +kernel)
theorem dX8_take_6 : decode cX8_take 6 = .ok (.getfield 288, 3) := dc_180 (a := 1) (b := 32) (n := 288) (by decide +kernel)
theorem dX8_take_9 : decode cX8_take 9 = .ok (.iconst 1, 1) := dc_4 (by decide +kernel)
theorem dX8_take_10 : decode cX8_take 10 = .ok (.iadd, 1) := dc_96 (by decide +kernel)
theorem dX8_take_11 : decode cX8_take 11 = .ok (.invokestatic 291, 3) := dc_184 (a := 1) (b := 35) (n := 291) (by decide +kernel)
theorem dX8_take_14 : decode cX8_take 14 = .ok (.putfield 28, 3) := dc_181 (a := 0) (b := 28) (n := 28) (by decide +kernel)
theorem dX8_take_17 : decode cX8_take 17 = .ok (.aload_n 0, 1) := dc_42 (by decide +kernel)
theorem dX8_take_18 : decode cX8_take 18 = .ok (.getfield 28, 3) := dc_180 (a := 0) (b := 28) (n := 28) (by decide +kernel)
theorem dX8_take_21 : decode cX8_take 21 = .ok (.aload_n 0, 1) := dc_42 (by decide +kernel)
theorem dX8_take_22 : decode cX8_take 22 = .ok (.dup, 1) := dc_89 (by decide +kernel)
theorem dX8_take_23 : decode cX8_take 23 = .ok (.getfield 288, 3) := dc_180 (a := 1) (b := 32) (n := 288) (by decide +kernel)
theorem dX8_take_26 : decode cX8_take 26 = .ok (.dup_x1, 1) := dc_90 (by decide +kernel)
theorem dX8_take_27 : decode cX8_take 27 = .ok (.iconst 1, 1) := dc_4 (by decide +kernel)
theorem dX8_take_28 : decode cX8_take 28 = .ok (.iadd, 1) := dc_96 (by decide +kernel)
theorem dX8_take_29 : decode cX8_take 29 = .ok (.putfield 288, 3) := dc_181 (a := 1) (b := 32) (n := 288) (by decide +kernel)
theorem dX8_take_32 : decode cX8_take 32 = .ok (.iload_n 1, 1) := dc_27 (by decide +kernel)
theorem dX8_take_33 : decode cX8_take 33 = .ok (.iastore, 1) := dc_79 (by decide +kernel)
theorem dX8_take_34 : decode cX8_take 34 = .ok (.return_, 1) := dc_177 (by decide +kernel)
theorem GX8_28 {w : eW} {d : Nat} {Y : eY} {pc : Nat} {ls : eL} {st : List Value} {h : eH} {Q : eO → eH → Prop} {a : Nat} {x : Nat} (hf : g_A 7 h a 16 = some x) (hd : decode Y.2.1 pc = .ok (.getfield 28, 3)) (hY : Y.1.cls = RX8) (kk : wp w d Y (pc + 3) ls (.ref x :: st) h Q) : wp w d Y pc ls (.ref a :: st) h Q := x_gA (ci := 7) (k := 16) hf hd rfl (by decide) (by rw [hY]; exact q854) kk
theorem GX8_288 {w : eW} {d : Nat} {Y : eY} {pc : Nat} {ls : eL} {st : List Value} {h : eH} {Q : eO → eH → Prop} {a : Nat} {x : Int32} (hf : g_I 7 h a 17 = some x) (hd : decode Y.2.1 pc = .ok (.getfield 288, 3)) (hY : Y.1.cls = RX8) (kk : wp w d Y (pc + 3) ls (.int x :: st) h Q) : wp w d Y pc ls (.ref a :: st) h Q := x_gI (ci := 7) (k := 17) hf hd rfl (by decide) (by rw [hY]; exact q855) kk
theorem SX8_288 {w : eW} {d : Nat} {Y : eY} {pc : Nat} {ls : eL} {st : List Value} {h : eH} {Q : eO → eH → Prop} {a : Nat} {h' : eH} {x : Int32} (hf : p_V 7 h a 17 (.int x) = some h') (hd : decode Y.2.1 pc = .ok (.putfield 288, 3)) (hY : Y.1.cls = RX8) (kk : wp w d Y (pc + 3) ls st h' Q) : wp w d Y pc ls (.int x :: .ref a :: st) h Q := x_pI (ci := 7) (k := 17) hf hd rfl (by decide) (by rw [hY]; exact q855) rfl rfl kk
def fX8_take (this : Nat) (p0 : Int32) (h : eH) : Option (Unit × eH) :=
  (g_A 7 h this 16).bind fun a1 =>
  (g_I 7 h this 17).bind fun x3 =>
  (fX1_grown a1 (x3 + (1 : Int32)) h).bind fun q5 =>
  (p_V 7 q5.2 this 16 (.ref q5.1)).bind fun h6 =>
  (g_A 7 h6 this 16).bind fun a8 =>
  (g_I 7 h6 this 17).bind fun x10 =>
  (p_V 7 h6 this 17 (.int (x10 + (1 : Int32)))).bind fun h12 =>
  (q_V 100 h12 a8 x10 (.int p0)).bind fun h14 =>
  some ((), h14)
theorem pX8_take {w : eW} {d : Nat} (hd : 2 ≤ d) {this : Nat} {p0 : Int32} {h : eH} {q} (hf : fX8_take this p0 h = some q) : wm w d YX8_take [.ref this, .int p0] h (e_is (e_rn c_V q)) := by
  obtain ⟨d, rfl⟩ : ∃ e, d = e + 1 := ⟨d - 1, by omega⟩
  show wp w (d + 1) YX8_take 0 [some (.ref this), some (.int p0)] [] h _
  unfold fX8_take at hf
  refine w_aload_n dX8_take_0 rfl rfl ?_
  refine w_aload_n dX8_take_1 rfl rfl ?_
  obtain ⟨a1, b2, hf⟩ := Option.bind_eq_some_iff.mp hf
  refine GX8_28 b2 dX8_take_2 rfl ?_
  refine w_aload_n dX8_take_5 rfl rfl ?_
  obtain ⟨x3, b4, hf⟩ := Option.bind_eq_some_iff.mp hf
  refine GX8_288 b4 dX8_take_6 rfl ?_
  refine w_iconst dX8_take_9 (v := 1) (by decide) ?_
  refine w_iadd dX8_take_10 ?_
  refine x_cnA hf (e_stSN (Yc := YX1_grown) (av := [.ref a1, .int (x3 + (1 : Int32))]) (st := [.ref this]) dX8_take_11 q2529 mX1_grown) mX1_grown.2.2.1 mX1_grown.2.2.2.2.1 (Nat.le_of_ble_eq_true rfl) (Nat.le_of_ble_eq_true rfl) (fun q hq => pX1_grown (by omega) hq) (fun q5 hf => ?_)
  obtain ⟨h6, b7, hf⟩ := Option.bind_eq_some_iff.mp hf
  refine SX8_28 b7 dX8_take_14 rfl ?_
  refine w_aload_n dX8_take_17 rfl rfl ?_
  obtain ⟨a8, b9, hf⟩ := Option.bind_eq_some_iff.mp hf
  refine GX8_28 b9 dX8_take_18 rfl ?_
  refine w_aload_n dX8_take_21 rfl rfl ?_
  refine w_dup dX8_take_22 rfl ?_
  obtain ⟨x10, b11, hf⟩ := Option.bind_eq_some_iff.mp hf
  refine GX8_288 b11 dX8_take_23 rfl ?_
  refine w_dup_x1 dX8_take_26 rfl rfl ?_
  refine w_iconst dX8_take_27 (v := 1) (by decide) ?_
  refine w_iadd dX8_take_28 ?_
  obtain ⟨h12, b13, hf⟩ := Option.bind_eq_some_iff.mp hf
  refine SX8_288 b13 dX8_take_29 rfl ?_
  refine w_iload_n dX8_take_32 rfl rfl ?_
  obtain ⟨h14, b15, hf⟩ := Option.bind_eq_some_iff.mp hf
  refine x_qI b15 dX8_take_33 ?_
  cases hf
  exact w_vret dX8_take_34 rfl rfl
abbrev cX8_single : ByteArray := prog_4_method_25_code
def yX8_single : MethodName := ⟨RX8, "single", "()V"⟩
def YX8_single : eY := (yX8_single, cX8_single, 4, none, [])
theorem mX8_single : e_mv YX8_single RX8 0 := ⟨q2516, qs55, q2517, by decide, by decide +kernel, (e_sig (by decide +kernel))⟩
theorem dX8_single_0 : decode cX8_single 0 = .ok (.aload_n 0, 1) := dc_42 (by decide +kernel)
theorem dX8_single_1 : decode cX8_single 1 = .ok (.invokevirtual 213, 3) := dc_182 (a := 0) (b := 213) (n := 213) (by decide +kernel)
theorem dX8_single_4 : decode cX8_single 4 = .ok (.istore_n 1, 1) := dc_60 (by decide +kernel)
theorem dX8_single_5 : decode cX8_single 5 = .ok (.iload_n 1, 1) := dc_27 (by decide +kernel)
theorem dX8_single_6 : decode cX8_single 6 = .ok (.bipush 10, 2) := dc_16 (a := 10) (v := 10) (by decide +kernel)
theorem dX8_single_8 : decode cX8_single 8 = .ok (.invokestatic 193, 3) := dc_184 (a := 0) (b := 193) (n := 193) (by decide +kernel)
theorem dX8_single_11 : decode cX8_single 11 = .ok (.ifCond .eq 11, 3) := dc_153 (a := 0) (b := 11) (v := 11) (by decide +kernel)
theorem dX8_single_14 : decode cX8_single 14 = .ok (.aload_n 0, 1) := dc_42 (by decide +kernel)
theorem dX8_single_15 : decode cX8_single 15 = .ok (.invokevirtual 213, 3) := dc_182 (a := 0) (b := 213) (n := 213) (by decide +kernel)
theorem dX8_single_18 : decode cX8_single 18 = .ok (.istore_n 1, 1) := dc_60 (by decide +kernel)
theorem dX8_single_19 : decode cX8_single 19 = .ok (.goto (-14), 3) := dc_167 (a := 255) (b := 242) (v := -14) (by decide +kernel)
theorem dX8_single_22 : decode cX8_single 22 = .ok (.aload_n 0, 1) := dc_42 (by decide +kernel)
theorem dX8_single_23 : decode cX8_single 23 = .ok (.getfield 51, 3) := dc_180 (a := 0) (b := 51) (n := 51) (by decide +kernel)
theorem dX8_single_26 : decode cX8_single 26 = .ok (.iload_n 1, 1) := dc_27 (by decide +kernel)
theorem dX8_single_27 : decode cX8_single 27 = .ok (.iconst 2, 1) := dc_5 (by decide +kernel)
theorem dX8_single_28 : decode cX8_single 28 = .ok (.invokestatic 193, 3) := dc_184 (a := 0) (b := 193) (n := 193) (by decide +kernel)
theorem dX8_single_31 : decode cX8_single 31 = .ok (.ifCond .ne 7, 3) := dc_154 (a := 0) (b := 7) (v := 7) (by decide +kernel)
theorem dX8_single_34 : decode cX8_single 34 = .ok (.iconst 1, 1) := dc_4 (by decide +kernel)
theorem dX8_single_35 : decode cX8_single 35 = .ok (.goto 4, 3) := dc_167 (a := 0) (b := 4) (v := 4) (by decide +kernel)
theorem dX8_single_38 : decode cX8_single 38 = .ok (.iconst 0, 1) := dc_3 (by decide +kernel)
theorem dX8_single_39 : decode cX8_single 39 = .ok (.iconst 5, 1) := dc_8 (by decide +kernel)
theorem dX8_single_40 : decode cX8_single 40 = .ok (.invokevirtual 145, 3) := dc_182 (a := 0) (b := 145) (n := 145) (by decide +kernel)
theorem dX8_single_43 : decode cX8_single 43 = .ok (.iload_n 1, 1) := dc_27 (by decide +kernel)
theorem dX8_single_44 : decode cX8_single 44 = .ok (.iconst 1, 1) := dc_4 (by decide +kernel)
theorem dX8_single_45 : decode cX8_single 45 = .ok (.invokestatic 193, 3) := dc_184 (a := 0) (b := 193) (n := 193) (by decide +kernel)
theorem dX8_single_48 : decode cX8_single 48 = .ok (.ifCond .ne 9, 3) := dc_154 (a := 0) (b := 9) (v := 9) (by decide +kernel)
theorem dX8_single_51 : decode cX8_single 51 = .ok (.aload_n 0, 1) := dc_42 (by decide +kernel)
theorem dX8_single_52 : decode cX8_single 52 = .ok (.iload_n 1, 1) := dc_27 (by decide +kernel)
theorem dX8_single_53 : decode cX8_single 53 = .ok (.invokevirtual 323, 3) := dc_182 (a := 1) (b := 67) (n := 323) (by decide +kernel)
theorem dX8_single_56 : decode cX8_single 56 = .ok (.return_, 1) := dc_177 (by decide +kernel)
theorem dX8_single_57 : decode cX8_single 57 = .ok (.iconst 1, 1) := dc_4 (by decide +kernel)
theorem dX8_single_58 : decode cX8_single 58 = .ok (.istore_n 2, 1) := dc_61 (by decide +kernel)
theorem dX8_single_59 : decode cX8_single 59 = .ok (.iconst 1, 1) := dc_4 (by decide +kernel)
theorem dX8_single_60 : decode cX8_single 60 = .ok (.istore_n 3, 1) := dc_62 (by decide +kernel)
theorem dX8_single_61 : decode cX8_single 61 = .ok (.iload_n 2, 1) := dc_28 (by decide +kernel)
theorem dX8_single_62 : decode cX8_single 62 = .ok (.ifCond .le 71, 3) := dc_158 (a := 0) (b := 71) (v := 71) (by decide +kernel)
theorem dX8_single_65 : decode cX8_single 65 = .ok (.aload_n 0, 1) := dc_42 (by decide +kernel)
theorem dX8_single_66 : decode cX8_single 66 = .ok (.invokevirtual 213, 3) := dc_182 (a := 0) (b := 213) (n := 213) (by decide +kernel)
theorem dX8_single_69 : decode cX8_single 69 = .ok (.istore_n 1, 1) := dc_60 (by decide +kernel)
theorem dX8_single_70 : decode cX8_single 70 = .ok (.iinc 3 1, 3) := dc_132 (a := 3) (b := 1) (v := 1) (by decide +kernel)
theorem dX8_single_73 : decode cX8_single 73 = .ok (.aload_n 0, 1) := dc_42 (by decide +kernel)
theorem dX8_single_74 : decode cX8_single 74 = .ok (.getfield 51, 3) := dc_180 (a := 0) (b := 51) (n := 51) (by decide +kernel)
theorem dX8_single_77 : decode cX8_single 77 = .ok (.iload_n 3, 1) := dc_29 (by decide +kernel)
theorem dX8_single_78 : decode cX8_single 78 = .ok (.sipush 10000, 3) := dc_17 (a := 39) (b := 16) (v := 10000) (by decide +kernel)
theorem dX8_single_81 : decode cX8_single 81 = .ok (.if_icmp .gt 7, 3) := dc_163 (a := 0) (b := 7) (v := 7) (by decide +kernel)
theorem dX8_single_84 : decode cX8_single 84 = .ok (.iconst 1, 1) := dc_4 (by decide +kernel)
theorem dX8_single_85 : decode cX8_single 85 = .ok (.goto 4, 3) := dc_167 (a := 0) (b := 4) (v := 4) (by decide +kernel)
theorem dX8_single_88 : decode cX8_single 88 = .ok (.iconst 0, 1) := dc_3 (by decide +kernel)
theorem dX8_single_89 : decode cX8_single 89 = .ok (.iconst 2, 1) := dc_5 (by decide +kernel)
theorem dX8_single_90 : decode cX8_single 90 = .ok (.invokevirtual 145, 3) := dc_182 (a := 0) (b := 145) (n := 145) (by decide +kernel)
theorem dX8_single_93 : decode cX8_single 93 = .ok (.iload_n 2, 1) := dc_28 (by decide +kernel)
theorem dX8_single_94 : decode cX8_single 94 = .ok (.iload_n 1, 1) := dc_27 (by decide +kernel)
theorem dX8_single_95 : decode cX8_single 95 = .ok (.iconst 1, 1) := dc_4 (by decide +kernel)
theorem dX8_single_96 : decode cX8_single 96 = .ok (.invokestatic 193, 3) := dc_184 (a := 0) (b := 193) (n := 193) (by decide +kernel)
theorem dX8_single_99 : decode cX8_single 99 = .ok (.ifCond .eq 7, 3) := dc_153 (a := 0) (b := 7) (v := 7) (by decide +kernel)
theorem dX8_single_102 : decode cX8_single 102 = .ok (.iconst 1, 1) := dc_4 (by decide +kernel)
theorem dX8_single_103 : decode cX8_single 103 = .ok (.goto 16, 3) := dc_167 (a := 0) (b := 16) (v := 16) (by decide +kernel)
theorem dX8_single_106 : decode cX8_single 106 = .ok (.iload_n 1, 1) := dc_27 (by decide +kernel)
theorem dX8_single_107 : decode cX8_single 107 = .ok (.iconst 2, 1) := dc_5 (by decide +kernel)
theorem dX8_single_108 : decode cX8_single 108 = .ok (.invokestatic 193, 3) := dc_184 (a := 0) (b := 193) (n := 193) (by decide +kernel)
theorem dX8_single_111 : decode cX8_single 111 = .ok (.ifCond .eq 7, 3) := dc_153 (a := 0) (b := 7) (v := 7) (by decide +kernel)
theorem dX8_single_114 : decode cX8_single 114 = .ok (.iconst (-1), 1) := dc_2 (by decide +kernel)
theorem dX8_single_115 : decode cX8_single 115 = .ok (.goto 4, 3) := dc_167 (a := 0) (b := 4) (v := 4) (by decide +kernel)
theorem dX8_single_118 : decode cX8_single 118 = .ok (.iconst 0, 1) := dc_3 (by decide +kernel)
theorem dX8_single_119 : decode cX8_single 119 = .ok (.iadd, 1) := dc_96 (by decide +kernel)
theorem dX8_single_120 : decode cX8_single 120 = .ok (.istore_n 2, 1) := dc_61 (by decide +kernel)
theorem dX8_single_121 : decode cX8_single 121 = .ok (.iload_n 2, 1) := dc_28 (by decide +kernel)
theorem dX8_single_122 : decode cX8_single 122 = .ok (.ifCond .le (-61), 3) := dc_158 (a := 255) (b := 195) (v := -61) (by decide +kernel)
theorem dX8_single_125 : decode cX8_single 125 = .ok (.aload_n 0, 1) := dc_42 (by decide +kernel)
theorem dX8_single_126 : decode cX8_single 126 = .ok (.iload_n 1, 1) := dc_27 (by decide +kernel)
theorem dX8_single_127 : decode cX8_single 127 = .ok (.invokevirtual 323, 3) := dc_182 (a := 1) (b := 67) (n := 323) (by decide +kernel)
theorem dX8_single_130 : decode cX8_single 130 = .ok (.goto (-69), 3) := dc_167 (a := 255) (b := 187) (v := -69) (by decide +kernel)
theorem dX8_single_133 : decode cX8_single 133 = .ok (.return_, 1) := dc_177 (by decide +kernel)
def fX8_single_b119 (N : Nat) (k61 : Nat → Int32 → Int32 → eH → Option ((Unit ⊕ Nat) × eH)) (l0 : Nat) (l1 : Int32) (l3 : Int32) (s0 : Int32) (s1 : Int32) (h : eH) : Option ((Unit ⊕ Nat) × eH) :=
  if (s0 + s1) ≤ 0 then
    k61 l0 (s0 + s1) l3 h
  else
    (k_ok 7 h l0).bind fun _ =>
    (fX8_take l0 l1 h).bind fun q3 =>
    k61 l0 (s0 + s1) l3 q3.2
theorem pX8_single_b119 {w : eW} {d : Nat} (hd : 14 ≤ d + 1) {N : Nat} {k61 : Nat → Int32 → Int32 → eH → Option ((Unit ⊕ Nat) × eH)} (hk61 : ∀ l0 l2 l3 h q, k61 l0 l2 l3 h = some q → wp w (d + 1) YX8_single 61 [some (.ref l0), none, some (.int l2), some (.int l3)] [] h (e_is (e_rt c_V q))) {l0 : Nat} {l1 : Int32} {l3 : Int32} {s0 : Int32} {s1 : Int32} {h : eH} {q} (hf : fX8_single_b119 N k61 l0 l1 l3 s0 s1 h = some q) : wp w (d + 1) YX8_single 119 [some (.ref l0), some (.int l1), none, some (.int l3)] [.int s1, .int s0] h (e_is (e_rt c_V q)) := by
  unfold fX8_single_b119 at hf
  refine w_iadd dX8_single_119 ?_
  refine w_istore_n dX8_single_120 rfl (by decide) (ls' := [some (.ref l0), some (.int l1), some (.int (s0 + s1)), some (.int l3)]) rfl ?_
  refine w_iload_n dX8_single_121 rfl rfl ?_
  refine w_if_le 61 dX8_single_122 (by decide) (fun c1 => ?_) (fun c1 => ?_)
  · replace hf := (if_pos (show (s0 + s1) ≤ 0 from c1)).symm.trans hf
    exact (hk61 _ _ _ _ _ hf).to ⟨rfl, rfl, rfl, trivial⟩
  · replace hf := (if_neg (show ¬ ((s0 + s1) ≤ 0) from c1)).symm.trans hf
    refine w_aload_n dX8_single_125 rfl rfl ?_
    refine w_iload_n dX8_single_126 rfl rfl ?_
    obtain ⟨_, b2, hf⟩ := Option.bind_eq_some_iff.mp hf
    refine x_cnV hf (e_stV (Yc := YX8_take) (ci := 7) (av := [.int l1]) (st := []) dX8_single_127 q2525 mX8_take rfl (k_ok_some b2).1 (k_ok_some b2).2) mX8_take.2.2.1 mX8_take.2.2.2.2.1 (Nat.le_of_ble_eq_true rfl) (Nat.le_of_ble_eq_true rfl) (fun q hq => pX8_take (by omega) hq) (fun q3 hf => ?_)
    refine w_goto 61 dX8_single_130 (by decide) ?_
    exact (hk61 _ _ _ _ _ hf).to ⟨rfl, rfl, rfl, trivial⟩
def fX8_single_b89 (N : Nat) (k61 : Nat → Int32 → Int32 → eH → Option ((Unit ⊕ Nat) × eH)) (l0 : Nat) (l1 : Int32) (l2 : Int32) (l3 : Int32) (s0 : Nat) (s1 : Int32) (h : eH) : Option ((Unit ⊕ Nat) × eH) :=
  (k_ok 3 h s0).bind fun _ =>
  t_B (fX4_want s0 s1 (2 : Int32) h) fun x2 h3 =>
  (fX1_is l1 (1 : Int32) h3).bind fun q4 =>
  if q4.1 = 0 then
    (fX1_is l1 (2 : Int32) q4.2).bind fun q6 =>
    if q6.1 = 0 then
      fX8_single_b119 N k61 l0 l1 l3 l2 (0 : Int32) q6.2
    else
      fX8_single_b119 N k61 l0 l1 l3 l2 (-1 : Int32) q6.2
  else
    fX8_single_b119 N k61 l0 l1 l3 l2 (1 : Int32) q4.2
theorem pX8_single_b89 {w : eW} {d : Nat} (hd : 14 ≤ d + 1) {N : Nat} {k61 : Nat → Int32 → Int32 → eH → Option ((Unit ⊕ Nat) × eH)} (hk61 : ∀ l0 l2 l3 h q, k61 l0 l2 l3 h = some q → wp w (d + 1) YX8_single 61 [some (.ref l0), none, some (.int l2), some (.int l3)] [] h (e_is (e_rt c_V q))) {l0 : Nat} {l1 : Int32} {l2 : Int32} {l3 : Int32} {s0 : Nat} {s1 : Int32} {h : eH} {q} (hf : fX8_single_b89 N k61 l0 l1 l2 l3 s0 s1 h = some q) : wp w (d + 1) YX8_single 89 [some (.ref l0), some (.int l1), some (.int l2), some (.int l3)] [.int s1, .ref s0] h (e_is (e_rt c_V q)) := by
  unfold fX8_single_b89 at hf
  refine w_iconst dX8_single_89 (v := 2) (by decide) ?_
  obtain ⟨_, b1, hf⟩ := Option.bind_eq_some_iff.mp hf
  refine x_ctV hf (e_stV (Yc := YX4_want) (ci := 3) (av := [.int s1, .int (2 : Int32)]) (st := []) dX8_single_90 q2500 mX4_want rfl (k_ok_some b1).1 (k_ok_some b1).2) mX4_want.2.2.1 mX4_want.2.2.2.2.1 (Nat.le_of_ble_eq_true rfl) (Nat.le_of_ble_eq_true rfl) rfl (fun q hq => pX4_want (by omega) hq) (fun x2 h3 hf => ?_)
  refine w_iload_n dX8_single_93 rfl rfl ?_
  refine w_iload_n dX8_single_94 rfl rfl ?_
  refine w_iconst dX8_single_95 (v := 1) (by decide) ?_
  refine x_cnI hf (e_stSN (Yc := YX1_is) (av := [.int l1, .int (1 : Int32)]) (st := [.int l2]) dX8_single_96 q2518 mX1_is) mX1_is.2.2.1 mX1_is.2.2.2.2.1 (Nat.le_of_ble_eq_true rfl) (Nat.le_of_ble_eq_true rfl) (fun q hq => pX1_is (by omega) hq) (fun q4 hf => ?_)
  refine w_if_eq 106 dX8_single_99 (by decide) (fun c5 => ?_) (fun c5 => ?_)
  · replace hf := (if_pos (show q4.1 = 0 from c5)).symm.trans hf
    refine w_iload_n dX8_single_106 rfl rfl ?_
    refine w_iconst dX8_single_107 (v := 2) (by decide) ?_
    refine x_cnI hf (e_stSN (Yc := YX1_is) (av := [.int l1, .int (2 : Int32)]) (st := [.int l2]) dX8_single_108 q2518 mX1_is) mX1_is.2.2.1 mX1_is.2.2.2.2.1 (Nat.le_of_ble_eq_true rfl) (Nat.le_of_ble_eq_true rfl) (fun q hq => pX1_is (by omega) hq) (fun q6 hf => ?_)
    refine w_if_eq 118 dX8_single_111 (by decide) (fun c7 => ?_) (fun c7 => ?_)
    · replace hf := (if_pos (show q6.1 = 0 from c7)).symm.trans hf
      refine w_iconst dX8_single_118 (v := 0) (by decide) ?_
      exact (pX8_single_b119 hd hk61 hf).to ⟨rfl, rfl, rfl, trivial⟩
    · replace hf := (if_neg (show ¬ (q6.1 = 0) from c7)).symm.trans hf
      refine w_iconst dX8_single_114 (v := -1) (by decide) ?_
      refine w_goto 119 dX8_single_115 (by decide) ?_
      exact (pX8_single_b119 hd hk61 hf).to ⟨rfl, rfl, rfl, trivial⟩
  · replace hf := (if_neg (show ¬ (q4.1 = 0) from c5)).symm.trans hf
    refine w_iconst dX8_single_102 (v := 1) (by decide) ?_
    refine w_goto 119 dX8_single_103 (by decide) ?_
    exact (pX8_single_b119 hd hk61 hf).to ⟨rfl, rfl, rfl, trivial⟩
def fX8_single_b61 (N : Nat) : Nat → Nat → Int32 → Int32 → eH → Option ((Unit ⊕ Nat) × eH)
  | 0, _, _, _, _ => none
  | n + 1, l0, l2, l3, h =>
    if l2 ≤ 0 then
      some (.inl (), h)
    else
      (k_ok 7 h l0).bind fun _ =>
      t_B (fX8_need N l0 h) fun x3 h4 =>
      (g_A 7 h4 l0 0).bind fun a5 =>
      if (10000 : Int32) < (l3 + (1 : Int32)) then
        fX8_single_b89 N (fX8_single_b61 N n) l0 x3 l2 (l3 + (1 : Int32)) a5 (0 : Int32) h4
      else
        fX8_single_b89 N (fX8_single_b61 N n) l0 x3 l2 (l3 + (1 : Int32)) a5 (1 : Int32) h4
theorem pX8_single_b61 {w : eW} {d : Nat} (hd : 14 ≤ d + 1) {N : Nat} : ∀ (n : Nat) l0 l2 l3 h q, fX8_single_b61 N n l0 l2 l3 h = some q → wp w (d + 1) YX8_single 61 [some (.ref l0), none, some (.int l2), some (.int l3)] [] h (e_is (e_rt c_V q)) := by
  intro n
  induction n with
  | zero => intro l0 l2 l3 h q hf; simp [fX8_single_b61] at hf
  | succ n ih =>
    intro l0 l2 l3 h q hf
    rw [fX8_single_b61] at hf
    refine w_iload_n dX8_single_61 rfl rfl ?_
    refine w_if_le 133 dX8_single_62 (by decide) (fun c1 => ?_) (fun c1 => ?_)
    · replace hf := (if_pos (show l2 ≤ 0 from c1)).symm.trans hf
      cases hf
      exact w_vret dX8_single_133 rfl rfl
    · replace hf := (if_neg (show ¬ (l2 ≤ 0) from c1)).symm.trans hf
      refine w_aload_n dX8_single_65 rfl rfl ?_
      obtain ⟨_, b2, hf⟩ := Option.bind_eq_some_iff.mp hf
      refine x_ctI hf (e_stV (Yc := YX8_need) (ci := 7) (av := []) (st := []) dX8_single_66 q2506 mX8_need rfl (k_ok_some b2).1 (k_ok_some b2).2) mX8_need.2.2.1 mX8_need.2.2.2.2.1 (Nat.le_of_ble_eq_true rfl) (Nat.le_of_ble_eq_true rfl) rfl (fun q hq => pX8_need (by omega) hq) (fun x3 h4 hf => ?_)
      refine w_istore_n dX8_single_69 rfl (by decide) (ls' := [some (.ref l0), some (.int x3), some (.int l2), some (.int l3)]) rfl ?_
      refine w_iinc dX8_single_70 (v := (l3 + (1 : Int32))) rfl rfl (by decide) (ls' := [some (.ref l0), some (.int x3), some (.int l2), some (.int (l3 + (1 : Int32)))]) rfl ?_
      refine w_aload_n dX8_single_73 rfl rfl ?_
      obtain ⟨a5, b6, hf⟩ := Option.bind_eq_some_iff.mp hf
      refine GX8_51 b6 dX8_single_74 rfl ?_
      refine w_iload_n dX8_single_77 rfl rfl ?_
      refine w_sipush dX8_single_78 (v := 10000) (by decide) ?_
      refine w_icmp_gt 88 dX8_single_81 (by decide) (fun c7 => ?_) (fun c7 => ?_)
      · replace hf := (if_pos (show (10000 : Int32) < (l3 + (1 : Int32)) from c7)).symm.trans hf
        refine w_iconst dX8_single_88 (v := 0) (by decide) ?_
        exact (pX8_single_b89 hd ih hf).to ⟨rfl, rfl, rfl, rfl, trivial⟩
      · replace hf := (if_neg (show ¬ ((10000 : Int32) < (l3 + (1 : Int32))) from c7)).symm.trans hf
        refine w_iconst dX8_single_84 (v := 1) (by decide) ?_
        refine w_goto 89 dX8_single_85 (by decide) ?_
        exact (pX8_single_b89 hd ih hf).to ⟨rfl, rfl, rfl, rfl, trivial⟩
def fX8_single_b39 (N : Nat) (l0 : Nat) (l1 : Int32) (s0 : Nat) (s1 : Int32) (h : eH) : Option ((Unit ⊕ Nat) × eH) :=
  (k_ok 3 h s0).bind fun _ =>
  t_B (fX4_want s0 s1 (5 : Int32) h) fun x2 h3 =>
  (fX1_is l1 (1 : Int32) h3).bind fun q4 =>
  if ¬ q4.1 = 0 then
    fX8_single_b61 N N l0 (1 : Int32) (1 : Int32) q4.2
  else
    (k_ok 7 q4.2 l0).bind fun _ =>
    (fX8_take l0 l1 q4.2).bind fun q7 =>
    some (.inl (), q7.2)
theorem pX8_single_b39 {w : eW} {d : Nat} (hd : 14 ≤ d + 1) {N : Nat} {l0 : Nat} {l1 : Int32} {s0 : Nat} {s1 : Int32} {h : eH} {q} (hf : fX8_single_b39 N l0 l1 s0 s1 h = some q) : wp w (d + 1) YX8_single 39 [some (.ref l0), some (.int l1), none, none] [.int s1, .ref s0] h (e_is (e_rt c_V q)) := by
  unfold fX8_single_b39 at hf
  refine w_iconst dX8_single_39 (v := 5) (by decide) ?_
  obtain ⟨_, b1, hf⟩ := Option.bind_eq_some_iff.mp hf
  refine x_ctV hf (e_stV (Yc := YX4_want) (ci := 3) (av := [.int s1, .int (5 : Int32)]) (st := []) dX8_single_40 q2500 mX4_want rfl (k_ok_some b1).1 (k_ok_some b1).2) mX4_want.2.2.1 mX4_want.2.2.2.2.1 (Nat.le_of_ble_eq_true rfl) (Nat.le_of_ble_eq_true rfl) rfl (fun q hq => pX4_want (by omega) hq) (fun x2 h3 hf => ?_)
  refine w_iload_n dX8_single_43 rfl rfl ?_
  refine w_iconst dX8_single_44 (v := 1) (by decide) ?_
  refine x_cnI hf (e_stSN (Yc := YX1_is) (av := [.int l1, .int (1 : Int32)]) (st := []) dX8_single_45 q2518 mX1_is) mX1_is.2.2.1 mX1_is.2.2.2.2.1 (Nat.le_of_ble_eq_true rfl) (Nat.le_of_ble_eq_true rfl) (fun q hq => pX1_is (by omega) hq) (fun q4 hf => ?_)
  refine w_if_ne 57 dX8_single_48 (by decide) (fun c5 => ?_) (fun c5 => ?_)
  · replace hf := (if_pos (show ¬ q4.1 = 0 from c5)).symm.trans hf
    refine w_iconst dX8_single_57 (v := 1) (by decide) ?_
    refine w_istore_n dX8_single_58 rfl (by decide) (ls' := [some (.ref l0), some (.int l1), some (.int (1 : Int32)), none]) rfl ?_
    refine w_iconst dX8_single_59 (v := 1) (by decide) ?_
    refine w_istore_n dX8_single_60 rfl (by decide) (ls' := [some (.ref l0), some (.int l1), some (.int (1 : Int32)), some (.int (1 : Int32))]) rfl ?_
    exact (pX8_single_b61 hd N _ _ _ _ _ hf).to ⟨rfl, rfl, rfl, trivial⟩
  · replace hf := (if_neg (show ¬ (¬ q4.1 = 0) from (fun z => z c5))).symm.trans hf
    refine w_aload_n dX8_single_51 rfl rfl ?_
    refine w_iload_n dX8_single_52 rfl rfl ?_
    obtain ⟨_, b6, hf⟩ := Option.bind_eq_some_iff.mp hf
    refine x_cnV hf (e_stV (Yc := YX8_take) (ci := 7) (av := [.int l1]) (st := []) dX8_single_53 q2525 mX8_take rfl (k_ok_some b6).1 (k_ok_some b6).2) mX8_take.2.2.1 mX8_take.2.2.2.2.1 (Nat.le_of_ble_eq_true rfl) (Nat.le_of_ble_eq_true rfl) (fun q hq => pX8_take (by omega) hq) (fun q7 hf => ?_)
    cases hf
    exact w_vret dX8_single_56 rfl rfl
def fX8_single_b5 (N : Nat) : Nat → Nat → Int32 → eH → Option ((Unit ⊕ Nat) × eH)
  | 0, _, _, _ => none
  | n + 1, l0, l1, h =>
    (fX1_is l1 (10 : Int32) h).bind fun q1 =>
    if q1.1 = 0 then
      (g_A 7 q1.2 l0 0).bind fun a3 =>
      (fX1_is l1 (2 : Int32) q1.2).bind fun q5 =>
      if ¬ q5.1 = 0 then
        fX8_single_b39 N l0 l1 a3 (0 : Int32) q5.2
      else
        fX8_single_b39 N l0 l1 a3 (1 : Int32) q5.2
    else
      (k_ok 7 q1.2 l0).bind fun _ =>
      t_B (fX8_need N l0 q1.2) fun x8 h9 =>
      fX8_single_b5 N n l0 x8 h9
theorem pX8_single_b5 {w : eW} {d : Nat} (hd : 14 ≤ d + 1) {N : Nat} : ∀ (n : Nat) l0 l1 h q, fX8_single_b5 N n l0 l1 h = some q → wp w (d + 1) YX8_single 5 [some (.ref l0), some (.int l1), none, none] [] h (e_is (e_rt c_V q)) := by
  intro n
  induction n with
  | zero => intro l0 l1 h q hf; simp [fX8_single_b5] at hf
  | succ n ih =>
    intro l0 l1 h q hf
    rw [fX8_single_b5] at hf
    refine w_iload_n dX8_single_5 rfl rfl ?_
    refine w_bipush dX8_single_6 (v := 10) (by decide) ?_
    refine x_cnI hf (e_stSN (Yc := YX1_is) (av := [.int l1, .int (10 : Int32)]) (st := []) dX8_single_8 q2518 mX1_is) mX1_is.2.2.1 mX1_is.2.2.2.2.1 (Nat.le_of_ble_eq_true rfl) (Nat.le_of_ble_eq_true rfl) (fun q hq => pX1_is (by omega) hq) (fun q1 hf => ?_)
    refine w_if_eq 22 dX8_single_11 (by decide) (fun c2 => ?_) (fun c2 => ?_)
    · replace hf := (if_pos (show q1.1 = 0 from c2)).symm.trans hf
      refine w_aload_n dX8_single_22 rfl rfl ?_
      obtain ⟨a3, b4, hf⟩ := Option.bind_eq_some_iff.mp hf
      refine GX8_51 b4 dX8_single_23 rfl ?_
      refine w_iload_n dX8_single_26 rfl rfl ?_
      refine w_iconst dX8_single_27 (v := 2) (by decide) ?_
      refine x_cnI hf (e_stSN (Yc := YX1_is) (av := [.int l1, .int (2 : Int32)]) (st := [.ref a3]) dX8_single_28 q2518 mX1_is) mX1_is.2.2.1 mX1_is.2.2.2.2.1 (Nat.le_of_ble_eq_true rfl) (Nat.le_of_ble_eq_true rfl) (fun q hq => pX1_is (by omega) hq) (fun q5 hf => ?_)
      refine w_if_ne 38 dX8_single_31 (by decide) (fun c6 => ?_) (fun c6 => ?_)
      · replace hf := (if_pos (show ¬ q5.1 = 0 from c6)).symm.trans hf
        refine w_iconst dX8_single_38 (v := 0) (by decide) ?_
        exact (pX8_single_b39 hd hf).to ⟨rfl, rfl, trivial⟩
      · replace hf := (if_neg (show ¬ (¬ q5.1 = 0) from (fun z => z c6))).symm.trans hf
        refine w_iconst dX8_single_34 (v := 1) (by decide) ?_
        refine w_goto 39 dX8_single_35 (by decide) ?_
        exact (pX8_single_b39 hd hf).to ⟨rfl, rfl, trivial⟩
    · replace hf := (if_neg (show ¬ (q1.1 = 0) from c2)).symm.trans hf
      refine w_aload_n dX8_single_14 rfl rfl ?_
      obtain ⟨_, b7, hf⟩ := Option.bind_eq_some_iff.mp hf
      refine x_ctI hf (e_stV (Yc := YX8_need) (ci := 7) (av := []) (st := []) dX8_single_15 q2506 mX8_need rfl (k_ok_some b7).1 (k_ok_some b7).2) mX8_need.2.2.1 mX8_need.2.2.2.2.1 (Nat.le_of_ble_eq_true rfl) (Nat.le_of_ble_eq_true rfl) rfl (fun q hq => pX8_need (by omega) hq) (fun x8 h9 hf => ?_)
      refine w_istore_n dX8_single_18 rfl (by decide) (ls' := [some (.ref l0), some (.int x8), none, none]) rfl ?_
      refine w_goto 5 dX8_single_19 (by decide) ?_
      exact (ih _ _ _ _ hf).to ⟨rfl, rfl, trivial⟩
def fX8_single (N : Nat) (this : Nat) (h : eH) : Option ((Unit ⊕ Nat) × eH) :=
  (k_ok 7 h this).bind fun _ =>
  t_B (fX8_need N this h) fun x2 h3 =>
  fX8_single_b5 N N this x2 h3
theorem pX8_single {w : eW} {d : Nat} (hd : 14 ≤ d) {N : Nat} {this : Nat} {h : eH} {q} (hf : fX8_single N this h = some q) : wm w d YX8_single [.ref this] h (e_is (e_rt c_V q)) := by
  obtain ⟨d, rfl⟩ : ∃ e, d = e + 1 := ⟨d - 1, by omega⟩
  show wp w (d + 1) YX8_single 0 [some (.ref this), none, none, none] [] h _
  unfold fX8_single at hf
  refine w_aload_n dX8_single_0 rfl rfl ?_
  obtain ⟨_, b1, hf⟩ := Option.bind_eq_some_iff.mp hf
  refine x_ctI hf (e_stV (Yc := YX8_need) (ci := 7) (av := []) (st := []) dX8_single_1 q2506 mX8_need rfl (k_ok_some b1).1 (k_ok_some b1).2) mX8_need.2.2.1 mX8_need.2.2.2.2.1 (Nat.le_of_ble_eq_true rfl) (Nat.le_of_ble_eq_true rfl) rfl (fun q hq => pX8_need (by omega) hq) (fun x2 h3 hf => ?_)
  refine w_istore_n dX8_single_4 rfl (by decide) (ls' := [some (.ref this), some (.int x2), none, none]) rfl ?_
  exact (pX8_single_b5 hd N _ _ _ _ hf).to ⟨rfl, rfl, trivial⟩
abbrev cX8_strip : ByteArray := prog_4_method_27_code
def yX8_strip : MethodName := ⟨RX8, "strip", "(I)V"⟩
def YX8_strip : eY := (yX8_strip, cX8_strip, 6, none, [])
theorem mX8_strip : e_mv YX8_strip RX8 1 := ⟨q2536, qs58, q2537, by decide, by decide +kernel, (e_sig (by decide +kernel))⟩
theorem dX8_strip_0 : decode cX8_strip 0 = .ok (.aload_n 0, 1) := dc_42 (by decide +kernel)
theorem dX8_strip_1 : decode cX8_strip 1 = .ok (.getfield 288, 3) := dc_180 (a := 1) (b := 32) (n := 288) (by decide +kernel)
theorem dX8_strip_4 : decode cX8_strip 4 = .ok (.iload_n 1, 1) := dc_27 (by decide +kernel)
theorem dX8_strip_5 : decode cX8_strip 5 = .ok (.isub, 1) := dc_100 (by decide +kernel)
theorem dX8_strip_6 : decode cX8_strip 6 = .ok (.istore_n 2, 1) := dc_61 (by decide +kernel)
theorem dX8_strip_7 : decode cX8_strip 7 = .ok (.iload_n 2, 1) := dc_28 (by decide +kernel)
theorem dX8_strip_8 : decode cX8_strip 8 = .ok (.iconst 2, 1) := dc_5 (by decide +kernel)
theorem dX8_strip_9 : decode cX8_strip 9 = .ok (.if_icmp .lt 16, 3) := dc_161 (a := 0) (b := 16) (v := 16) (by decide +kernel)
theorem dX8_strip_12 : decode cX8_strip 12 = .ok (.aload_n 0, 1) := dc_42 (by decide +kernel)
theorem dX8_strip_13 : decode cX8_strip 13 = .ok (.getfield 28, 3) := dc_180 (a := 0) (b := 28) (n := 28) (by decide +kernel)
theorem dX8_strip_16 : decode cX8_strip 16 = .ok (.iload_n 1, 1) := dc_27 (by decide +kernel)
theorem dX8_strip_17 : decode cX8_strip 17 = .ok (.iaload, 1) := dc_46 (by decide +kernel)
theorem dX8_strip_18 : decode cX8_strip 18 = .ok (.iconst 1, 1) := dc_4 (by decide +kernel)
theorem dX8_strip_19 : decode cX8_strip 19 = .ok (.invokestatic 193, 3) := dc_184 (a := 0) (b := 193) (n := 193) (by decide +kernel)
theorem dX8_strip_22 : decode cX8_strip 22 = .ok (.ifCond .ne 4, 3) := dc_154 (a := 0) (b := 4) (v := 4) (by decide +kernel)
theorem dX8_strip_25 : decode cX8_strip 25 = .ok (.return_, 1) := dc_177 (by decide +kernel)
theorem dX8_strip_26 : decode cX8_strip 26 = .ok (.iconst 0, 1) := dc_3 (by decide +kernel)
theorem dX8_strip_27 : decode cX8_strip 27 = .ok (.istore_n 3, 1) := dc_62 (by decide +kernel)
theorem dX8_strip_28 : decode cX8_strip 28 = .ok (.iconst (-1), 1) := dc_2 (by decide +kernel)
theorem dX8_strip_29 : decode cX8_strip 29 = .ok (.istore 4, 2) := dc_54 (a := 4) (by decide +kernel)
theorem dX8_strip_31 : decode cX8_strip 31 = .ok (.iload_n 1, 1) := dc_27 (by decide +kernel)
theorem dX8_strip_32 : decode cX8_strip 32 = .ok (.istore 5, 2) := dc_54 (a := 5) (by decide +kernel)
theorem dX8_strip_34 : decode cX8_strip 34 = .ok (.iload 5, 2) := dc_21 (a := 5) (by decide +kernel)
theorem dX8_strip_36 : decode cX8_strip 36 = .ok (.aload_n 0, 1) := dc_42 (by decide +kernel)
theorem dX8_strip_37 : decode cX8_strip 37 = .ok (.getfield 288, 3) := dc_180 (a := 1) (b := 32) (n := 288) (by decide +kernel)
theorem dX8_strip_40 : decode cX8_strip 40 = .ok (.if_icmp .ge 67, 3) := dc_162 (a := 0) (b := 67) (v := 67) (by decide +kernel)
theorem dX8_strip_43 : decode cX8_strip 43 = .ok (.iload 4, 2) := dc_21 (a := 4) (by decide +kernel)
theorem dX8_strip_45 : decode cX8_strip 45 = .ok (.iconst (-1), 1) := dc_2 (by decide +kernel)
theorem dX8_strip_46 : decode cX8_strip 46 = .ok (.if_icmp .ne 61, 3) := dc_160 (a := 0) (b := 61) (v := 61) (by decide +kernel)
theorem dX8_strip_49 : decode cX8_strip 49 = .ok (.iload_n 3, 1) := dc_29 (by decide +kernel)
theorem dX8_strip_50 : decode cX8_strip 50 = .ok (.aload_n 0, 1) := dc_42 (by decide +kernel)
theorem dX8_strip_51 : decode cX8_strip 51 = .ok (.getfield 28, 3) := dc_180 (a := 0) (b := 28) (n := 28) (by decide +kernel)
theorem dX8_strip_54 : decode cX8_strip 54 = .ok (.iload 5, 2) := dc_21 (a := 5) (by decide +kernel)
theorem dX8_strip_56 : decode cX8_strip 56 = .ok (.iaload, 1) := dc_46 (by decide +kernel)
theorem dX8_strip_57 : decode cX8_strip 57 = .ok (.iconst 1, 1) := dc_4 (by decide +kernel)
theorem dX8_strip_58 : decode cX8_strip 58 = .ok (.invokestatic 193, 3) := dc_184 (a := 0) (b := 193) (n := 193) (by decide +kernel)
theorem dX8_strip_61 : decode cX8_strip 61 = .ok (.ifCond .eq 7, 3) := dc_153 (a := 0) (b := 7) (v := 7) (by decide +kernel)
theorem dX8_strip_64 : decode cX8_strip 64 = .ok (.iconst 1, 1) := dc_4 (by decide +kernel)
theorem dX8_strip_65 : decode cX8_strip 65 = .ok (.goto 22, 3) := dc_167 (a := 0) (b := 22) (v := 22) (by decide +kernel)
theorem dX8_strip_68 : decode cX8_strip 68 = .ok (.aload_n 0, 1) := dc_42 (by decide +kernel)
theorem dX8_strip_69 : decode cX8_strip 69 = .ok (.getfield 28, 3) := dc_180 (a := 0) (b := 28) (n := 28) (by decide +kernel)
theorem dX8_strip_72 : decode cX8_strip 72 = .ok (.iload 5, 2) := dc_21 (a := 5) (by decide +kernel)
theorem dX8_strip_74 : decode cX8_strip 74 = .ok (.iaload, 1) := dc_46 (by decide +kernel)
theorem dX8_strip_75 : decode cX8_strip 75 = .ok (.iconst 2, 1) := dc_5 (by decide +kernel)
theorem dX8_strip_76 : decode cX8_strip 76 = .ok (.invokestatic 193, 3) := dc_184 (a := 0) (b := 193) (n := 193) (by decide +kernel)
theorem dX8_strip_79 : decode cX8_strip 79 = .ok (.ifCond .eq 7, 3) := dc_153 (a := 0) (b := 7) (v := 7) (by decide +kernel)
theorem dX8_strip_82 : decode cX8_strip 82 = .ok (.iconst (-1), 1) := dc_2 (by decide +kernel)
theorem dX8_strip_83 : decode cX8_strip 83 = .ok (.goto 4, 3) := dc_167 (a := 0) (b := 4) (v := 4) (by decide +kernel)
theorem dX8_strip_86 : decode cX8_strip 86 = .ok (.iconst 0, 1) := dc_3 (by decide +kernel)
theorem dX8_strip_87 : decode cX8_strip 87 = .ok (.iadd, 1) := dc_96 (by decide +kernel)
theorem dX8_strip_88 : decode cX8_strip 88 = .ok (.istore_n 3, 1) := dc_62 (by decide +kernel)
theorem dX8_strip_89 : decode cX8_strip 89 = .ok (.iload_n 3, 1) := dc_29 (by decide +kernel)
theorem dX8_strip_90 : decode cX8_strip 90 = .ok (.ifCond .ne 8, 3) := dc_154 (a := 0) (b := 8) (v := 8) (by decide +kernel)
theorem dX8_strip_93 : decode cX8_strip 93 = .ok (.iload 5, 2) := dc_21 (a := 5) (by decide +kernel)
theorem dX8_strip_95 : decode cX8_strip 95 = .ok (.goto 4, 3) := dc_167 (a := 0) (b := 4) (v := 4) (by decide +kernel)
theorem dX8_strip_98 : decode cX8_strip 98 = .ok (.iconst (-1), 1) := dc_2 (by decide +kernel)
theorem dX8_strip_99 : decode cX8_strip 99 = .ok (.istore 4, 2) := dc_54 (a := 4) (by decide +kernel)
theorem dX8_strip_101 : decode cX8_strip 101 = .ok (.iinc 5 1, 3) := dc_132 (a := 5) (b := 1) (v := 1) (by decide +kernel)
theorem dX8_strip_104 : decode cX8_strip 104 = .ok (.goto (-70), 3) := dc_167 (a := 255) (b := 186) (v := -70) (by decide +kernel)
theorem dX8_strip_107 : decode cX8_strip 107 = .ok (.iload 4, 2) := dc_21 (a := 4) (by decide +kernel)
theorem dX8_strip_109 : decode cX8_strip 109 = .ok (.aload_n 0, 1) := dc_42 (by decide +kernel)
theorem dX8_strip_110 : decode cX8_strip 110 = .ok (.getfield 288, 3) := dc_180 (a := 1) (b := 32) (n := 288) (by decide +kernel)
theorem dX8_strip_113 : decode cX8_strip 113 = .ok (.iconst 1, 1) := dc_4 (by decide +kernel)
theorem dX8_strip_114 : decode cX8_strip 114 = .ok (.isub, 1) := dc_100 (by decide +kernel)
theorem dX8_strip_115 : decode cX8_strip 115 = .ok (.if_icmp .eq 4, 3) := dc_159 (a := 0) (b := 4) (v := 4) (by decide +kernel)
theorem dX8_strip_118 : decode cX8_strip 118 = .ok (.return_, 1) := dc_177 (by decide +kernel)
theorem dX8_strip_119 : decode cX8_strip 119 = .ok (.aload_n 0, 1) := dc_42 (by decide +kernel)
theorem dX8_strip_120 : decode cX8_strip 120 = .ok (.getfield 28, 3) := dc_180 (a := 0) (b := 28) (n := 28) (by decide +kernel)
theorem dX8_strip_123 : decode cX8_strip 123 = .ok (.iload_n 1, 1) := dc_27 (by decide +kernel)
theorem dX8_strip_124 : decode cX8_strip 124 = .ok (.iconst 1, 1) := dc_4 (by decide +kernel)
theorem dX8_strip_125 : decode cX8_strip 125 = .ok (.iadd, 1) := dc_96 (by decide +kernel)
theorem dX8_strip_126 : decode cX8_strip 126 = .ok (.aload_n 0, 1) := dc_42 (by decide +kernel)
theorem dX8_strip_127 : decode cX8_strip 127 = .ok (.getfield 28, 3) := dc_180 (a := 0) (b := 28) (n := 28) (by decide +kernel)
theorem dX8_strip_130 : decode cX8_strip 130 = .ok (.iload_n 1, 1) := dc_27 (by decide +kernel)
theorem dX8_strip_131 : decode cX8_strip 131 = .ok (.iload_n 2, 1) := dc_28 (by decide +kernel)
theorem dX8_strip_132 : decode cX8_strip 132 = .ok (.iconst 2, 1) := dc_5 (by decide +kernel)
theorem dX8_strip_133 : decode cX8_strip 133 = .ok (.isub, 1) := dc_100 (by decide +kernel)
theorem dX8_strip_134 : decode cX8_strip 134 = .ok (.invokestatic 329, 3) := dc_184 (a := 1) (b := 73) (n := 329) (by decide +kernel)
theorem dX8_strip_137 : decode cX8_strip 137 = .ok (.aload_n 0, 1) := dc_42 (by decide +kernel)
theorem dX8_strip_138 : decode cX8_strip 138 = .ok (.dup, 1) := dc_89 (by decide +kernel)
theorem dX8_strip_139 : decode cX8_strip 139 = .ok (.getfield 288, 3) := dc_180 (a := 1) (b := 32) (n := 288) (by decide +kernel)
theorem dX8_strip_142 : decode cX8_strip 142 = .ok (.iconst 2, 1) := dc_5 (by decide +kernel)
theorem dX8_strip_143 : decode cX8_strip 143 = .ok (.isub, 1) := dc_100 (by decide +kernel)
theorem dX8_strip_144 : decode cX8_strip 144 = .ok (.putfield 288, 3) := dc_181 (a := 1) (b := 32) (n := 288) (by decide +kernel)
theorem dX8_strip_147 : decode cX8_strip 147 = .ok (.return_, 1) := dc_177 (by decide +kernel)
def fX8_strip_b25 (N : Nat)  (h : eH) : Option (Unit × eH) :=
  some ((), h)
theorem pX8_strip_b25 {w : eW} {d : Nat} (hd : 2 ≤ d + 1) {N : Nat}  {h : eH} {q} (hf : fX8_strip_b25 N h = some q) : wp w (d + 1) YX8_strip 25 [none, none, none, none, none, none] [] h (e_is (e_rn c_V q)) := by
  unfold fX8_strip_b25 at hf
  cases hf
  exact w_vret dX8_strip_25 rfl rfl
def fX8_strip_b99 (N : Nat) (k34 : Nat → Int32 → Int32 → Int32 → Int32 → Int32 → eH → Option (Unit × eH)) (l0 : Nat) (l1 : Int32) (l2 : Int32) (l3 : Int32) (l5 : Int32) (s0 : Int32) (h : eH) : Option (Unit × eH) :=
  k34 l0 l1 l2 l3 s0 (l5 + (1 : Int32)) h
theorem pX8_strip_b99 {w : eW} {d : Nat} (hd : 2 ≤ d + 1) {N : Nat} {k34 : Nat → Int32 → Int32 → Int32 → Int32 → Int32 → eH → Option (Unit × eH)} (hk34 : ∀ l0 l1 l2 l3 l4 l5 h q, k34 l0 l1 l2 l3 l4 l5 h = some q → wp w (d + 1) YX8_strip 34 [some (.ref l0), some (.int l1), some (.int l2), some (.int l3), some (.int l4), some (.int l5)] [] h (e_is (e_rn c_V q))) {l0 : Nat} {l1 : Int32} {l2 : Int32} {l3 : Int32} {l5 : Int32} {s0 : Int32} {h : eH} {q} (hf : fX8_strip_b99 N k34 l0 l1 l2 l3 l5 s0 h = some q) : wp w (d + 1) YX8_strip 99 [some (.ref l0), some (.int l1), some (.int l2), some (.int l3), none, some (.int l5)] [.int s0] h (e_is (e_rn c_V q)) := by
  unfold fX8_strip_b99 at hf
  refine w_istore dX8_strip_99 (by decide) (ls' := [some (.ref l0), some (.int l1), some (.int l2), some (.int l3), some (.int s0), some (.int l5)]) rfl ?_
  refine w_iinc dX8_strip_101 (v := (l5 + (1 : Int32))) rfl rfl (by decide) (ls' := [some (.ref l0), some (.int l1), some (.int l2), some (.int l3), some (.int s0), some (.int (l5 + (1 : Int32)))]) rfl ?_
  refine w_goto 34 dX8_strip_104 (by decide) ?_
  exact (hk34 _ _ _ _ _ _ _ _ hf).to ⟨rfl, rfl, rfl, rfl, rfl, rfl, trivial⟩
def fX8_strip_b87 (N : Nat) (k34 : Nat → Int32 → Int32 → Int32 → Int32 → Int32 → eH → Option (Unit × eH)) (l0 : Nat) (l1 : Int32) (l2 : Int32) (l5 : Int32) (s0 : Int32) (s1 : Int32) (h : eH) : Option (Unit × eH) :=
  if ¬ (s0 + s1) = 0 then
    fX8_strip_b99 N k34 l0 l1 l2 (s0 + s1) l5 (-1 : Int32) h
  else
    fX8_strip_b99 N k34 l0 l1 l2 (s0 + s1) l5 l5 h
theorem pX8_strip_b87 {w : eW} {d : Nat} (hd : 2 ≤ d + 1) {N : Nat} {k34 : Nat → Int32 → Int32 → Int32 → Int32 → Int32 → eH → Option (Unit × eH)} (hk34 : ∀ l0 l1 l2 l3 l4 l5 h q, k34 l0 l1 l2 l3 l4 l5 h = some q → wp w (d + 1) YX8_strip 34 [some (.ref l0), some (.int l1), some (.int l2), some (.int l3), some (.int l4), some (.int l5)] [] h (e_is (e_rn c_V q))) {l0 : Nat} {l1 : Int32} {l2 : Int32} {l5 : Int32} {s0 : Int32} {s1 : Int32} {h : eH} {q} (hf : fX8_strip_b87 N k34 l0 l1 l2 l5 s0 s1 h = some q) : wp w (d + 1) YX8_strip 87 [some (.ref l0), some (.int l1), some (.int l2), none, none, some (.int l5)] [.int s1, .int s0] h (e_is (e_rn c_V q)) := by
  unfold fX8_strip_b87 at hf
  refine w_iadd dX8_strip_87 ?_
  refine w_istore_n dX8_strip_88 rfl (by decide) (ls' := [some (.ref l0), some (.int l1), some (.int l2), some (.int (s0 + s1)), none, some (.int l5)]) rfl ?_
  refine w_iload_n dX8_strip_89 rfl rfl ?_
  refine w_if_ne 98 dX8_strip_90 (by decide) (fun c1 => ?_) (fun c1 => ?_)
  · replace hf := (if_pos (show ¬ (s0 + s1) = 0 from c1)).symm.trans hf
    refine w_iconst dX8_strip_98 (v := -1) (by decide) ?_
    exact (pX8_strip_b99 hd hk34 hf).to ⟨rfl, rfl, rfl, rfl, rfl, trivial⟩
  · replace hf := (if_neg (show ¬ (¬ (s0 + s1) = 0) from (fun z => z c1))).symm.trans hf
    refine w_iload dX8_strip_93 rfl ?_
    refine w_goto 99 dX8_strip_95 (by decide) ?_
    exact (pX8_strip_b99 hd hk34 hf).to ⟨rfl, rfl, rfl, rfl, rfl, trivial⟩
def fX8_strip_b107 (N : Nat) (l0 : Nat) (l1 : Int32) (l2 : Int32) (l4 : Int32) (h : eH) : Option (Unit × eH) :=
  (g_I 7 h l0 17).bind fun x1 =>
  if l4 = (x1 - (1 : Int32)) then
    (g_A 7 h l0 16).bind fun a4 =>
    (g_A 7 h l0 16).bind fun a6 =>
    (a_cpy h a4 (l1 + (1 : Int32)) a6 l1 (l2 - (2 : Int32))).bind fun h8 =>
    (g_I 7 h8 l0 17).bind fun x10 =>
    (p_V 7 h8 l0 17 (.int (x10 - (2 : Int32)))).bind fun h12 =>
    some ((), h12)
  else
    some ((), h)
theorem pX8_strip_b107 {w : eW} {d : Nat} (hd : 2 ≤ d + 1) {N : Nat} {l0 : Nat} {l1 : Int32} {l2 : Int32} {l4 : Int32} {h : eH} {q} (hf : fX8_strip_b107 N l0 l1 l2 l4 h = some q) : wp w (d + 1) YX8_strip 107 [some (.ref l0), some (.int l1), some (.int l2), none, some (.int l4), none] [] h (e_is (e_rn c_V q)) := by
  unfold fX8_strip_b107 at hf
  refine w_iload dX8_strip_107 rfl ?_
  refine w_aload_n dX8_strip_109 rfl rfl ?_
  obtain ⟨x1, b2, hf⟩ := Option.bind_eq_some_iff.mp hf
  refine GX8_288 b2 dX8_strip_110 rfl ?_
  refine w_iconst dX8_strip_113 (v := 1) (by decide) ?_
  refine w_isub dX8_strip_114 ?_
  refine w_icmp_eq 119 dX8_strip_115 (by decide) (fun c3 => ?_) (fun c3 => ?_)
  · replace hf := (if_pos (show l4 = (x1 - (1 : Int32)) from c3)).symm.trans hf
    refine w_aload_n dX8_strip_119 rfl rfl ?_
    obtain ⟨a4, b5, hf⟩ := Option.bind_eq_some_iff.mp hf
    refine GX8_28 b5 dX8_strip_120 rfl ?_
    refine w_iload_n dX8_strip_123 rfl rfl ?_
    refine w_iconst dX8_strip_124 (v := 1) (by decide) ?_
    refine w_iadd dX8_strip_125 ?_
    refine w_aload_n dX8_strip_126 rfl rfl ?_
    obtain ⟨a6, b7, hf⟩ := Option.bind_eq_some_iff.mp hf
    refine GX8_28 b7 dX8_strip_127 rfl ?_
    refine w_iload_n dX8_strip_130 rfl rfl ?_
    refine w_iload_n dX8_strip_131 rfl rfl ?_
    refine w_iconst dX8_strip_132 (v := 2) (by decide) ?_
    refine w_isub dX8_strip_133 ?_
    obtain ⟨h8, b9, hf⟩ := Option.bind_eq_some_iff.mp hf
    refine x_cpy b9 dX8_strip_134 q2538 q955 q954 q441 (Nat.le_of_ble_eq_true rfl) ?_
    refine w_aload_n dX8_strip_137 rfl rfl ?_
    refine w_dup dX8_strip_138 rfl ?_
    obtain ⟨x10, b11, hf⟩ := Option.bind_eq_some_iff.mp hf
    refine GX8_288 b11 dX8_strip_139 rfl ?_
    refine w_iconst dX8_strip_142 (v := 2) (by decide) ?_
    refine w_isub dX8_strip_143 ?_
    obtain ⟨h12, b13, hf⟩ := Option.bind_eq_some_iff.mp hf
    refine SX8_288 b13 dX8_strip_144 rfl ?_
    cases hf
    exact w_vret dX8_strip_147 rfl rfl
  · replace hf := (if_neg (show ¬ (l4 = (x1 - (1 : Int32))) from c3)).symm.trans hf
    cases hf
    exact w_vret dX8_strip_118 rfl rfl
def fX8_strip_b34 (N : Nat) : Nat → Nat → Int32 → Int32 → Int32 → Int32 → Int32 → eH → Option (Unit × eH)
  | 0, _, _, _, _, _, _, _ => none
  | n + 1, l0, l1, l2, l3, l4, l5, h =>
    (g_I 7 h l0 17).bind fun x1 =>
    if x1 ≤ l5 then
      fX8_strip_b107 N l0 l1 l2 l4 h
    else
      if ¬ l4 = (-1 : Int32) then
        fX8_strip_b107 N l0 l1 l2 l4 h
      else
        (g_A 7 h l0 16).bind fun a5 =>
        (r_I 100 h a5 l5).bind fun x7 =>
        (fX1_is x7 (1 : Int32) h).bind fun q9 =>
        if q9.1 = 0 then
          (g_A 7 q9.2 l0 16).bind fun a11 =>
          (r_I 100 q9.2 a11 l5).bind fun x13 =>
          (fX1_is x13 (2 : Int32) q9.2).bind fun q15 =>
          if q15.1 = 0 then
            fX8_strip_b87 N (fX8_strip_b34 N n) l0 l1 l2 l5 l3 (0 : Int32) q15.2
          else
            fX8_strip_b87 N (fX8_strip_b34 N n) l0 l1 l2 l5 l3 (-1 : Int32) q15.2
        else
          fX8_strip_b87 N (fX8_strip_b34 N n) l0 l1 l2 l5 l3 (1 : Int32) q9.2
theorem pX8_strip_b34 {w : eW} {d : Nat} (hd : 2 ≤ d + 1) {N : Nat} : ∀ (n : Nat) l0 l1 l2 l3 l4 l5 h q, fX8_strip_b34 N n l0 l1 l2 l3 l4 l5 h = some q → wp w (d + 1) YX8_strip 34 [some (.ref l0), some (.int l1), some (.int l2), some (.int l3), some (.int l4), some (.int l5)] [] h (e_is (e_rn c_V q)) := by
  intro n
  induction n with
  | zero => intro l0 l1 l2 l3 l4 l5 h q hf; simp [fX8_strip_b34] at hf
  | succ n ih =>
    intro l0 l1 l2 l3 l4 l5 h q hf
    rw [fX8_strip_b34] at hf
    refine w_iload dX8_strip_34 rfl ?_
    refine w_aload_n dX8_strip_36 rfl rfl ?_
    obtain ⟨x1, b2, hf⟩ := Option.bind_eq_some_iff.mp hf
    refine GX8_288 b2 dX8_strip_37 rfl ?_
    refine w_icmp_ge 107 dX8_strip_40 (by decide) (fun c3 => ?_) (fun c3 => ?_)
    · replace hf := (if_pos (show x1 ≤ l5 from c3)).symm.trans hf
      exact (pX8_strip_b107 hd hf).to ⟨rfl, rfl, rfl, rfl, trivial⟩
    · replace hf := (if_neg (show ¬ (x1 ≤ l5) from c3)).symm.trans hf
      refine w_iload dX8_strip_43 rfl ?_
      refine w_iconst dX8_strip_45 (v := -1) (by decide) ?_
      refine w_icmp_ne 107 dX8_strip_46 (by decide) (fun c4 => ?_) (fun c4 => ?_)
      · replace hf := (if_pos (show ¬ l4 = (-1 : Int32) from c4)).symm.trans hf
        exact (pX8_strip_b107 hd hf).to ⟨rfl, rfl, rfl, rfl, trivial⟩
      · replace hf := (if_neg (show ¬ (¬ l4 = (-1 : Int32)) from (fun z => z c4))).symm.trans hf
        refine w_iload_n dX8_strip_49 rfl rfl ?_
        refine w_aload_n dX8_strip_50 rfl rfl ?_
        obtain ⟨a5, b6, hf⟩ := Option.bind_eq_some_iff.mp hf
        refine GX8_28 b6 dX8_strip_51 rfl ?_
        refine w_iload dX8_strip_54 rfl ?_
        obtain ⟨x7, b8, hf⟩ := Option.bind_eq_some_iff.mp hf
        refine x_rI b8 dX8_strip_56 ?_
        refine w_iconst dX8_strip_57 (v := 1) (by decide) ?_
        refine x_cnI hf (e_stSN (Yc := YX1_is) (av := [.int x7, .int (1 : Int32)]) (st := [.int l3]) dX8_strip_58 q2518 mX1_is) mX1_is.2.2.1 mX1_is.2.2.2.2.1 (Nat.le_of_ble_eq_true rfl) (Nat.le_of_ble_eq_true rfl) (fun q hq => pX1_is (by omega) hq) (fun q9 hf => ?_)
        refine w_if_eq 68 dX8_strip_61 (by decide) (fun c10 => ?_) (fun c10 => ?_)
        · replace hf := (if_pos (show q9.1 = 0 from c10)).symm.trans hf
          refine w_aload_n dX8_strip_68 rfl rfl ?_
          obtain ⟨a11, b12, hf⟩ := Option.bind_eq_some_iff.mp hf
          refine GX8_28 b12 dX8_strip_69 rfl ?_
          refine w_iload dX8_strip_72 rfl ?_
          obtain ⟨x13, b14, hf⟩ := Option.bind_eq_some_iff.mp hf
          refine x_rI b14 dX8_strip_74 ?_
          refine w_iconst dX8_strip_75 (v := 2) (by decide) ?_
          refine x_cnI hf (e_stSN (Yc := YX1_is) (av := [.int x13, .int (2 : Int32)]) (st := [.int l3]) dX8_strip_76 q2518 mX1_is) mX1_is.2.2.1 mX1_is.2.2.2.2.1 (Nat.le_of_ble_eq_true rfl) (Nat.le_of_ble_eq_true rfl) (fun q hq => pX1_is (by omega) hq) (fun q15 hf => ?_)
          refine w_if_eq 86 dX8_strip_79 (by decide) (fun c16 => ?_) (fun c16 => ?_)
          · replace hf := (if_pos (show q15.1 = 0 from c16)).symm.trans hf
            refine w_iconst dX8_strip_86 (v := 0) (by decide) ?_
            exact (pX8_strip_b87 hd ih hf).to ⟨rfl, rfl, rfl, rfl, trivial⟩
          · replace hf := (if_neg (show ¬ (q15.1 = 0) from c16)).symm.trans hf
            refine w_iconst dX8_strip_82 (v := -1) (by decide) ?_
            refine w_goto 87 dX8_strip_83 (by decide) ?_
            exact (pX8_strip_b87 hd ih hf).to ⟨rfl, rfl, rfl, rfl, trivial⟩
        · replace hf := (if_neg (show ¬ (q9.1 = 0) from c10)).symm.trans hf
          refine w_iconst dX8_strip_64 (v := 1) (by decide) ?_
          refine w_goto 87 dX8_strip_65 (by decide) ?_
          exact (pX8_strip_b87 hd ih hf).to ⟨rfl, rfl, rfl, rfl, trivial⟩
def fX8_strip (N : Nat) (this : Nat) (p0 : Int32) (h : eH) : Option (Unit × eH) :=
  (g_I 7 h this 17).bind fun x1 =>
  if (x1 - p0) < (2 : Int32) then
    fX8_strip_b25 N h
  else
    (g_A 7 h this 16).bind fun a4 =>
    (r_I 100 h a4 p0).bind fun x6 =>
    (fX1_is x6 (1 : Int32) h).bind fun q8 =>
    if ¬ q8.1 = 0 then
      fX8_strip_b34 N N this p0 (x1 - p0) (0 : Int32) (-1 : Int32) p0 q8.2
    else
      fX8_strip_b25 N q8.2
theorem pX8_strip {w : eW} {d : Nat} (hd : 2 ≤ d) {N : Nat} {this : Nat} {p0 : Int32} {h : eH} {q} (hf : fX8_strip N this p0 h = some q) : wm w d YX8_strip [.ref this, .int p0] h (e_is (e_rn c_V q)) := by
  obtain ⟨d, rfl⟩ : ∃ e, d = e + 1 := ⟨d - 1, by omega⟩
  show wp w (d + 1) YX8_strip 0 [some (.ref this), some (.int p0), none, none, none, none] [] h _
  unfold fX8_strip at hf
  refine w_aload_n dX8_strip_0 rfl rfl ?_
  obtain ⟨x1, b2, hf⟩ := Option.bind_eq_some_iff.mp hf
  refine GX8_288 b2 dX8_strip_1 rfl ?_
  refine w_iload_n dX8_strip_4 rfl rfl ?_
  refine w_isub dX8_strip_5 ?_
  refine w_istore_n dX8_strip_6 rfl (by decide) (ls' := [some (.ref this), some (.int p0), some (.int (x1 - p0)), none, none, none]) rfl ?_
  refine w_iload_n dX8_strip_7 rfl rfl ?_
  refine w_iconst dX8_strip_8 (v := 2) (by decide) ?_
  refine w_icmp_lt 25 dX8_strip_9 (by decide) (fun c3 => ?_) (fun c3 => ?_)
  · replace hf := (if_pos (show (x1 - p0) < (2 : Int32) from c3)).symm.trans hf
    exact (pX8_strip_b25 hd hf).to trivial
  · replace hf := (if_neg (show ¬ ((x1 - p0) < (2 : Int32)) from c3)).symm.trans hf
    refine w_aload_n dX8_strip_12 rfl rfl ?_
    obtain ⟨a4, b5, hf⟩ := Option.bind_eq_some_iff.mp hf
    refine GX8_28 b5 dX8_strip_13 rfl ?_
    refine w_iload_n dX8_strip_16 rfl rfl ?_
    obtain ⟨x6, b7, hf⟩ := Option.bind_eq_some_iff.mp hf
    refine x_rI b7 dX8_strip_17 ?_
    refine w_iconst dX8_strip_18 (v := 1) (by decide) ?_
    refine x_cnI hf (e_stSN (Yc := YX1_is) (av := [.int x6, .int (1 : Int32)]) (st := []) dX8_strip_19 q2518 mX1_is) mX1_is.2.2.1 mX1_is.2.2.2.2.1 (Nat.le_of_ble_eq_true rfl) (Nat.le_of_ble_eq_true rfl) (fun q hq => pX1_is (by omega) hq) (fun q8 hf => ?_)
    refine w_if_ne 26 dX8_strip_22 (by decide) (fun c9 => ?_) (fun c9 => ?_)
    · replace hf := (if_pos (show ¬ q8.1 = 0 from c9)).symm.trans hf
      refine w_iconst dX8_strip_26 (v := 0) (by decide) ?_
      refine w_istore_n dX8_strip_27 rfl (by decide) (ls' := [some (.ref this), some (.int p0), some (.int (x1 - p0)), some (.int (0 : Int32)), none, none]) rfl ?_
      refine w_iconst dX8_strip_28 (v := -1) (by decide) ?_
      refine w_istore dX8_strip_29 (by decide) (ls' := [some (.ref this), some (.int p0), some (.int (x1 - p0)), some (.int (0 : Int32)), some (.int (-1 : Int32)), none]) rfl ?_
      refine w_iload_n dX8_strip_31 rfl rfl ?_
      refine w_istore dX8_strip_32 (by decide) (ls' := [some (.ref this), some (.int p0), some (.int (x1 - p0)), some (.int (0 : Int32)), some (.int (-1 : Int32)), some (.int p0)]) rfl ?_
      exact (pX8_strip_b34 hd N _ _ _ _ _ _ _ _ hf).to ⟨rfl, rfl, rfl, rfl, rfl, rfl, trivial⟩
    · replace hf := (if_neg (show ¬ (¬ q8.1 = 0) from (fun z => z c9))).symm.trans hf
      exact (pX8_strip_b25 hd hf).to trivial
abbrev cX8_delimited : ByteArray := prog_4_method_26_code
def yX8_delimited : MethodName := ⟨RX8, "delimited", "(II)V"⟩
def YX8_delimited : eY := (yX8_delimited, cX8_delimited, 10, none, [])
theorem mX8_delimited : e_mv YX8_delimited RX8 2 := ⟨q2532, qs57, q2533, by decide, by decide +kernel, (e_sig (by decide +kernel))⟩
theorem dX8_delimited_0 : decode cX8_delimited 0 = .ok (.aload_n 0, 1) := dc_42 (by decide +kernel)
theorem dX8_delimited_1 : decode cX8_delimited 1 = .ok (.getfield 288, 3) := dc_180 (a := 1) (b := 32) (n := 288) (by decide +kernel)
theorem dX8_delimited_4 : decode cX8_delimited 4 = .ok (.istore_n 3, 1) := dc_62 (by decide +kernel)
theorem dX8_delimited_5 : decode cX8_delimited 5 = .ok (.iload_n 2, 1) := dc_28 (by decide +kernel)
theorem dX8_delimited_6 : decode cX8_delimited 6 = .ok (.iload_n 1, 1) := dc_27 (by decide +kernel)
theorem dX8_delimited_7 : decode cX8_delimited 7 = .ok (.isub, 1) := dc_100 (by decide +kernel)
theorem dX8_delimited_8 : decode cX8_delimited 8 = .ok (.istore 4, 2) := dc_54 (a := 4) (by decide +kernel)
theorem dX8_delimited_10 : decode cX8_delimited 10 = .ok (.iconst 0, 1) := dc_3 (by decide +kernel)
theorem dX8_delimited_11 : decode cX8_delimited 11 = .ok (.istore 5, 2) := dc_54 (a := 5) (by decide +kernel)
theorem dX8_delimited_13 : decode cX8_delimited 13 = .ok (.iconst 0, 1) := dc_3 (by decide +kernel)
theorem dX8_delimited_14 : decode cX8_delimited 14 = .ok (.istore 6, 2) := dc_54 (a := 6) (by decide +kernel)
theorem dX8_delimited_16 : decode cX8_delimited 16 = .ok (.iconst 0, 1) := dc_3 (by decide +kernel)
theorem dX8_delimited_17 : decode cX8_delimited 17 = .ok (.istore 7, 2) := dc_54 (a := 7) (by decide +kernel)
theorem dX8_delimited_19 : decode cX8_delimited 19 = .ok (.iload 7, 2) := dc_21 (a := 7) (by decide +kernel)
theorem dX8_delimited_21 : decode cX8_delimited 21 = .ok (.ifCond .ne 184, 3) := dc_154 (a := 0) (b := 184) (v := 184) (by decide +kernel)
theorem dX8_delimited_24 : decode cX8_delimited 24 = .ok (.aload_n 0, 1) := dc_42 (by decide +kernel)
theorem dX8_delimited_25 : decode cX8_delimited 25 = .ok (.invokevirtual 213, 3) := dc_182 (a := 0) (b := 213) (n := 213) (by decide +kernel)
theorem dX8_delimited_28 : decode cX8_delimited 28 = .ok (.istore 8, 2) := dc_54 (a := 8) (by decide +kernel)
theorem dX8_delimited_30 : decode cX8_delimited 30 = .ok (.aload_n 0, 1) := dc_42 (by decide +kernel)
theorem dX8_delimited_31 : decode cX8_delimited 31 = .ok (.iload 8, 2) := dc_21 (a := 8) (by decide +kernel)
theorem dX8_delimited_33 : decode cX8_delimited 33 = .ok (.invokevirtual 323, 3) := dc_182 (a := 1) (b := 67) (n := 323) (by decide +kernel)
theorem dX8_delimited_36 : decode cX8_delimited 36 = .ok (.aload_n 0, 1) := dc_42 (by decide +kernel)
theorem dX8_delimited_37 : decode cX8_delimited 37 = .ok (.getfield 51, 3) := dc_180 (a := 0) (b := 51) (n := 51) (by decide +kernel)
theorem dX8_delimited_40 : decode cX8_delimited 40 = .ok (.aload_n 0, 1) := dc_42 (by decide +kernel)
theorem dX8_delimited_41 : decode cX8_delimited 41 = .ok (.getfield 288, 3) := dc_180 (a := 1) (b := 32) (n := 288) (by decide +kernel)
theorem dX8_delimited_44 : decode cX8_delimited 44 = .ok (.iload_n 3, 1) := dc_29 (by decide +kernel)
theorem dX8_delimited_45 : decode cX8_delimited 45 = .ok (.isub, 1) := dc_100 (by decide +kernel)
theorem dX8_delimited_46 : decode cX8_delimited 46 = .ok (.sipush 10000, 3) := dc_17 (a := 39) (b := 16) (v := 10000) (by decide +kernel)
theorem dX8_delimited_49 : decode cX8_delimited 49 = .ok (.if_icmp .gt 7, 3) := dc_163 (a := 0) (b := 7) (v := 7) (by decide +kernel)
theorem dX8_delimited_52 : decode cX8_delimited 52 = .ok (.iconst 1, 1) := dc_4 (by decide +kernel)
theorem dX8_delimited_53 : decode cX8_delimited 53 = .ok (.goto 4, 3) := dc_167 (a := 0) (b := 4) (v := 4) (by decide +kernel)
theorem dX8_delimited_56 : decode cX8_delimited 56 = .ok (.iconst 0, 1) := dc_3 (by decide +kernel)
theorem dX8_delimited_57 : decode cX8_delimited 57 = .ok (.iconst 2, 1) := dc_5 (by decide +kernel)
theorem dX8_delimited_58 : decode cX8_delimited 58 = .ok (.invokevirtual 145, 3) := dc_182 (a := 0) (b := 145) (n := 145) (by decide +kernel)
theorem dX8_delimited_61 : decode cX8_delimited 61 = .ok (.iload 8, 2) := dc_21 (a := 8) (by decide +kernel)
theorem dX8_delimited_63 : decode cX8_delimited 63 = .ok (.iconst 1, 1) := dc_4 (by decide +kernel)
theorem dX8_delimited_64 : decode cX8_delimited 64 = .ok (.invokestatic 193, 3) := dc_184 (a := 0) (b := 193) (n := 193) (by decide +kernel)
theorem dX8_delimited_67 : decode cX8_delimited 67 = .ok (.ifCond .eq 6, 3) := dc_153 (a := 0) (b := 6) (v := 6) (by decide +kernel)
theorem dX8_delimited_70 : decode cX8_delimited 70 = .ok (.iinc 5 1, 3) := dc_132 (a := 5) (b := 1) (v := 1) (by decide +kernel)
theorem dX8_delimited_73 : decode cX8_delimited 73 = .ok (.iload 8, 2) := dc_21 (a := 8) (by decide +kernel)
theorem dX8_delimited_75 : decode cX8_delimited 75 = .ok (.iconst 2, 1) := dc_5 (by decide +kernel)
theorem dX8_delimited_76 : decode cX8_delimited 76 = .ok (.invokestatic 193, 3) := dc_184 (a := 0) (b := 193) (n := 193) (by decide +kernel)
theorem dX8_delimited_79 : decode cX8_delimited 79 = .ok (.ifCond .eq 6, 3) := dc_153 (a := 0) (b := 6) (v := 6) (by decide +kernel)
theorem dX8_delimited_82 : decode cX8_delimited 82 = .ok (.iinc 5 (-1), 3) := dc_132 (a := 5) (b := 255) (v := -1) (by decide +kernel)
theorem dX8_delimited_85 : decode cX8_delimited 85 = .ok (.aload_n 0, 1) := dc_42 (by decide +kernel)
theorem dX8_delimited_86 : decode cX8_delimited 86 = .ok (.getfield 51, 3) := dc_180 (a := 0) (b := 51) (n := 51) (by decide +kernel)
theorem dX8_delimited_89 : decode cX8_delimited 89 = .ok (.iload 5, 2) := dc_21 (a := 5) (by decide +kernel)
theorem dX8_delimited_91 : decode cX8_delimited 91 = .ok (.ifCond .lt 7, 3) := dc_155 (a := 0) (b := 7) (v := 7) (by decide +kernel)
theorem dX8_delimited_94 : decode cX8_delimited 94 = .ok (.iconst 1, 1) := dc_4 (by decide +kernel)
theorem dX8_delimited_95 : decode cX8_delimited 95 = .ok (.goto 4, 3) := dc_167 (a := 0) (b := 4) (v := 4) (by decide +kernel)
theorem dX8_delimited_98 : decode cX8_delimited 98 = .ok (.iconst 0, 1) := dc_3 (by decide +kernel)
theorem dX8_delimited_99 : decode cX8_delimited 99 = .ok (.iconst 5, 1) := dc_8 (by decide +kernel)
theorem dX8_delimited_100 : decode cX8_delimited 100 = .ok (.invokevirtual 145, 3) := dc_182 (a := 0) (b := 145) (n := 145) (by decide +kernel)
theorem dX8_delimited_103 : decode cX8_delimited 103 = .ok (.iload 5, 2) := dc_21 (a := 5) (by decide +kernel)
theorem dX8_delimited_105 : decode cX8_delimited 105 = .ok (.ifCond .gt 12, 3) := dc_157 (a := 0) (b := 12) (v := 12) (by decide +kernel)
theorem dX8_delimited_108 : decode cX8_delimited 108 = .ok (.iload 8, 2) := dc_21 (a := 8) (by decide +kernel)
theorem dX8_delimited_110 : decode cX8_delimited 110 = .ok (.iconst 2, 1) := dc_5 (by decide +kernel)
theorem dX8_delimited_111 : decode cX8_delimited 111 = .ok (.invokestatic 193, 3) := dc_184 (a := 0) (b := 193) (n := 193) (by decide +kernel)
theorem dX8_delimited_114 : decode cX8_delimited 114 = .ok (.ifCond .eq 7, 3) := dc_153 (a := 0) (b := 7) (v := 7) (by decide +kernel)
theorem dX8_delimited_117 : decode cX8_delimited 117 = .ok (.iconst 0, 1) := dc_3 (by decide +kernel)
theorem dX8_delimited_118 : decode cX8_delimited 118 = .ok (.goto 7, 3) := dc_167 (a := 0) (b := 7) (v := 7) (by decide +kernel)
theorem dX8_delimited_121 : decode cX8_delimited 121 = .ok (.iload 6, 2) := dc_21 (a := 6) (by decide +kernel)
theorem dX8_delimited_123 : decode cX8_delimited 123 = .ok (.iconst 1, 1) := dc_4 (by decide +kernel)
theorem dX8_delimited_124 : decode cX8_delimited 124 = .ok (.iadd, 1) := dc_96 (by decide +kernel)
theorem dX8_delimited_125 : decode cX8_delimited 125 = .ok (.istore 6, 2) := dc_54 (a := 6) (by decide +kernel)
theorem dX8_delimited_127 : decode cX8_delimited 127 = .ok (.iload 6, 2) := dc_21 (a := 6) (by decide +kernel)
theorem dX8_delimited_129 : decode cX8_delimited 129 = .ok (.iload 4, 2) := dc_21 (a := 4) (by decide +kernel)
theorem dX8_delimited_131 : decode cX8_delimited 131 = .ok (.if_icmp .lt 7, 3) := dc_161 (a := 0) (b := 7) (v := 7) (by decide +kernel)
theorem dX8_delimited_134 : decode cX8_delimited 134 = .ok (.iconst 1, 1) := dc_4 (by decide +kernel)
theorem dX8_delimited_135 : decode cX8_delimited 135 = .ok (.goto 4, 3) := dc_167 (a := 0) (b := 4) (v := 4) (by decide +kernel)
theorem dX8_delimited_138 : decode cX8_delimited 138 = .ok (.iconst 0, 1) := dc_3 (by decide +kernel)
theorem dX8_delimited_139 : decode cX8_delimited 139 = .ok (.istore 7, 2) := dc_54 (a := 7) (by decide +kernel)
theorem dX8_delimited_141 : decode cX8_delimited 141 = .ok (.iconst 0, 1) := dc_3 (by decide +kernel)
theorem dX8_delimited_142 : decode cX8_delimited 142 = .ok (.istore 9, 2) := dc_54 (a := 9) (by decide +kernel)
theorem dX8_delimited_144 : decode cX8_delimited 144 = .ok (.iload 7, 2) := dc_21 (a := 7) (by decide +kernel)
theorem dX8_delimited_146 : decode cX8_delimited 146 = .ok (.ifCond .eq 56, 3) := dc_153 (a := 0) (b := 56) (v := 56) (by decide +kernel)
theorem dX8_delimited_149 : decode cX8_delimited 149 = .ok (.iload 9, 2) := dc_21 (a := 9) (by decide +kernel)
theorem dX8_delimited_151 : decode cX8_delimited 151 = .ok (.iload 4, 2) := dc_21 (a := 4) (by decide +kernel)
theorem dX8_delimited_153 : decode cX8_delimited 153 = .ok (.if_icmp .ge 49, 3) := dc_162 (a := 0) (b := 49) (v := 49) (by decide +kernel)
theorem dX8_delimited_156 : decode cX8_delimited 156 = .ok (.aload_n 0, 1) := dc_42 (by decide +kernel)
theorem dX8_delimited_157 : decode cX8_delimited 157 = .ok (.getfield 28, 3) := dc_180 (a := 0) (b := 28) (n := 28) (by decide +kernel)
theorem dX8_delimited_160 : decode cX8_delimited 160 = .ok (.aload_n 0, 1) := dc_42 (by decide +kernel)
theorem dX8_delimited_161 : decode cX8_delimited 161 = .ok (.getfield 288, 3) := dc_180 (a := 1) (b := 32) (n := 288) (by decide +kernel)
theorem dX8_delimited_164 : decode cX8_delimited 164 = .ok (.iload 4, 2) := dc_21 (a := 4) (by decide +kernel)
theorem dX8_delimited_166 : decode cX8_delimited 166 = .ok (.isub, 1) := dc_100 (by decide +kernel)
theorem dX8_delimited_167 : decode cX8_delimited 167 = .ok (.iload 9, 2) := dc_21 (a := 9) (by decide +kernel)
theorem dX8_delimited_169 : decode cX8_delimited 169 = .ok (.iadd, 1) := dc_96 (by decide +kernel)
theorem dX8_delimited_170 : decode cX8_delimited 170 = .ok (.iaload, 1) := dc_46 (by decide +kernel)
theorem dX8_delimited_171 : decode cX8_delimited 171 = .ok (.invokestatic 219, 3) := dc_184 (a := 0) (b := 219) (n := 219) (by decide +kernel)
theorem dX8_delimited_174 : decode cX8_delimited 174 = .ok (.aload_n 0, 1) := dc_42 (by decide +kernel)
theorem dX8_delimited_175 : decode cX8_delimited 175 = .ok (.getfield 84, 3) := dc_180 (a := 0) (b := 84) (n := 84) (by decide +kernel)
theorem dX8_delimited_178 : decode cX8_delimited 178 = .ok (.getfield 304, 3) := dc_180 (a := 1) (b := 48) (n := 304) (by decide +kernel)
theorem dX8_delimited_181 : decode cX8_delimited 181 = .ok (.iload_n 1, 1) := dc_27 (by decide +kernel)
theorem dX8_delimited_182 : decode cX8_delimited 182 = .ok (.iload 9, 2) := dc_21 (a := 9) (by decide +kernel)
theorem dX8_delimited_184 : decode cX8_delimited 184 = .ok (.iadd, 1) := dc_96 (by decide +kernel)
theorem dX8_delimited_185 : decode cX8_delimited 185 = .ok (.iaload, 1) := dc_46 (by decide +kernel)
theorem dX8_delimited_186 : decode cX8_delimited 186 = .ok (.if_icmp .ne 7, 3) := dc_160 (a := 0) (b := 7) (v := 7) (by decide +kernel)
theorem dX8_delimited_189 : decode cX8_delimited 189 = .ok (.iconst 1, 1) := dc_4 (by decide +kernel)
theorem dX8_delimited_190 : decode cX8_delimited 190 = .ok (.goto 4, 3) := dc_167 (a := 0) (b := 4) (v := 4) (by decide +kernel)
theorem dX8_delimited_193 : decode cX8_delimited 193 = .ok (.iconst 0, 1) := dc_3 (by decide +kernel)
theorem dX8_delimited_194 : decode cX8_delimited 194 = .ok (.istore 7, 2) := dc_54 (a := 7) (by decide +kernel)
theorem dX8_delimited_196 : decode cX8_delimited 196 = .ok (.iinc 9 1, 3) := dc_132 (a := 9) (b := 1) (v := 1) (by decide +kernel)
theorem dX8_delimited_199 : decode cX8_delimited 199 = .ok (.goto (-55), 3) := dc_167 (a := 255) (b := 201) (v := -55) (by decide +kernel)
theorem dX8_delimited_202 : decode cX8_delimited 202 = .ok (.goto (-183), 3) := dc_167 (a := 255) (b := 73) (v := -183) (by decide +kernel)
theorem dX8_delimited_205 : decode cX8_delimited 205 = .ok (.aload_n 0, 1) := dc_42 (by decide +kernel)
theorem dX8_delimited_206 : decode cX8_delimited 206 = .ok (.dup, 1) := dc_89 (by decide +kernel)
theorem dX8_delimited_207 : decode cX8_delimited 207 = .ok (.getfield 288, 3) := dc_180 (a := 1) (b := 32) (n := 288) (by decide +kernel)
theorem dX8_delimited_210 : decode cX8_delimited 210 = .ok (.iload 4, 2) := dc_21 (a := 4) (by decide +kernel)
theorem dX8_delimited_212 : decode cX8_delimited 212 = .ok (.isub, 1) := dc_100 (by decide +kernel)
theorem dX8_delimited_213 : decode cX8_delimited 213 = .ok (.putfield 288, 3) := dc_181 (a := 1) (b := 32) (n := 288) (by decide +kernel)
theorem dX8_delimited_216 : decode cX8_delimited 216 = .ok (.aload_n 0, 1) := dc_42 (by decide +kernel)
theorem dX8_delimited_217 : decode cX8_delimited 217 = .ok (.iload_n 3, 1) := dc_29 (by decide +kernel)
theorem dX8_delimited_218 : decode cX8_delimited 218 = .ok (.invokevirtual 326, 3) := dc_182 (a := 1) (b := 70) (n := 326) (by decide +kernel)
theorem dX8_delimited_221 : decode cX8_delimited 221 = .ok (.return_, 1) := dc_177 (by decide +kernel)
theorem GX8_304 {w : eW} {d : Nat} {Y : eY} {pc : Nat} {ls : eL} {st : List Value} {h : eH} {Q : eO → eH → Prop} {a : Nat} {x : Nat} (hf : g_A 11 h a 1 = some x) (hd : decode Y.2.1 pc = .ok (.getfield 304, 3)) (hY : Y.1.cls = RX8) (kk : wp w d Y (pc + 3) ls (.ref x :: st) h Q) : wp w d Y pc ls (.ref a :: st) h Q := x_gAN (ci := 11) (k := 1) hf hd rfl (by decide) (by rw [hY]; exact q780) kk
def fX8_delimited_b194 (N : Nat) (k144 : Nat → Int32 → Int32 → Int32 → Int32 → Int32 → Int32 → Int32 → eH → Option ((Unit ⊕ Nat) × eH)) (l0 : Nat) (l1 : Int32) (l3 : Int32) (l4 : Int32) (l5 : Int32) (l6 : Int32) (l9 : Int32) (s0 : Int32) (h : eH) : Option ((Unit ⊕ Nat) × eH) :=
  k144 l0 l1 l3 l4 l5 l6 s0 (l9 + (1 : Int32)) h
theorem pX8_delimited_b194 {w : eW} {d : Nat} (hd : 14 ≤ d + 1) {N : Nat} {k144 : Nat → Int32 → Int32 → Int32 → Int32 → Int32 → Int32 → Int32 → eH → Option ((Unit ⊕ Nat) × eH)} (hk144 : ∀ l0 l1 l3 l4 l5 l6 l7 l9 h q, k144 l0 l1 l3 l4 l5 l6 l7 l9 h = some q → wp w (d + 1) YX8_delimited 144 [some (.ref l0), some (.int l1), none, some (.int l3), some (.int l4), some (.int l5), some (.int l6), some (.int l7), none, some (.int l9)] [] h (e_is (e_rt c_V q))) {l0 : Nat} {l1 : Int32} {l3 : Int32} {l4 : Int32} {l5 : Int32} {l6 : Int32} {l9 : Int32} {s0 : Int32} {h : eH} {q} (hf : fX8_delimited_b194 N k144 l0 l1 l3 l4 l5 l6 l9 s0 h = some q) : wp w (d + 1) YX8_delimited 194 [some (.ref l0), some (.int l1), none, some (.int l3), some (.int l4), some (.int l5), some (.int l6), none, none, some (.int l9)] [.int s0] h (e_is (e_rt c_V q)) := by
  unfold fX8_delimited_b194 at hf
  refine w_istore dX8_delimited_194 (by decide) (ls' := [some (.ref l0), some (.int l1), none, some (.int l3), some (.int l4), some (.int l5), some (.int l6), some (.int s0), none, some (.int l9)]) rfl ?_
  refine w_iinc dX8_delimited_196 (v := (l9 + (1 : Int32))) rfl rfl (by decide) (ls' := [some (.ref l0), some (.int l1), none, some (.int l3), some (.int l4), some (.int l5), some (.int l6), some (.int s0), none, some (.int (l9 + (1 : Int32)))]) rfl ?_
  refine w_goto 144 dX8_delimited_199 (by decide) ?_
  exact (hk144 _ _ _ _ _ _ _ _ _ _ hf).to ⟨rfl, rfl, rfl, rfl, rfl, rfl, rfl, rfl, trivial⟩
def fX8_delimited_b202 (N : Nat) (k19 : Nat → Int32 → Int32 → Int32 → Int32 → Int32 → Int32 → eH → Option ((Unit ⊕ Nat) × eH)) (l0 : Nat) (l1 : Int32) (l3 : Int32) (l4 : Int32) (l5 : Int32) (l6 : Int32) (l7 : Int32) (h : eH) : Option ((Unit ⊕ Nat) × eH) :=
  k19 l0 l1 l3 l4 l5 l6 l7 h
theorem pX8_delimited_b202 {w : eW} {d : Nat} (hd : 14 ≤ d + 1) {N : Nat} {k19 : Nat → Int32 → Int32 → Int32 → Int32 → Int32 → Int32 → eH → Option ((Unit ⊕ Nat) × eH)} (hk19 : ∀ l0 l1 l3 l4 l5 l6 l7 h q, k19 l0 l1 l3 l4 l5 l6 l7 h = some q → wp w (d + 1) YX8_delimited 19 [some (.ref l0), some (.int l1), none, some (.int l3), some (.int l4), some (.int l5), some (.int l6), some (.int l7), none, none] [] h (e_is (e_rt c_V q))) {l0 : Nat} {l1 : Int32} {l3 : Int32} {l4 : Int32} {l5 : Int32} {l6 : Int32} {l7 : Int32} {h : eH} {q} (hf : fX8_delimited_b202 N k19 l0 l1 l3 l4 l5 l6 l7 h = some q) : wp w (d + 1) YX8_delimited 202 [some (.ref l0), some (.int l1), none, some (.int l3), some (.int l4), some (.int l5), some (.int l6), some (.int l7), none, none] [] h (e_is (e_rt c_V q)) := by
  unfold fX8_delimited_b202 at hf
  refine w_goto 19 dX8_delimited_202 (by decide) ?_
  exact (hk19 _ _ _ _ _ _ _ _ _ hf).to ⟨rfl, rfl, rfl, rfl, rfl, rfl, rfl, trivial⟩
def fX8_delimited_b144 (N : Nat) (k19 : Nat → Int32 → Int32 → Int32 → Int32 → Int32 → Int32 → eH → Option ((Unit ⊕ Nat) × eH)) : Nat → Nat → Int32 → Int32 → Int32 → Int32 → Int32 → Int32 → Int32 → eH → Option ((Unit ⊕ Nat) × eH)
  | 0, _, _, _, _, _, _, _, _, _ => none
  | n + 1, l0, l1, l3, l4, l5, l6, l7, l9, h =>
    if l7 = 0 then
      fX8_delimited_b202 N k19 l0 l1 l3 l4 l5 l6 l7 h
    else
      if l4 ≤ l9 then
        fX8_delimited_b202 N k19 l0 l1 l3 l4 l5 l6 l7 h
      else
        (g_A 7 h l0 16).bind fun a3 =>
        (g_I 7 h l0 17).bind fun x5 =>
        (r_I 100 h a3 ((x5 - l4) + l9)).bind fun x7 =>
        (fX8_bare x7 h).bind fun q9 =>
        (g_A 7 q9.2 l0 6).bind fun a10 =>
        (g_A 11 q9.2 a10 1).bind fun a12 =>
        (r_I 100 q9.2 a12 (l1 + l9)).bind fun x14 =>
        if ¬ q9.1 = x14 then
          fX8_delimited_b194 N (fX8_delimited_b144 N k19 n) l0 l1 l3 l4 l5 l6 l9 (0 : Int32) q9.2
        else
          fX8_delimited_b194 N (fX8_delimited_b144 N k19 n) l0 l1 l3 l4 l5 l6 l9 (1 : Int32) q9.2
theorem pX8_delimited_b144 {w : eW} {d : Nat} (hd : 14 ≤ d + 1) {N : Nat} {k19 : Nat → Int32 → Int32 → Int32 → Int32 → Int32 → Int32 → eH → Option ((Unit ⊕ Nat) × eH)} (hk19 : ∀ l0 l1 l3 l4 l5 l6 l7 h q, k19 l0 l1 l3 l4 l5 l6 l7 h = some q → wp w (d + 1) YX8_delimited 19 [some (.ref l0), some (.int l1), none, some (.int l3), some (.int l4), some (.int l5), some (.int l6), some (.int l7), none, none] [] h (e_is (e_rt c_V q))) : ∀ (n : Nat) l0 l1 l3 l4 l5 l6 l7 l9 h q, fX8_delimited_b144 N k19 n l0 l1 l3 l4 l5 l6 l7 l9 h = some q → wp w (d + 1) YX8_delimited 144 [some (.ref l0), some (.int l1), none, some (.int l3), some (.int l4), some (.int l5), some (.int l6), some (.int l7), none, some (.int l9)] [] h (e_is (e_rt c_V q)) := by
  intro n
  induction n with
  | zero => intro l0 l1 l3 l4 l5 l6 l7 l9 h q hf; simp [fX8_delimited_b144] at hf
  | succ n ih =>
    intro l0 l1 l3 l4 l5 l6 l7 l9 h q hf
    rw [fX8_delimited_b144] at hf
    refine w_iload dX8_delimited_144 rfl ?_
    refine w_if_eq 202 dX8_delimited_146 (by decide) (fun c1 => ?_) (fun c1 => ?_)
    · replace hf := (if_pos (show l7 = 0 from c1)).symm.trans hf
      exact (pX8_delimited_b202 hd hk19 hf).to ⟨rfl, rfl, rfl, rfl, rfl, rfl, rfl, trivial⟩
    · replace hf := (if_neg (show ¬ (l7 = 0) from c1)).symm.trans hf
      refine w_iload dX8_delimited_149 rfl ?_
      refine w_iload dX8_delimited_151 rfl ?_
      refine w_icmp_ge 202 dX8_delimited_153 (by decide) (fun c2 => ?_) (fun c2 => ?_)
      · replace hf := (if_pos (show l4 ≤ l9 from c2)).symm.trans hf
        exact (pX8_delimited_b202 hd hk19 hf).to ⟨rfl, rfl, rfl, rfl, rfl, rfl, rfl, trivial⟩
      · replace hf := (if_neg (show ¬ (l4 ≤ l9) from c2)).symm.trans hf
        refine w_aload_n dX8_delimited_156 rfl rfl ?_
        obtain ⟨a3, b4, hf⟩ := Option.bind_eq_some_iff.mp hf
        refine GX8_28 b4 dX8_delimited_157 rfl ?_
        refine w_aload_n dX8_delimited_160 rfl rfl ?_
        obtain ⟨x5, b6, hf⟩ := Option.bind_eq_some_iff.mp hf
        refine GX8_288 b6 dX8_delimited_161 rfl ?_
        refine w_iload dX8_delimited_164 rfl ?_
        refine w_isub dX8_delimited_166 ?_
        refine w_iload dX8_delimited_167 rfl ?_
        refine w_iadd dX8_delimited_169 ?_
        obtain ⟨x7, b8, hf⟩ := Option.bind_eq_some_iff.mp hf
        refine x_rI b8 dX8_delimited_170 ?_
        refine x_cnI hf (e_stS (Yc := YX8_bare) (av := [.int x7]) (st := []) dX8_delimited_171 q2510 mX8_bare) mX8_bare.2.2.1 mX8_bare.2.2.2.2.1 (Nat.le_of_ble_eq_true rfl) (Nat.le_of_ble_eq_true rfl) (fun q hq => pX8_bare (by omega) hq) (fun q9 hf => ?_)
        refine w_aload_n dX8_delimited_174 rfl rfl ?_
        obtain ⟨a10, b11, hf⟩ := Option.bind_eq_some_iff.mp hf
        refine GX8_84 b11 dX8_delimited_175 rfl ?_
        obtain ⟨a12, b13, hf⟩ := Option.bind_eq_some_iff.mp hf
        refine GX8_304 b13 dX8_delimited_178 rfl ?_
        refine w_iload_n dX8_delimited_181 rfl rfl ?_
        refine w_iload dX8_delimited_182 rfl ?_
        refine w_iadd dX8_delimited_184 ?_
        obtain ⟨x14, b15, hf⟩ := Option.bind_eq_some_iff.mp hf
        refine x_rI b15 dX8_delimited_185 ?_
        refine w_icmp_ne 193 dX8_delimited_186 (by decide) (fun c16 => ?_) (fun c16 => ?_)
        · replace hf := (if_pos (show ¬ q9.1 = x14 from c16)).symm.trans hf
          refine w_iconst dX8_delimited_193 (v := 0) (by decide) ?_
          exact (pX8_delimited_b194 hd ih hf).to ⟨rfl, rfl, rfl, rfl, rfl, rfl, rfl, trivial⟩
        · replace hf := (if_neg (show ¬ (¬ q9.1 = x14) from (fun z => z c16))).symm.trans hf
          refine w_iconst dX8_delimited_189 (v := 1) (by decide) ?_
          refine w_goto 194 dX8_delimited_190 (by decide) ?_
          exact (pX8_delimited_b194 hd ih hf).to ⟨rfl, rfl, rfl, rfl, rfl, rfl, rfl, trivial⟩
def fX8_delimited_b139 (N : Nat) (k19 : Nat → Int32 → Int32 → Int32 → Int32 → Int32 → Int32 → eH → Option ((Unit ⊕ Nat) × eH)) (l0 : Nat) (l1 : Int32) (l3 : Int32) (l4 : Int32) (l5 : Int32) (l6 : Int32) (s0 : Int32) (h : eH) : Option ((Unit ⊕ Nat) × eH) :=
  fX8_delimited_b144 N k19 N l0 l1 l3 l4 l5 l6 s0 (0 : Int32) h
theorem pX8_delimited_b139 {w : eW} {d : Nat} (hd : 14 ≤ d + 1) {N : Nat} {k19 : Nat → Int32 → Int32 → Int32 → Int32 → Int32 → Int32 → eH → Option ((Unit ⊕ Nat) × eH)} (hk19 : ∀ l0 l1 l3 l4 l5 l6 l7 h q, k19 l0 l1 l3 l4 l5 l6 l7 h = some q → wp w (d + 1) YX8_delimited 19 [some (.ref l0), some (.int l1), none, some (.int l3), some (.int l4), some (.int l5), some (.int l6), some (.int l7), none, none] [] h (e_is (e_rt c_V q))) {l0 : Nat} {l1 : Int32} {l3 : Int32} {l4 : Int32} {l5 : Int32} {l6 : Int32} {s0 : Int32} {h : eH} {q} (hf : fX8_delimited_b139 N k19 l0 l1 l3 l4 l5 l6 s0 h = some q) : wp w (d + 1) YX8_delimited 139 [some (.ref l0), some (.int l1), none, some (.int l3), some (.int l4), some (.int l5), some (.int l6), none, none, none] [.int s0] h (e_is (e_rt c_V q)) := by
  unfold fX8_delimited_b139 at hf
  refine w_istore dX8_delimited_139 (by decide) (ls' := [some (.ref l0), some (.int l1), none, some (.int l3), some (.int l4), some (.int l5), some (.int l6), some (.int s0), none, none]) rfl ?_
  refine w_iconst dX8_delimited_141 (v := 0) (by decide) ?_
  refine w_istore dX8_delimited_142 (by decide) (ls' := [some (.ref l0), some (.int l1), none, some (.int l3), some (.int l4), some (.int l5), some (.int l6), some (.int s0), none, some (.int (0 : Int32))]) rfl ?_
  exact (pX8_delimited_b144 hd hk19 N _ _ _ _ _ _ _ _ _ _ hf).to ⟨rfl, rfl, rfl, rfl, rfl, rfl, rfl, rfl, trivial⟩
def fX8_delimited_b125 (N : Nat) (k19 : Nat → Int32 → Int32 → Int32 → Int32 → Int32 → Int32 → eH → Option ((Unit ⊕ Nat) × eH)) (l0 : Nat) (l1 : Int32) (l3 : Int32) (l4 : Int32) (l5 : Int32) (s0 : Int32) (h : eH) : Option ((Unit ⊕ Nat) × eH) :=
  if s0 < l4 then
    fX8_delimited_b139 N k19 l0 l1 l3 l4 l5 s0 (0 : Int32) h
  else
    fX8_delimited_b139 N k19 l0 l1 l3 l4 l5 s0 (1 : Int32) h
theorem pX8_delimited_b125 {w : eW} {d : Nat} (hd : 14 ≤ d + 1) {N : Nat} {k19 : Nat → Int32 → Int32 → Int32 → Int32 → Int32 → Int32 → eH → Option ((Unit ⊕ Nat) × eH)} (hk19 : ∀ l0 l1 l3 l4 l5 l6 l7 h q, k19 l0 l1 l3 l4 l5 l6 l7 h = some q → wp w (d + 1) YX8_delimited 19 [some (.ref l0), some (.int l1), none, some (.int l3), some (.int l4), some (.int l5), some (.int l6), some (.int l7), none, none] [] h (e_is (e_rt c_V q))) {l0 : Nat} {l1 : Int32} {l3 : Int32} {l4 : Int32} {l5 : Int32} {s0 : Int32} {h : eH} {q} (hf : fX8_delimited_b125 N k19 l0 l1 l3 l4 l5 s0 h = some q) : wp w (d + 1) YX8_delimited 125 [some (.ref l0), some (.int l1), none, some (.int l3), some (.int l4), some (.int l5), none, none, none, none] [.int s0] h (e_is (e_rt c_V q)) := by
  unfold fX8_delimited_b125 at hf
  refine w_istore dX8_delimited_125 (by decide) (ls' := [some (.ref l0), some (.int l1), none, some (.int l3), some (.int l4), some (.int l5), some (.int s0), none, none, none]) rfl ?_
  refine w_iload dX8_delimited_127 rfl ?_
  refine w_iload dX8_delimited_129 rfl ?_
  refine w_icmp_lt 138 dX8_delimited_131 (by decide) (fun c1 => ?_) (fun c1 => ?_)
  · replace hf := (if_pos (show s0 < l4 from c1)).symm.trans hf
    refine w_iconst dX8_delimited_138 (v := 0) (by decide) ?_
    exact (pX8_delimited_b139 hd hk19 hf).to ⟨rfl, rfl, rfl, rfl, rfl, rfl, trivial⟩
  · replace hf := (if_neg (show ¬ (s0 < l4) from c1)).symm.trans hf
    refine w_iconst dX8_delimited_134 (v := 1) (by decide) ?_
    refine w_goto 139 dX8_delimited_135 (by decide) ?_
    exact (pX8_delimited_b139 hd hk19 hf).to ⟨rfl, rfl, rfl, rfl, rfl, rfl, trivial⟩
def fX8_delimited_b117 (N : Nat) (k19 : Nat → Int32 → Int32 → Int32 → Int32 → Int32 → Int32 → eH → Option ((Unit ⊕ Nat) × eH)) (l0 : Nat) (l1 : Int32) (l3 : Int32) (l4 : Int32) (l5 : Int32) (h : eH) : Option ((Unit ⊕ Nat) × eH) :=
  fX8_delimited_b125 N k19 l0 l1 l3 l4 l5 (0 : Int32) h
theorem pX8_delimited_b117 {w : eW} {d : Nat} (hd : 14 ≤ d + 1) {N : Nat} {k19 : Nat → Int32 → Int32 → Int32 → Int32 → Int32 → Int32 → eH → Option ((Unit ⊕ Nat) × eH)} (hk19 : ∀ l0 l1 l3 l4 l5 l6 l7 h q, k19 l0 l1 l3 l4 l5 l6 l7 h = some q → wp w (d + 1) YX8_delimited 19 [some (.ref l0), some (.int l1), none, some (.int l3), some (.int l4), some (.int l5), some (.int l6), some (.int l7), none, none] [] h (e_is (e_rt c_V q))) {l0 : Nat} {l1 : Int32} {l3 : Int32} {l4 : Int32} {l5 : Int32} {h : eH} {q} (hf : fX8_delimited_b117 N k19 l0 l1 l3 l4 l5 h = some q) : wp w (d + 1) YX8_delimited 117 [some (.ref l0), some (.int l1), none, some (.int l3), some (.int l4), some (.int l5), none, none, none, none] [] h (e_is (e_rt c_V q)) := by
  unfold fX8_delimited_b117 at hf
  refine w_iconst dX8_delimited_117 (v := 0) (by decide) ?_
  refine w_goto 125 dX8_delimited_118 (by decide) ?_
  exact (pX8_delimited_b125 hd hk19 hf).to ⟨rfl, rfl, rfl, rfl, rfl, trivial⟩
def fX8_delimited_b99 (N : Nat) (k19 : Nat → Int32 → Int32 → Int32 → Int32 → Int32 → Int32 → eH → Option ((Unit ⊕ Nat) × eH)) (l0 : Nat) (l1 : Int32) (l3 : Int32) (l4 : Int32) (l5 : Int32) (l6 : Int32) (l8 : Int32) (s0 : Nat) (s1 : Int32) (h : eH) : Option ((Unit ⊕ Nat) × eH) :=
  (k_ok 3 h s0).bind fun _ =>
  t_B (fX4_want s0 s1 (5 : Int32) h) fun x2 h3 =>
  if 0 < l5 then
    fX8_delimited_b117 N k19 l0 l1 l3 l4 l5 h3
  else
    (fX1_is l8 (2 : Int32) h3).bind fun q5 =>
    if q5.1 = 0 then
      fX8_delimited_b125 N k19 l0 l1 l3 l4 l5 (l6 + (1 : Int32)) q5.2
    else
      fX8_delimited_b117 N k19 l0 l1 l3 l4 l5 q5.2
theorem pX8_delimited_b99 {w : eW} {d : Nat} (hd : 14 ≤ d + 1) {N : Nat} {k19 : Nat → Int32 → Int32 → Int32 → Int32 → Int32 → Int32 → eH → Option ((Unit ⊕ Nat) × eH)} (hk19 : ∀ l0 l1 l3 l4 l5 l6 l7 h q, k19 l0 l1 l3 l4 l5 l6 l7 h = some q → wp w (d + 1) YX8_delimited 19 [some (.ref l0), some (.int l1), none, some (.int l3), some (.int l4), some (.int l5), some (.int l6), some (.int l7), none, none] [] h (e_is (e_rt c_V q))) {l0 : Nat} {l1 : Int32} {l3 : Int32} {l4 : Int32} {l5 : Int32} {l6 : Int32} {l8 : Int32} {s0 : Nat} {s1 : Int32} {h : eH} {q} (hf : fX8_delimited_b99 N k19 l0 l1 l3 l4 l5 l6 l8 s0 s1 h = some q) : wp w (d + 1) YX8_delimited 99 [some (.ref l0), some (.int l1), none, some (.int l3), some (.int l4), some (.int l5), some (.int l6), none, some (.int l8), none] [.int s1, .ref s0] h (e_is (e_rt c_V q)) := by
  unfold fX8_delimited_b99 at hf
  refine w_iconst dX8_delimited_99 (v := 5) (by decide) ?_
  obtain ⟨_, b1, hf⟩ := Option.bind_eq_some_iff.mp hf
  refine x_ctV hf (e_stV (Yc := YX4_want) (ci := 3) (av := [.int s1, .int (5 : Int32)]) (st := []) dX8_delimited_100 q2500 mX4_want rfl (k_ok_some b1).1 (k_ok_some b1).2) mX4_want.2.2.1 mX4_want.2.2.2.2.1 (Nat.le_of_ble_eq_true rfl) (Nat.le_of_ble_eq_true rfl) rfl (fun q hq => pX4_want (by omega) hq) (fun x2 h3 hf => ?_)
  refine w_iload dX8_delimited_103 rfl ?_
  refine w_if_gt 117 dX8_delimited_105 (by decide) (fun c4 => ?_) (fun c4 => ?_)
  · replace hf := (if_pos (show 0 < l5 from c4)).symm.trans hf
    exact (pX8_delimited_b117 hd hk19 hf).to ⟨rfl, rfl, rfl, rfl, rfl, trivial⟩
  · replace hf := (if_neg (show ¬ (0 < l5) from c4)).symm.trans hf
    refine w_iload dX8_delimited_108 rfl ?_
    refine w_iconst dX8_delimited_110 (v := 2) (by decide) ?_
    refine x_cnI hf (e_stSN (Yc := YX1_is) (av := [.int l8, .int (2 : Int32)]) (st := []) dX8_delimited_111 q2518 mX1_is) mX1_is.2.2.1 mX1_is.2.2.2.2.1 (Nat.le_of_ble_eq_true rfl) (Nat.le_of_ble_eq_true rfl) (fun q hq => pX1_is (by omega) hq) (fun q5 hf => ?_)
    refine w_if_eq 121 dX8_delimited_114 (by decide) (fun c6 => ?_) (fun c6 => ?_)
    · replace hf := (if_pos (show q5.1 = 0 from c6)).symm.trans hf
      refine w_iload dX8_delimited_121 rfl ?_
      refine w_iconst dX8_delimited_123 (v := 1) (by decide) ?_
      refine w_iadd dX8_delimited_124 ?_
      exact (pX8_delimited_b125 hd hk19 hf).to ⟨rfl, rfl, rfl, rfl, rfl, trivial⟩
    · replace hf := (if_neg (show ¬ (q5.1 = 0) from c6)).symm.trans hf
      exact (pX8_delimited_b117 hd hk19 hf).to ⟨rfl, rfl, rfl, rfl, rfl, trivial⟩
def fX8_delimited_b85 (N : Nat) (k19 : Nat → Int32 → Int32 → Int32 → Int32 → Int32 → Int32 → eH → Option ((Unit ⊕ Nat) × eH)) (l0 : Nat) (l1 : Int32) (l3 : Int32) (l4 : Int32) (l5 : Int32) (l6 : Int32) (l8 : Int32) (h : eH) : Option ((Unit ⊕ Nat) × eH) :=
  (g_A 7 h l0 0).bind fun a1 =>
  if l5 < 0 then
    fX8_delimited_b99 N k19 l0 l1 l3 l4 l5 l6 l8 a1 (0 : Int32) h
  else
    fX8_delimited_b99 N k19 l0 l1 l3 l4 l5 l6 l8 a1 (1 : Int32) h
theorem pX8_delimited_b85 {w : eW} {d : Nat} (hd : 14 ≤ d + 1) {N : Nat} {k19 : Nat → Int32 → Int32 → Int32 → Int32 → Int32 → Int32 → eH → Option ((Unit ⊕ Nat) × eH)} (hk19 : ∀ l0 l1 l3 l4 l5 l6 l7 h q, k19 l0 l1 l3 l4 l5 l6 l7 h = some q → wp w (d + 1) YX8_delimited 19 [some (.ref l0), some (.int l1), none, some (.int l3), some (.int l4), some (.int l5), some (.int l6), some (.int l7), none, none] [] h (e_is (e_rt c_V q))) {l0 : Nat} {l1 : Int32} {l3 : Int32} {l4 : Int32} {l5 : Int32} {l6 : Int32} {l8 : Int32} {h : eH} {q} (hf : fX8_delimited_b85 N k19 l0 l1 l3 l4 l5 l6 l8 h = some q) : wp w (d + 1) YX8_delimited 85 [some (.ref l0), some (.int l1), none, some (.int l3), some (.int l4), some (.int l5), some (.int l6), none, some (.int l8), none] [] h (e_is (e_rt c_V q)) := by
  unfold fX8_delimited_b85 at hf
  refine w_aload_n dX8_delimited_85 rfl rfl ?_
  obtain ⟨a1, b2, hf⟩ := Option.bind_eq_some_iff.mp hf
  refine GX8_51 b2 dX8_delimited_86 rfl ?_
  refine w_iload dX8_delimited_89 rfl ?_
  refine w_if_lt 98 dX8_delimited_91 (by decide) (fun c3 => ?_) (fun c3 => ?_)
  · replace hf := (if_pos (show l5 < 0 from c3)).symm.trans hf
    refine w_iconst dX8_delimited_98 (v := 0) (by decide) ?_
    exact (pX8_delimited_b99 hd hk19 hf).to ⟨rfl, rfl, rfl, rfl, rfl, rfl, rfl, trivial⟩
  · replace hf := (if_neg (show ¬ (l5 < 0) from c3)).symm.trans hf
    refine w_iconst dX8_delimited_94 (v := 1) (by decide) ?_
    refine w_goto 99 dX8_delimited_95 (by decide) ?_
    exact (pX8_delimited_b99 hd hk19 hf).to ⟨rfl, rfl, rfl, rfl, rfl, rfl, rfl, trivial⟩
def fX8_delimited_b73 (N : Nat) (k19 : Nat → Int32 → Int32 → Int32 → Int32 → Int32 → Int32 → eH → Option ((Unit ⊕ Nat) × eH)) (l0 : Nat) (l1 : Int32) (l3 : Int32) (l4 : Int32) (l5 : Int32) (l6 : Int32) (l8 : Int32) (h : eH) : Option ((Unit ⊕ Nat) × eH) :=
  (fX1_is l8 (2 : Int32) h).bind fun q1 =>
  if q1.1 = 0 then
    fX8_delimited_b85 N k19 l0 l1 l3 l4 l5 l6 l8 q1.2
  else
    fX8_delimited_b85 N k19 l0 l1 l3 l4 (l5 + (-1 : Int32)) l6 l8 q1.2
theorem pX8_delimited_b73 {w : eW} {d : Nat} (hd : 14 ≤ d + 1) {N : Nat} {k19 : Nat → Int32 → Int32 → Int32 → Int32 → Int32 → Int32 → eH → Option ((Unit ⊕ Nat) × eH)} (hk19 : ∀ l0 l1 l3 l4 l5 l6 l7 h q, k19 l0 l1 l3 l4 l5 l6 l7 h = some q → wp w (d + 1) YX8_delimited 19 [some (.ref l0), some (.int l1), none, some (.int l3), some (.int l4), some (.int l5), some (.int l6), some (.int l7), none, none] [] h (e_is (e_rt c_V q))) {l0 : Nat} {l1 : Int32} {l3 : Int32} {l4 : Int32} {l5 : Int32} {l6 : Int32} {l8 : Int32} {h : eH} {q} (hf : fX8_delimited_b73 N k19 l0 l1 l3 l4 l5 l6 l8 h = some q) : wp w (d + 1) YX8_delimited 73 [some (.ref l0), some (.int l1), none, some (.int l3), some (.int l4), some (.int l5), some (.int l6), none, some (.int l8), none] [] h (e_is (e_rt c_V q)) := by
  unfold fX8_delimited_b73 at hf
  refine w_iload dX8_delimited_73 rfl ?_
  refine w_iconst dX8_delimited_75 (v := 2) (by decide) ?_
  refine x_cnI hf (e_stSN (Yc := YX1_is) (av := [.int l8, .int (2 : Int32)]) (st := []) dX8_delimited_76 q2518 mX1_is) mX1_is.2.2.1 mX1_is.2.2.2.2.1 (Nat.le_of_ble_eq_true rfl) (Nat.le_of_ble_eq_true rfl) (fun q hq => pX1_is (by omega) hq) (fun q1 hf => ?_)
  refine w_if_eq 85 dX8_delimited_79 (by decide) (fun c2 => ?_) (fun c2 => ?_)
  · replace hf := (if_pos (show q1.1 = 0 from c2)).symm.trans hf
    exact (pX8_delimited_b85 hd hk19 hf).to ⟨rfl, rfl, rfl, rfl, rfl, rfl, rfl, trivial⟩
  · replace hf := (if_neg (show ¬ (q1.1 = 0) from c2)).symm.trans hf
    refine w_iinc dX8_delimited_82 (v := (l5 + (-1 : Int32))) rfl rfl (by decide) (ls' := [some (.ref l0), some (.int l1), none, some (.int l3), some (.int l4), some (.int (l5 + (-1 : Int32))), some (.int l6), none, some (.int l8), none]) rfl ?_
    exact (pX8_delimited_b85 hd hk19 hf).to ⟨rfl, rfl, rfl, rfl, rfl, rfl, rfl, trivial⟩
def fX8_delimited_b57 (N : Nat) (k19 : Nat → Int32 → Int32 → Int32 → Int32 → Int32 → Int32 → eH → Option ((Unit ⊕ Nat) × eH)) (l0 : Nat) (l1 : Int32) (l3 : Int32) (l4 : Int32) (l5 : Int32) (l6 : Int32) (l8 : Int32) (s0 : Nat) (s1 : Int32) (h : eH) : Option ((Unit ⊕ Nat) × eH) :=
  (k_ok 3 h s0).bind fun _ =>
  t_B (fX4_want s0 s1 (2 : Int32) h) fun x2 h3 =>
  (fX1_is l8 (1 : Int32) h3).bind fun q4 =>
  if q4.1 = 0 then
    fX8_delimited_b73 N k19 l0 l1 l3 l4 l5 l6 l8 q4.2
  else
    fX8_delimited_b73 N k19 l0 l1 l3 l4 (l5 + (1 : Int32)) l6 l8 q4.2
theorem pX8_delimited_b57 {w : eW} {d : Nat} (hd : 14 ≤ d + 1) {N : Nat} {k19 : Nat → Int32 → Int32 → Int32 → Int32 → Int32 → Int32 → eH → Option ((Unit ⊕ Nat) × eH)} (hk19 : ∀ l0 l1 l3 l4 l5 l6 l7 h q, k19 l0 l1 l3 l4 l5 l6 l7 h = some q → wp w (d + 1) YX8_delimited 19 [some (.ref l0), some (.int l1), none, some (.int l3), some (.int l4), some (.int l5), some (.int l6), some (.int l7), none, none] [] h (e_is (e_rt c_V q))) {l0 : Nat} {l1 : Int32} {l3 : Int32} {l4 : Int32} {l5 : Int32} {l6 : Int32} {l8 : Int32} {s0 : Nat} {s1 : Int32} {h : eH} {q} (hf : fX8_delimited_b57 N k19 l0 l1 l3 l4 l5 l6 l8 s0 s1 h = some q) : wp w (d + 1) YX8_delimited 57 [some (.ref l0), some (.int l1), none, some (.int l3), some (.int l4), some (.int l5), some (.int l6), none, some (.int l8), none] [.int s1, .ref s0] h (e_is (e_rt c_V q)) := by
  unfold fX8_delimited_b57 at hf
  refine w_iconst dX8_delimited_57 (v := 2) (by decide) ?_
  obtain ⟨_, b1, hf⟩ := Option.bind_eq_some_iff.mp hf
  refine x_ctV hf (e_stV (Yc := YX4_want) (ci := 3) (av := [.int s1, .int (2 : Int32)]) (st := []) dX8_delimited_58 q2500 mX4_want rfl (k_ok_some b1).1 (k_ok_some b1).2) mX4_want.2.2.1 mX4_want.2.2.2.2.1 (Nat.le_of_ble_eq_true rfl) (Nat.le_of_ble_eq_true rfl) rfl (fun q hq => pX4_want (by omega) hq) (fun x2 h3 hf => ?_)
  refine w_iload dX8_delimited_61 rfl ?_
  refine w_iconst dX8_delimited_63 (v := 1) (by decide) ?_
  refine x_cnI hf (e_stSN (Yc := YX1_is) (av := [.int l8, .int (1 : Int32)]) (st := []) dX8_delimited_64 q2518 mX1_is) mX1_is.2.2.1 mX1_is.2.2.2.2.1 (Nat.le_of_ble_eq_true rfl) (Nat.le_of_ble_eq_true rfl) (fun q hq => pX1_is (by omega) hq) (fun q4 hf => ?_)
  refine w_if_eq 73 dX8_delimited_67 (by decide) (fun c5 => ?_) (fun c5 => ?_)
  · replace hf := (if_pos (show q4.1 = 0 from c5)).symm.trans hf
    exact (pX8_delimited_b73 hd hk19 hf).to ⟨rfl, rfl, rfl, rfl, rfl, rfl, rfl, trivial⟩
  · replace hf := (if_neg (show ¬ (q4.1 = 0) from c5)).symm.trans hf
    refine w_iinc dX8_delimited_70 (v := (l5 + (1 : Int32))) rfl rfl (by decide) (ls' := [some (.ref l0), some (.int l1), none, some (.int l3), some (.int l4), some (.int (l5 + (1 : Int32))), some (.int l6), none, some (.int l8), none]) rfl ?_
    exact (pX8_delimited_b73 hd hk19 hf).to ⟨rfl, rfl, rfl, rfl, rfl, rfl, rfl, trivial⟩
def fX8_delimited_b19 (N : Nat) : Nat → Nat → Int32 → Int32 → Int32 → Int32 → Int32 → Int32 → eH → Option ((Unit ⊕ Nat) × eH)
  | 0, _, _, _, _, _, _, _, _ => none
  | n + 1, l0, l1, l3, l4, l5, l6, l7, h =>
    if ¬ l7 = 0 then
      (g_I 7 h l0 17).bind fun x2 =>
      (p_V 7 h l0 17 (.int (x2 - l4))).bind fun h4 =>
      (k_ok 7 h4 l0).bind fun _ =>
      (fX8_strip N l0 l3 h4).bind fun q7 =>
      some (.inl (), q7.2)
    else
      (k_ok 7 h l0).bind fun _ =>
      t_B (fX8_need N l0 h) fun x9 h10 =>
      (k_ok 7 h10 l0).bind fun _ =>
      (fX8_take l0 x9 h10).bind fun q12 =>
      (g_A 7 q12.2 l0 0).bind fun a13 =>
      (g_I 7 q12.2 l0 17).bind fun x15 =>
      if (10000 : Int32) < (x15 - l3) then
        fX8_delimited_b57 N (fX8_delimited_b19 N n) l0 l1 l3 l4 l5 l6 x9 a13 (0 : Int32) q12.2
      else
        fX8_delimited_b57 N (fX8_delimited_b19 N n) l0 l1 l3 l4 l5 l6 x9 a13 (1 : Int32) q12.2
theorem pX8_delimited_b19 {w : eW} {d : Nat} (hd : 14 ≤ d + 1) {N : Nat} : ∀ (n : Nat) l0 l1 l3 l4 l5 l6 l7 h q, fX8_delimited_b19 N n l0 l1 l3 l4 l5 l6 l7 h = some q → wp w (d + 1) YX8_delimited 19 [some (.ref l0), some (.int l1), none, some (.int l3), some (.int l4), some (.int l5), some (.int l6), some (.int l7), none, none] [] h (e_is (e_rt c_V q)) := by
  intro n
  induction n with
  | zero => intro l0 l1 l3 l4 l5 l6 l7 h q hf; simp [fX8_delimited_b19] at hf
  | succ n ih =>
    intro l0 l1 l3 l4 l5 l6 l7 h q hf
    rw [fX8_delimited_b19] at hf
    refine w_iload dX8_delimited_19 rfl ?_
    refine w_if_ne 205 dX8_delimited_21 (by decide) (fun c1 => ?_) (fun c1 => ?_)
    · replace hf := (if_pos (show ¬ l7 = 0 from c1)).symm.trans hf
      refine w_aload_n dX8_delimited_205 rfl rfl ?_
      refine w_dup dX8_delimited_206 rfl ?_
      obtain ⟨x2, b3, hf⟩ := Option.bind_eq_some_iff.mp hf
      refine GX8_288 b3 dX8_delimited_207 rfl ?_
      refine w_iload dX8_delimited_210 rfl ?_
      refine w_isub dX8_delimited_212 ?_
      obtain ⟨h4, b5, hf⟩ := Option.bind_eq_some_iff.mp hf
      refine SX8_288 b5 dX8_delimited_213 rfl ?_
      refine w_aload_n dX8_delimited_216 rfl rfl ?_
      refine w_iload_n dX8_delimited_217 rfl rfl ?_
      obtain ⟨_, b6, hf⟩ := Option.bind_eq_some_iff.mp hf
      refine x_cnV hf (e_stV (Yc := YX8_strip) (ci := 7) (av := [.int l3]) (st := []) dX8_delimited_218 q2534 mX8_strip rfl (k_ok_some b6).1 (k_ok_some b6).2) mX8_strip.2.2.1 mX8_strip.2.2.2.2.1 (Nat.le_of_ble_eq_true rfl) (Nat.le_of_ble_eq_true rfl) (fun q hq => pX8_strip (by omega) hq) (fun q7 hf => ?_)
      cases hf
      exact w_vret dX8_delimited_221 rfl rfl
    · replace hf := (if_neg (show ¬ (¬ l7 = 0) from (fun z => z c1))).symm.trans hf
      refine w_aload_n dX8_delimited_24 rfl rfl ?_
      obtain ⟨_, b8, hf⟩ := Option.bind_eq_some_iff.mp hf
      refine x_ctI hf (e_stV (Yc := YX8_need) (ci := 7) (av := []) (st := []) dX8_delimited_25 q2506 mX8_need rfl (k_ok_some b8).1 (k_ok_some b8).2) mX8_need.2.2.1 mX8_need.2.2.2.2.1 (Nat.le_of_ble_eq_true rfl) (Nat.le_of_ble_eq_true rfl) rfl (fun q hq => pX8_need (by omega) hq) (fun x9 h10 hf => ?_)
      refine w_istore dX8_delimited_28 (by decide) (ls' := [some (.ref l0), some (.int l1), none, some (.int l3), some (.int l4), some (.int l5), some (.int l6), some (.int l7), some (.int x9), none]) rfl ?_
      refine w_aload_n dX8_delimited_30 rfl rfl ?_
      refine w_iload dX8_delimited_31 rfl ?_
      obtain ⟨_, b11, hf⟩ := Option.bind_eq_some_iff.mp hf
      refine x_cnV hf (e_stV (Yc := YX8_take) (ci := 7) (av := [.int x9]) (st := []) dX8_delimited_33 q2525 mX8_take rfl (k_ok_some b11).1 (k_ok_some b11).2) mX8_take.2.2.1 mX8_take.2.2.2.2.1 (Nat.le_of_ble_eq_true rfl) (Nat.le_of_ble_eq_true rfl) (fun q hq => pX8_take (by omega) hq) (fun q12 hf => ?_)
      refine w_aload_n dX8_delimited_36 rfl rfl ?_
      obtain ⟨a13, b14, hf⟩ := Option.bind_eq_some_iff.mp hf
      refine GX8_51 b14 dX8_delimited_37 rfl ?_
      refine w_aload_n dX8_delimited_40 rfl rfl ?_
      obtain ⟨x15, b16, hf⟩ := Option.bind_eq_some_iff.mp hf
      refine GX8_288 b16 dX8_delimited_41 rfl ?_
      refine w_iload_n dX8_delimited_44 rfl rfl ?_
      refine w_isub dX8_delimited_45 ?_
      refine w_sipush dX8_delimited_46 (v := 10000) (by decide) ?_
      refine w_icmp_gt 56 dX8_delimited_49 (by decide) (fun c17 => ?_) (fun c17 => ?_)
      · replace hf := (if_pos (show (10000 : Int32) < (x15 - l3) from c17)).symm.trans hf
        refine w_iconst dX8_delimited_56 (v := 0) (by decide) ?_
        exact (pX8_delimited_b57 hd ih hf).to ⟨rfl, rfl, rfl, rfl, rfl, rfl, rfl, trivial⟩
      · replace hf := (if_neg (show ¬ ((10000 : Int32) < (x15 - l3)) from c17)).symm.trans hf
        refine w_iconst dX8_delimited_52 (v := 1) (by decide) ?_
        refine w_goto 57 dX8_delimited_53 (by decide) ?_
        exact (pX8_delimited_b57 hd ih hf).to ⟨rfl, rfl, rfl, rfl, rfl, rfl, rfl, trivial⟩
def fX8_delimited (N : Nat) (this : Nat) (p0 : Int32) (p1 : Int32) (h : eH) : Option ((Unit ⊕ Nat) × eH) :=
  (g_I 7 h this 17).bind fun x1 =>
  fX8_delimited_b19 N N this p0 x1 (p1 - p0) (0 : Int32) (0 : Int32) (0 : Int32) h
theorem pX8_delimited {w : eW} {d : Nat} (hd : 14 ≤ d) {N : Nat} {this : Nat} {p0 : Int32} {p1 : Int32} {h : eH} {q} (hf : fX8_delimited N this p0 p1 h = some q) : wm w d YX8_delimited [.ref this, .int p0, .int p1] h (e_is (e_rt c_V q)) := by
  obtain ⟨d, rfl⟩ : ∃ e, d = e + 1 := ⟨d - 1, by omega⟩
  show wp w (d + 1) YX8_delimited 0 [some (.ref this), some (.int p0), some (.int p1), none, none, none, none, none, none, none] [] h _
  unfold fX8_delimited at hf
  refine w_aload_n dX8_delimited_0 rfl rfl ?_
  obtain ⟨x1, b2, hf⟩ := Option.bind_eq_some_iff.mp hf
  refine GX8_288 b2 dX8_delimited_1 rfl ?_
  refine w_istore_n dX8_delimited_4 rfl (by decide) (ls' := [some (.ref this), some (.int p0), some (.int p1), some (.int x1), none, none, none, none, none, none]) rfl ?_
  refine w_iload_n dX8_delimited_5 rfl rfl ?_
  refine w_iload_n dX8_delimited_6 rfl rfl ?_
  refine w_isub dX8_delimited_7 ?_
  refine w_istore dX8_delimited_8 (by decide) (ls' := [some (.ref this), some (.int p0), some (.int p1), some (.int x1), some (.int (p1 - p0)), none, none, none, none, none]) rfl ?_
  refine w_iconst dX8_delimited_10 (v := 0) (by decide) ?_
  refine w_istore dX8_delimited_11 (by decide) (ls' := [some (.ref this), some (.int p0), some (.int p1), some (.int x1), some (.int (p1 - p0)), some (.int (0 : Int32)), none, none, none, none]) rfl ?_
  refine w_iconst dX8_delimited_13 (v := 0) (by decide) ?_
  refine w_istore dX8_delimited_14 (by decide) (ls' := [some (.ref this), some (.int p0), some (.int p1), some (.int x1), some (.int (p1 - p0)), some (.int (0 : Int32)), some (.int (0 : Int32)), none, none, none]) rfl ?_
  refine w_iconst dX8_delimited_16 (v := 0) (by decide) ?_
  refine w_istore dX8_delimited_17 (by decide) (ls' := [some (.ref this), some (.int p0), some (.int p1), some (.int x1), some (.int (p1 - p0)), some (.int (0 : Int32)), some (.int (0 : Int32)), some (.int (0 : Int32)), none, none]) rfl ?_
  exact (pX8_delimited_b19 hd N _ _ _ _ _ _ _ _ _ hf).to ⟨rfl, rfl, rfl, rfl, rfl, rfl, rfl, trivial⟩
abbrev cX13_length : ByteArray := prog_31_method_6_code
def yX13_length : MethodName := ⟨RX13, "length", "(I[I)J"⟩
def YX13_length : eY := (yX13_length, cX13_length, 7, (Option.some FieldType.long), [])
theorem mX13_length : e_mv YX13_length RX13 2 := ⟨q2540, q2541, q2542, by decide, by decide +kernel, (e_sig (by decide +kernel))⟩
theorem dX13_length_0 : decode cX13_length 0 = .ok (.lconst 0, 1) := dc_9 (by decide +kernel)
theorem dX13_length_1 : decode cX13_length 1 = .ok (.lstore_n 3, 1) := dc_66 (by decide +kernel)
theorem dX13_length_2 : decode cX13_length 2 = .ok (.aload_n 0, 1) := dc_42 (by decide +kernel)
theorem dX13_length_3 : decode cX13_length 3 = .ok (.getfield 15, 3) := dc_180 (a := 0) (b := 15) (n := 15) (by decide +kernel)
theorem dX13_length_6 : decode cX13_length 6 = .ok (.getfield 40, 3) := dc_180 (a := 0) (b := 40) (n := 40) (by decide +kernel)
theorem dX13_length_9 : decode cX13_length 9 = .ok (.iload_n 1, 1) := dc_27 (by decide +kernel)
theorem dX13_length_10 : decode cX13_length 10 = .ok (.iaload, 1) := dc_46 (by decide +kernel)
theorem dX13_length_11 : decode cX13_length 11 = .ok (.istore 5, 2) := dc_54 (a := 5) (by decide +kernel)
theorem dX13_length_13 : decode cX13_length 13 = .ok (.iload 5, 2) := dc_21 (a := 5) (by decide +kernel)
theorem dX13_length_15 : decode cX13_length 15 = .ok (.aload_n 0, 1) := dc_42 (by decide +kernel)
theorem dX13_length_16 : decode cX13_length 16 = .ok (.getfield 15, 3) := dc_180 (a := 0) (b := 15) (n := 15) (by decide +kernel)
theorem dX13_length_19 : decode cX13_length 19 = .ok (.getfield 35, 3) := dc_180 (a := 0) (b := 35) (n := 35) (by decide +kernel)
theorem dX13_length_22 : decode cX13_length 22 = .ok (.iload_n 1, 1) := dc_27 (by decide +kernel)
theorem dX13_length_23 : decode cX13_length 23 = .ok (.iaload, 1) := dc_46 (by decide +kernel)
theorem dX13_length_24 : decode cX13_length 24 = .ok (.if_icmp .ge 57, 3) := dc_162 (a := 0) (b := 57) (v := 57) (by decide +kernel)
theorem dX13_length_27 : decode cX13_length 27 = .ok (.aload_n 0, 1) := dc_42 (by decide +kernel)
theorem dX13_length_28 : decode cX13_length 28 = .ok (.getfield 15, 3) := dc_180 (a := 0) (b := 15) (n := 15) (by decide +kernel)
theorem dX13_length_31 : decode cX13_length 31 = .ok (.getfield 43, 3) := dc_180 (a := 0) (b := 43) (n := 43) (by decide +kernel)
theorem dX13_length_34 : decode cX13_length 34 = .ok (.iload 5, 2) := dc_21 (a := 5) (by decide +kernel)
theorem dX13_length_36 : decode cX13_length 36 = .ok (.iaload, 1) := dc_46 (by decide +kernel)
theorem dX13_length_37 : decode cX13_length 37 = .ok (.ldc 46, 2) := dc_18 (a := 46) (by decide +kernel)
theorem dX13_length_39 : decode cX13_length 39 = .ok (.isub, 1) := dc_100 (by decide +kernel)
theorem dX13_length_40 : decode cX13_length 40 = .ok (.istore 6, 2) := dc_54 (a := 6) (by decide +kernel)
theorem dX13_length_42 : decode cX13_length 42 = .ok (.lload_n 3, 1) := dc_33 (by decide +kernel)
theorem dX13_length_43 : decode cX13_length 43 = .ok (.iload 6, 2) := dc_21 (a := 6) (by decide +kernel)
theorem dX13_length_45 : decode cX13_length 45 = .ok (.ifCond .ge 7, 3) := dc_156 (a := 0) (b := 7) (v := 7) (by decide +kernel)
theorem dX13_length_48 : decode cX13_length 48 = .ok (.lconst 1, 1) := dc_10 (by decide +kernel)
theorem dX13_length_49 : decode cX13_length 49 = .ok (.goto 24, 3) := dc_167 (a := 0) (b := 24) (v := 24) (by decide +kernel)
theorem dX13_length_52 : decode cX13_length 52 = .ok (.aload_n 2, 1) := dc_44 (by decide +kernel)
theorem dX13_length_53 : decode cX13_length 53 = .ok (.iload 6, 2) := dc_21 (a := 6) (by decide +kernel)
theorem dX13_length_55 : decode cX13_length 55 = .ok (.iaload, 1) := dc_46 (by decide +kernel)
theorem dX13_length_56 : decode cX13_length 56 = .ok (.iload 6, 2) := dc_21 (a := 6) (by decide +kernel)
theorem dX13_length_58 : decode cX13_length 58 = .ok (.ifCond .ne 7, 3) := dc_154 (a := 0) (b := 7) (v := 7) (by decide +kernel)
theorem dX13_length_61 : decode cX13_length 61 = .ok (.iconst 0, 1) := dc_3 (by decide +kernel)
theorem dX13_length_62 : decode cX13_length 62 = .ok (.goto 9, 3) := dc_167 (a := 0) (b := 9) (v := 9) (by decide +kernel)
theorem dX13_length_65 : decode cX13_length 65 = .ok (.aload_n 2, 1) := dc_44 (by decide +kernel)
theorem dX13_length_66 : decode cX13_length 66 = .ok (.iload 6, 2) := dc_21 (a := 6) (by decide +kernel)
theorem dX13_length_68 : decode cX13_length 68 = .ok (.iconst 1, 1) := dc_4 (by decide +kernel)
theorem dX13_length_69 : decode cX13_length 69 = .ok (.isub, 1) := dc_100 (by decide +kernel)
theorem dX13_length_70 : decode cX13_length 70 = .ok (.iaload, 1) := dc_46 (by decide +kernel)
theorem dX13_length_71 : decode cX13_length 71 = .ok (.isub, 1) := dc_100 (by decide +kernel)
theorem dX13_length_72 : decode cX13_length 72 = .ok (.i2l, 1) := dc_133 (by decide +kernel)
theorem dX13_length_73 : decode cX13_length 73 = .ok (.ladd, 1) := dc_97 (by decide +kernel)
theorem dX13_length_74 : decode cX13_length 74 = .ok (.lstore_n 3, 1) := dc_66 (by decide +kernel)
theorem dX13_length_75 : decode cX13_length 75 = .ok (.iinc 5 1, 3) := dc_132 (a := 5) (b := 1) (v := 1) (by decide +kernel)
theorem dX13_length_78 : decode cX13_length 78 = .ok (.goto (-65), 3) := dc_167 (a := 255) (b := 191) (v := -65) (by decide +kernel)
theorem dX13_length_81 : decode cX13_length 81 = .ok (.lload_n 3, 1) := dc_33 (by decide +kernel)
theorem dX13_length_82 : decode cX13_length 82 = .ok (.lreturn, 1) := dc_173 (by decide +kernel)
theorem GX13_15 {w : eW} {d : Nat} {Y : eY} {pc : Nat} {ls : eL} {st : List Value} {h : eH} {Q : eO → eH → Prop} {a : Nat} {x : Nat} (hf : g_A 12 h a 0 = some x) (hd : decode Y.2.1 pc = .ok (.getfield 15, 3)) (hY : Y.1.cls = RX13) (kk : wp w d Y (pc + 3) ls (.ref x :: st) h Q) : wp w d Y pc ls (.ref a :: st) h Q := x_gA (ci := 12) (k := 0) hf hd rfl (by decide) (by rw [hY]; exact q817) kk
theorem GX13_35 {w : eW} {d : Nat} {Y : eY} {pc : Nat} {ls : eL} {st : List Value} {h : eH} {Q : eO → eH → Prop} {a : Nat} {x : Nat} (hf : g_A 11 h a 5 = some x) (hd : decode Y.2.1 pc = .ok (.getfield 35, 3)) (hY : Y.1.cls = RX13) (kk : wp w d Y (pc + 3) ls (.ref x :: st) h Q) : wp w d Y pc ls (.ref a :: st) h Q := x_gAN (ci := 11) (k := 5) hf hd rfl (by decide) (by rw [hY]; exact q789) kk
theorem GX13_40 {w : eW} {d : Nat} {Y : eY} {pc : Nat} {ls : eL} {st : List Value} {h : eH} {Q : eO → eH → Prop} {a : Nat} {x : Nat} (hf : g_A 11 h a 4 = some x) (hd : decode Y.2.1 pc = .ok (.getfield 40, 3)) (hY : Y.1.cls = RX13) (kk : wp w d Y (pc + 3) ls (.ref x :: st) h Q) : wp w d Y pc ls (.ref a :: st) h Q := x_gAN (ci := 11) (k := 4) hf hd rfl (by decide) (by rw [hY]; exact q786) kk
theorem GX13_43 {w : eW} {d : Nat} {Y : eY} {pc : Nat} {ls : eL} {st : List Value} {h : eH} {Q : eO → eH → Prop} {a : Nat} {x : Nat} (hf : g_A 11 h a 1 = some x) (hd : decode Y.2.1 pc = .ok (.getfield 43, 3)) (hY : Y.1.cls = RX13) (kk : wp w d Y (pc + 3) ls (.ref x :: st) h Q) : wp w d Y pc ls (.ref a :: st) h Q := x_gAN (ci := 11) (k := 1) hf hd rfl (by decide) (by rw [hY]; exact q779) kk
def fX13_length_b73 (N : Nat) (k13 : Nat → Int32 → Nat → Int64 → Int32 → eH → Option (Int64 × eH)) (l0 : Nat) (l1 : Int32) (l2 : Nat) (l5 : Int32) (s0 : Int64) (s1 : Int64) (h : eH) : Option (Int64 × eH) :=
  k13 l0 l1 l2 (s0 + s1) (l5 + (1 : Int32)) h
theorem pX13_length_b73 {w : eW} {d : Nat} (hd : 0 ≤ d) {N : Nat} {k13 : Nat → Int32 → Nat → Int64 → Int32 → eH → Option (Int64 × eH)} (hk13 : ∀ l0 l1 l2 l3 l5 h q, k13 l0 l1 l2 l3 l5 h = some q → wp w d YX13_length 13 [some (.ref l0), some (.int l1), some (.ref l2), some (.long l3), none, some (.int l5), none] [] h (e_is (e_rn c_J q))) {l0 : Nat} {l1 : Int32} {l2 : Nat} {l5 : Int32} {s0 : Int64} {s1 : Int64} {h : eH} {q} (hf : fX13_length_b73 N k13 l0 l1 l2 l5 s0 s1 h = some q) : wp w d YX13_length 73 [some (.ref l0), some (.int l1), some (.ref l2), none, none, some (.int l5), none] [.long s1, .long s0] h (e_is (e_rn c_J q)) := by
  unfold fX13_length_b73 at hf
  refine w_ladd dX13_length_73 ?_
  refine w_lstore_n dX13_length_74 rfl (by decide) (ls' := [some (.ref l0), some (.int l1), some (.ref l2), some (.long (s0 + s1)), none, some (.int l5), none]) rfl ?_
  refine w_iinc dX13_length_75 (v := (l5 + (1 : Int32))) rfl rfl (by decide) (ls' := [some (.ref l0), some (.int l1), some (.ref l2), some (.long (s0 + s1)), none, some (.int (l5 + (1 : Int32))), none]) rfl ?_
  refine w_goto 13 dX13_length_78 (by decide) ?_
  exact (hk13 _ _ _ _ _ _ _ hf).to ⟨rfl, rfl, rfl, rfl, rfl, trivial⟩
def fX13_length_b71 (N : Nat) (k13 : Nat → Int32 → Nat → Int64 → Int32 → eH → Option (Int64 × eH)) (l0 : Nat) (l1 : Int32) (l2 : Nat) (l5 : Int32) (s0 : Int64) (s1 : Int32) (s2 : Int32) (h : eH) : Option (Int64 × eH) :=
  fX13_length_b73 N k13 l0 l1 l2 l5 s0 ((s1 - s2)).toInt64 h
theorem pX13_length_b71 {w : eW} {d : Nat} (hd : 0 ≤ d) {N : Nat} {k13 : Nat → Int32 → Nat → Int64 → Int32 → eH → Option (Int64 × eH)} (hk13 : ∀ l0 l1 l2 l3 l5 h q, k13 l0 l1 l2 l3 l5 h = some q → wp w d YX13_length 13 [some (.ref l0), some (.int l1), some (.ref l2), some (.long l3), none, some (.int l5), none] [] h (e_is (e_rn c_J q))) {l0 : Nat} {l1 : Int32} {l2 : Nat} {l5 : Int32} {s0 : Int64} {s1 : Int32} {s2 : Int32} {h : eH} {q} (hf : fX13_length_b71 N k13 l0 l1 l2 l5 s0 s1 s2 h = some q) : wp w d YX13_length 71 [some (.ref l0), some (.int l1), some (.ref l2), none, none, some (.int l5), none] [.int s2, .int s1, .long s0] h (e_is (e_rn c_J q)) := by
  unfold fX13_length_b71 at hf
  refine w_isub dX13_length_71 ?_
  refine w_i2l dX13_length_72 ?_
  exact (pX13_length_b73 hd hk13 hf).to ⟨rfl, rfl, rfl, rfl, trivial⟩
def fX13_length_b13 (N : Nat) : Nat → Nat → Int32 → Nat → Int64 → Int32 → eH → Option (Int64 × eH)
  | 0, _, _, _, _, _, _ => none
  | n + 1, l0, l1, l2, l3, l5, h =>
    (g_A 12 h l0 0).bind fun a1 =>
    (g_A 11 h a1 5).bind fun a3 =>
    (r_I 100 h a3 l1).bind fun x5 =>
    if x5 ≤ l5 then
      some (l3, h)
    else
      (g_A 12 h l0 0).bind fun a8 =>
      (g_A 11 h a8 1).bind fun a10 =>
      (r_I 100 h a10 l5).bind fun x12 =>
      if 0 ≤ (x12 - (262144 : Int32)) then
        (r_I 100 h l2 (x12 - (262144 : Int32))).bind fun x15 =>
        if ¬ (x12 - (262144 : Int32)) = 0 then
          (r_I 100 h l2 ((x12 - (262144 : Int32)) - (1 : Int32))).bind fun x18 =>
          fX13_length_b71 N (fX13_length_b13 N n) l0 l1 l2 l5 l3 x15 x18 h
        else
          fX13_length_b71 N (fX13_length_b13 N n) l0 l1 l2 l5 l3 x15 (0 : Int32) h
      else
        fX13_length_b73 N (fX13_length_b13 N n) l0 l1 l2 l5 l3 (1 : Int64) h
theorem pX13_length_b13 {w : eW} {d : Nat} (hd : 0 ≤ d) {N : Nat} : ∀ (n : Nat) l0 l1 l2 l3 l5 h q, fX13_length_b13 N n l0 l1 l2 l3 l5 h = some q → wp w d YX13_length 13 [some (.ref l0), some (.int l1), some (.ref l2), some (.long l3), none, some (.int l5), none] [] h (e_is (e_rn c_J q)) := by
  intro n
  induction n with
  | zero => intro l0 l1 l2 l3 l5 h q hf; simp [fX13_length_b13] at hf
  | succ n ih =>
    intro l0 l1 l2 l3 l5 h q hf
    rw [fX13_length_b13] at hf
    refine w_iload dX13_length_13 rfl ?_
    refine w_aload_n dX13_length_15 rfl rfl ?_
    obtain ⟨a1, b2, hf⟩ := Option.bind_eq_some_iff.mp hf
    refine GX13_15 b2 dX13_length_16 rfl ?_
    obtain ⟨a3, b4, hf⟩ := Option.bind_eq_some_iff.mp hf
    refine GX13_35 b4 dX13_length_19 rfl ?_
    refine w_iload_n dX13_length_22 rfl rfl ?_
    obtain ⟨x5, b6, hf⟩ := Option.bind_eq_some_iff.mp hf
    refine x_rI b6 dX13_length_23 ?_
    refine w_icmp_ge 81 dX13_length_24 (by decide) (fun c7 => ?_) (fun c7 => ?_)
    · replace hf := (if_pos (show x5 ≤ l5 from c7)).symm.trans hf
      refine w_lload_n dX13_length_81 rfl rfl ?_
      cases hf
      exact w_lret dX13_length_82 rfl rfl
    · replace hf := (if_neg (show ¬ (x5 ≤ l5) from c7)).symm.trans hf
      refine w_aload_n dX13_length_27 rfl rfl ?_
      obtain ⟨a8, b9, hf⟩ := Option.bind_eq_some_iff.mp hf
      refine GX13_15 b9 dX13_length_28 rfl ?_
      obtain ⟨a10, b11, hf⟩ := Option.bind_eq_some_iff.mp hf
      refine GX13_43 b11 dX13_length_31 rfl ?_
      refine w_iload dX13_length_34 rfl ?_
      obtain ⟨x12, b13, hf⟩ := Option.bind_eq_some_iff.mp hf
      refine x_rI b13 dX13_length_36 ?_
      refine w_ldc dX13_length_37 q2543 ?_
      refine w_isub dX13_length_39 ?_
      refine w_istore dX13_length_40 (by decide) (ls' := [some (.ref l0), some (.int l1), some (.ref l2), some (.long l3), none, some (.int l5), some (.int (x12 - (262144 : Int32)))]) rfl ?_
      refine w_lload_n dX13_length_42 rfl rfl ?_
      refine w_iload dX13_length_43 rfl ?_
      refine w_if_ge 52 dX13_length_45 (by decide) (fun c14 => ?_) (fun c14 => ?_)
      · replace hf := (if_pos (show 0 ≤ (x12 - (262144 : Int32)) from c14)).symm.trans hf
        refine w_aload_n dX13_length_52 rfl rfl ?_
        refine w_iload dX13_length_53 rfl ?_
        obtain ⟨x15, b16, hf⟩ := Option.bind_eq_some_iff.mp hf
        refine x_rI b16 dX13_length_55 ?_
        refine w_iload dX13_length_56 rfl ?_
        refine w_if_ne 65 dX13_length_58 (by decide) (fun c17 => ?_) (fun c17 => ?_)
        · replace hf := (if_pos (show ¬ (x12 - (262144 : Int32)) = 0 from c17)).symm.trans hf
          refine w_aload_n dX13_length_65 rfl rfl ?_
          refine w_iload dX13_length_66 rfl ?_
          refine w_iconst dX13_length_68 (v := 1) (by decide) ?_
          refine w_isub dX13_length_69 ?_
          obtain ⟨x18, b19, hf⟩ := Option.bind_eq_some_iff.mp hf
          refine x_rI b19 dX13_length_70 ?_
          exact (pX13_length_b71 hd ih hf).to ⟨rfl, rfl, rfl, rfl, trivial⟩
        · replace hf := (if_neg (show ¬ (¬ (x12 - (262144 : Int32)) = 0) from (fun z => z c17))).symm.trans hf
          refine w_iconst dX13_length_61 (v := 0) (by decide) ?_
          refine w_goto 71 dX13_length_62 (by decide) ?_
          exact (pX13_length_b71 hd ih hf).to ⟨rfl, rfl, rfl, rfl, trivial⟩
      · replace hf := (if_neg (show ¬ (0 ≤ (x12 - (262144 : Int32))) from c14)).symm.trans hf
        refine w_lconst dX13_length_48 (v := 1) (by decide) ?_
        refine w_goto 73 dX13_length_49 (by decide) ?_
        exact (pX13_length_b73 hd ih hf).to ⟨rfl, rfl, rfl, rfl, trivial⟩
def fX13_length (N : Nat) (this : Nat) (p0 : Int32) (p1 : Nat) (h : eH) : Option (Int64 × eH) :=
  (g_A 12 h this 0).bind fun a1 =>
  (g_A 11 h a1 4).bind fun a3 =>
  (r_I 100 h a3 p0).bind fun x5 =>
  fX13_length_b13 N N this p0 p1 (0 : Int64) x5 h
theorem pX13_length {w : eW} {d : Nat} (hd : 0 ≤ d) {N : Nat} {this : Nat} {p0 : Int32} {p1 : Nat} {h : eH} {q} (hf : fX13_length N this p0 p1 h = some q) : wm w d YX13_length [.ref this, .int p0, .ref p1] h (e_is (e_rn c_J q)) := by
  show wp w d YX13_length 0 [some (.ref this), some (.int p0), some (.ref p1), none, none, none, none] [] h _
  unfold fX13_length at hf
  refine w_lconst dX13_length_0 (v := 0) (by decide) ?_
  refine w_lstore_n dX13_length_1 rfl (by decide) (ls' := [some (.ref this), some (.int p0), some (.ref p1), some (.long (0 : Int64)), none, none, none]) rfl ?_
  refine w_aload_n dX13_length_2 rfl rfl ?_
  obtain ⟨a1, b2, hf⟩ := Option.bind_eq_some_iff.mp hf
  refine GX13_15 b2 dX13_length_3 rfl ?_
  obtain ⟨a3, b4, hf⟩ := Option.bind_eq_some_iff.mp hf
  refine GX13_40 b4 dX13_length_6 rfl ?_
  refine w_iload_n dX13_length_9 rfl rfl ?_
  obtain ⟨x5, b6, hf⟩ := Option.bind_eq_some_iff.mp hf
  refine x_rI b6 dX13_length_10 ?_
  refine w_istore dX13_length_11 (by decide) (ls' := [some (.ref this), some (.int p0), some (.ref p1), some (.long (0 : Int64)), none, some (.int x5), none]) rfl ?_
  exact (pX13_length_b13 hd N _ _ _ _ _ _ _ hf).to ⟨rfl, rfl, rfl, rfl, rfl, trivial⟩
abbrev cX13_call : ByteArray := prog_31_method_5_code
def yX13_call : MethodName := ⟨RX13, "call", "(I[I[I)V"⟩
def YX13_call : eY := (yX13_call, cX13_call, 8, none, [])
theorem mX13_call : e_mv YX13_call RX13 3 := ⟨q2546, q2547, q2548, by decide, by decide +kernel, (e_sig (by decide +kernel))⟩
theorem dX13_call_0 : decode cX13_call 0 = .ok (.aload_n 0, 1) := dc_42 (by decide +kernel)
theorem dX13_call_1 : decode cX13_call 1 = .ok (.getfield 15, 3) := dc_180 (a := 0) (b := 15) (n := 15) (by decide +kernel)
theorem dX13_call_4 : decode cX13_call 4 = .ok (.getfield 35, 3) := dc_180 (a := 0) (b := 35) (n := 35) (by decide +kernel)
theorem dX13_call_7 : decode cX13_call 7 = .ok (.iload_n 1, 1) := dc_27 (by decide +kernel)
theorem dX13_call_8 : decode cX13_call 8 = .ok (.iaload, 1) := dc_46 (by decide +kernel)
theorem dX13_call_9 : decode cX13_call 9 = .ok (.iconst 1, 1) := dc_4 (by decide +kernel)
theorem dX13_call_10 : decode cX13_call 10 = .ok (.isub, 1) := dc_100 (by decide +kernel)
theorem dX13_call_11 : decode cX13_call 11 = .ok (.istore 4, 2) := dc_54 (a := 4) (by decide +kernel)
theorem dX13_call_13 : decode cX13_call 13 = .ok (.iload 4, 2) := dc_21 (a := 4) (by decide +kernel)
theorem dX13_call_15 : decode cX13_call 15 = .ok (.aload_n 0, 1) := dc_42 (by decide +kernel)
theorem dX13_call_16 : decode cX13_call 16 = .ok (.getfield 15, 3) := dc_180 (a := 0) (b := 15) (n := 15) (by decide +kernel)
theorem dX13_call_19 : decode cX13_call 19 = .ok (.getfield 40, 3) := dc_180 (a := 0) (b := 40) (n := 40) (by decide +kernel)
theorem dX13_call_22 : decode cX13_call 22 = .ok (.iload_n 1, 1) := dc_27 (by decide +kernel)
theorem dX13_call_23 : decode cX13_call 23 = .ok (.iaload, 1) := dc_46 (by decide +kernel)
theorem dX13_call_24 : decode cX13_call 24 = .ok (.if_icmp .lt 92, 3) := dc_161 (a := 0) (b := 92) (v := 92) (by decide +kernel)
theorem dX13_call_27 : decode cX13_call 27 = .ok (.aload_n 0, 1) := dc_42 (by decide +kernel)
theorem dX13_call_28 : decode cX13_call 28 = .ok (.getfield 15, 3) := dc_180 (a := 0) (b := 15) (n := 15) (by decide +kernel)
theorem dX13_call_31 : decode cX13_call 31 = .ok (.getfield 43, 3) := dc_180 (a := 0) (b := 43) (n := 43) (by decide +kernel)
theorem dX13_call_34 : decode cX13_call 34 = .ok (.iload 4, 2) := dc_21 (a := 4) (by decide +kernel)
theorem dX13_call_36 : decode cX13_call 36 = .ok (.iaload, 1) := dc_46 (by decide +kernel)
theorem dX13_call_37 : decode cX13_call 37 = .ok (.ldc 46, 2) := dc_18 (a := 46) (by decide +kernel)
theorem dX13_call_39 : decode cX13_call 39 = .ok (.isub, 1) := dc_100 (by decide +kernel)
theorem dX13_call_40 : decode cX13_call 40 = .ok (.istore 5, 2) := dc_54 (a := 5) (by decide +kernel)
theorem dX13_call_42 : decode cX13_call 42 = .ok (.iload 5, 2) := dc_21 (a := 5) (by decide +kernel)
theorem dX13_call_44 : decode cX13_call 44 = .ok (.ifCond .ge 20, 3) := dc_156 (a := 0) (b := 20) (v := 20) (by decide +kernel)
theorem dX13_call_47 : decode cX13_call 47 = .ok (.aload_n 0, 1) := dc_42 (by decide +kernel)
theorem dX13_call_48 : decode cX13_call 48 = .ok (.aload_n 0, 1) := dc_42 (by decide +kernel)
theorem dX13_call_49 : decode cX13_call 49 = .ok (.getfield 15, 3) := dc_180 (a := 0) (b := 15) (n := 15) (by decide +kernel)
theorem dX13_call_52 : decode cX13_call 52 = .ok (.getfield 43, 3) := dc_180 (a := 0) (b := 43) (n := 43) (by decide +kernel)
theorem dX13_call_55 : decode cX13_call 55 = .ok (.iload 4, 2) := dc_21 (a := 4) (by decide +kernel)
theorem dX13_call_57 : decode cX13_call 57 = .ok (.iaload, 1) := dc_46 (by decide +kernel)
theorem dX13_call_58 : decode cX13_call 58 = .ok (.invokevirtual 31, 3) := dc_182 (a := 0) (b := 31) (n := 31) (by decide +kernel)
theorem dX13_call_61 : decode cX13_call 61 = .ok (.goto 49, 3) := dc_167 (a := 0) (b := 49) (v := 49) (by decide +kernel)
theorem dX13_call_64 : decode cX13_call 64 = .ok (.iload 5, 2) := dc_21 (a := 5) (by decide +kernel)
theorem dX13_call_66 : decode cX13_call 66 = .ok (.ifCond .ne 7, 3) := dc_154 (a := 0) (b := 7) (v := 7) (by decide +kernel)
theorem dX13_call_69 : decode cX13_call 69 = .ok (.iconst 0, 1) := dc_3 (by decide +kernel)
theorem dX13_call_70 : decode cX13_call 70 = .ok (.goto 9, 3) := dc_167 (a := 0) (b := 9) (v := 9) (by decide +kernel)
theorem dX13_call_73 : decode cX13_call 73 = .ok (.aload_n 3, 1) := dc_45 (by decide +kernel)
theorem dX13_call_74 : decode cX13_call 74 = .ok (.iload 5, 2) := dc_21 (a := 5) (by decide +kernel)
theorem dX13_call_76 : decode cX13_call 76 = .ok (.iconst 1, 1) := dc_4 (by decide +kernel)
theorem dX13_call_77 : decode cX13_call 77 = .ok (.isub, 1) := dc_100 (by decide +kernel)
theorem dX13_call_78 : decode cX13_call 78 = .ok (.iaload, 1) := dc_46 (by decide +kernel)
theorem dX13_call_79 : decode cX13_call 79 = .ok (.istore 6, 2) := dc_54 (a := 6) (by decide +kernel)
theorem dX13_call_81 : decode cX13_call 81 = .ok (.aload_n 3, 1) := dc_45 (by decide +kernel)
theorem dX13_call_82 : decode cX13_call 82 = .ok (.iload 5, 2) := dc_21 (a := 5) (by decide +kernel)
theorem dX13_call_84 : decode cX13_call 84 = .ok (.iaload, 1) := dc_46 (by decide +kernel)
theorem dX13_call_85 : decode cX13_call 85 = .ok (.iconst 1, 1) := dc_4 (by decide +kernel)
theorem dX13_call_86 : decode cX13_call 86 = .ok (.isub, 1) := dc_100 (by decide +kernel)
theorem dX13_call_87 : decode cX13_call 87 = .ok (.istore 7, 2) := dc_54 (a := 7) (by decide +kernel)
theorem dX13_call_89 : decode cX13_call 89 = .ok (.iload 7, 2) := dc_21 (a := 7) (by decide +kernel)
theorem dX13_call_91 : decode cX13_call 91 = .ok (.iload 6, 2) := dc_21 (a := 6) (by decide +kernel)
theorem dX13_call_93 : decode cX13_call 93 = .ok (.if_icmp .lt 17, 3) := dc_161 (a := 0) (b := 17) (v := 17) (by decide +kernel)
theorem dX13_call_96 : decode cX13_call 96 = .ok (.aload_n 0, 1) := dc_42 (by decide +kernel)
theorem dX13_call_97 : decode cX13_call 97 = .ok (.aload_n 2, 1) := dc_44 (by decide +kernel)
theorem dX13_call_98 : decode cX13_call 98 = .ok (.iload 7, 2) := dc_21 (a := 7) (by decide +kernel)
theorem dX13_call_100 : decode cX13_call 100 = .ok (.iaload, 1) := dc_46 (by decide +kernel)
theorem dX13_call_101 : decode cX13_call 101 = .ok (.invokevirtual 31, 3) := dc_182 (a := 0) (b := 31) (n := 31) (by decide +kernel)
theorem dX13_call_104 : decode cX13_call 104 = .ok (.iinc 7 (-1), 3) := dc_132 (a := 7) (b := 255) (v := -1) (by decide +kernel)
theorem dX13_call_107 : decode cX13_call 107 = .ok (.goto (-18), 3) := dc_167 (a := 255) (b := 238) (v := -18) (by decide +kernel)
theorem dX13_call_110 : decode cX13_call 110 = .ok (.iinc 4 (-1), 3) := dc_132 (a := 4) (b := 255) (v := -1) (by decide +kernel)
theorem dX13_call_113 : decode cX13_call 113 = .ok (.goto (-100), 3) := dc_167 (a := 255) (b := 156) (v := -100) (by decide +kernel)
theorem dX13_call_116 : decode cX13_call 116 = .ok (.return_, 1) := dc_177 (by decide +kernel)
def fX13_call_b110 (N : Nat) (k13 : Nat → Int32 → Nat → Nat → Int32 → eH → Option (Unit × eH)) (l0 : Nat) (l1 : Int32) (l2 : Nat) (l3 : Nat) (l4 : Int32) (h : eH) : Option (Unit × eH) :=
  k13 l0 l1 l2 l3 (l4 + (-1 : Int32)) h
theorem pX13_call_b110 {w : eW} {d : Nat} (hd : 3 ≤ d + 1) {N : Nat} {k13 : Nat → Int32 → Nat → Nat → Int32 → eH → Option (Unit × eH)} (hk13 : ∀ l0 l1 l2 l3 l4 h q, k13 l0 l1 l2 l3 l4 h = some q → wp w (d + 1) YX13_call 13 [some (.ref l0), some (.int l1), some (.ref l2), some (.ref l3), some (.int l4), none, none, none] [] h (e_is (e_rn c_V q))) {l0 : Nat} {l1 : Int32} {l2 : Nat} {l3 : Nat} {l4 : Int32} {h : eH} {q} (hf : fX13_call_b110 N k13 l0 l1 l2 l3 l4 h = some q) : wp w (d + 1) YX13_call 110 [some (.ref l0), some (.int l1), some (.ref l2), some (.ref l3), some (.int l4), none, none, none] [] h (e_is (e_rn c_V q)) := by
  unfold fX13_call_b110 at hf
  refine w_iinc dX13_call_110 (v := (l4 + (-1 : Int32))) rfl rfl (by decide) (ls' := [some (.ref l0), some (.int l1), some (.ref l2), some (.ref l3), some (.int (l4 + (-1 : Int32))), none, none, none]) rfl ?_
  refine w_goto 13 dX13_call_113 (by decide) ?_
  exact (hk13 _ _ _ _ _ _ _ hf).to ⟨rfl, rfl, rfl, rfl, rfl, trivial⟩
def fX13_call_b89 (N : Nat) (k13 : Nat → Int32 → Nat → Nat → Int32 → eH → Option (Unit × eH)) : Nat → Nat → Int32 → Nat → Nat → Int32 → Int32 → Int32 → eH → Option (Unit × eH)
  | 0, _, _, _, _, _, _, _, _ => none
  | n + 1, l0, l1, l2, l3, l4, l6, l7, h =>
    if l7 < l6 then
      fX13_call_b110 N k13 l0 l1 l2 l3 l4 h
    else
      (r_I 100 h l2 l7).bind fun x2 =>
      (k_ok 12 h l0).bind fun _ =>
      (fX13_put l0 x2 h).bind fun q5 =>
      fX13_call_b89 N k13 n l0 l1 l2 l3 l4 l6 (l7 + (-1 : Int32)) q5.2
theorem pX13_call_b89 {w : eW} {d : Nat} (hd : 3 ≤ d + 1) {N : Nat} {k13 : Nat → Int32 → Nat → Nat → Int32 → eH → Option (Unit × eH)} (hk13 : ∀ l0 l1 l2 l3 l4 h q, k13 l0 l1 l2 l3 l4 h = some q → wp w (d + 1) YX13_call 13 [some (.ref l0), some (.int l1), some (.ref l2), some (.ref l3), some (.int l4), none, none, none] [] h (e_is (e_rn c_V q))) : ∀ (n : Nat) l0 l1 l2 l3 l4 l6 l7 h q, fX13_call_b89 N k13 n l0 l1 l2 l3 l4 l6 l7 h = some q → wp w (d + 1) YX13_call 89 [some (.ref l0), some (.int l1), some (.ref l2), some (.ref l3), some (.int l4), none, some (.int l6), some (.int l7)] [] h (e_is (e_rn c_V q)) := by
  intro n
  induction n with
  | zero => intro l0 l1 l2 l3 l4 l6 l7 h q hf; simp [fX13_call_b89] at hf
  | succ n ih =>
    intro l0 l1 l2 l3 l4 l6 l7 h q hf
    rw [fX13_call_b89] at hf
    refine w_iload dX13_call_89 rfl ?_
    refine w_iload dX13_call_91 rfl ?_
    refine w_icmp_lt 110 dX13_call_93 (by decide) (fun c1 => ?_) (fun c1 => ?_)
    · replace hf := (if_pos (show l7 < l6 from c1)).symm.trans hf
      exact (pX13_call_b110 hd hk13 hf).to ⟨rfl, rfl, rfl, rfl, rfl, trivial⟩
    · replace hf := (if_neg (show ¬ (l7 < l6) from c1)).symm.trans hf
      refine w_aload_n dX13_call_96 rfl rfl ?_
      refine w_aload_n dX13_call_97 rfl rfl ?_
      refine w_iload dX13_call_98 rfl ?_
      obtain ⟨x2, b3, hf⟩ := Option.bind_eq_some_iff.mp hf
      refine x_rI b3 dX13_call_100 ?_
      obtain ⟨_, b4, hf⟩ := Option.bind_eq_some_iff.mp hf
      refine x_cnV hf (e_stV (Yc := YX13_put) (ci := 12) (av := [.int x2]) (st := []) dX13_call_101 q2549 mX13_put rfl (k_ok_some b4).1 (k_ok_some b4).2) mX13_put.2.2.1 mX13_put.2.2.2.2.1 (Nat.le_of_ble_eq_true rfl) (Nat.le_of_ble_eq_true rfl) (fun q hq => pX13_put (by omega) hq) (fun q5 hf => ?_)
      refine w_iinc dX13_call_104 (v := (l7 + (-1 : Int32))) rfl rfl (by decide) (ls' := [some (.ref l0), some (.int l1), some (.ref l2), some (.ref l3), some (.int l4), none, some (.int l6), some (.int (l7 + (-1 : Int32)))]) rfl ?_
      refine w_goto 89 dX13_call_107 (by decide) ?_
      exact (ih _ _ _ _ _ _ _ _ _ hf).to ⟨rfl, rfl, rfl, rfl, rfl, rfl, rfl, trivial⟩
def fX13_call_b79 (N : Nat) (k13 : Nat → Int32 → Nat → Nat → Int32 → eH → Option (Unit × eH)) (l0 : Nat) (l1 : Int32) (l2 : Nat) (l3 : Nat) (l4 : Int32) (l5 : Int32) (s0 : Int32) (h : eH) : Option (Unit × eH) :=
  (r_I 100 h l3 l5).bind fun x1 =>
  fX13_call_b89 N k13 N l0 l1 l2 l3 l4 s0 (x1 - (1 : Int32)) h
theorem pX13_call_b79 {w : eW} {d : Nat} (hd : 3 ≤ d + 1) {N : Nat} {k13 : Nat → Int32 → Nat → Nat → Int32 → eH → Option (Unit × eH)} (hk13 : ∀ l0 l1 l2 l3 l4 h q, k13 l0 l1 l2 l3 l4 h = some q → wp w (d + 1) YX13_call 13 [some (.ref l0), some (.int l1), some (.ref l2), some (.ref l3), some (.int l4), none, none, none] [] h (e_is (e_rn c_V q))) {l0 : Nat} {l1 : Int32} {l2 : Nat} {l3 : Nat} {l4 : Int32} {l5 : Int32} {s0 : Int32} {h : eH} {q} (hf : fX13_call_b79 N k13 l0 l1 l2 l3 l4 l5 s0 h = some q) : wp w (d + 1) YX13_call 79 [some (.ref l0), some (.int l1), some (.ref l2), some (.ref l3), some (.int l4), some (.int l5), none, none] [.int s0] h (e_is (e_rn c_V q)) := by
  unfold fX13_call_b79 at hf
  refine w_istore dX13_call_79 (by decide) (ls' := [some (.ref l0), some (.int l1), some (.ref l2), some (.ref l3), some (.int l4), some (.int l5), some (.int s0), none]) rfl ?_
  refine w_aload_n dX13_call_81 rfl rfl ?_
  refine w_iload dX13_call_82 rfl ?_
  obtain ⟨x1, b2, hf⟩ := Option.bind_eq_some_iff.mp hf
  refine x_rI b2 dX13_call_84 ?_
  refine w_iconst dX13_call_85 (v := 1) (by decide) ?_
  refine w_isub dX13_call_86 ?_
  refine w_istore dX13_call_87 (by decide) (ls' := [some (.ref l0), some (.int l1), some (.ref l2), some (.ref l3), some (.int l4), some (.int l5), some (.int s0), some (.int (x1 - (1 : Int32)))]) rfl ?_
  exact (pX13_call_b89 hd hk13 N _ _ _ _ _ _ _ _ _ hf).to ⟨rfl, rfl, rfl, rfl, rfl, rfl, rfl, trivial⟩
def fX13_call_b13 (N : Nat) : Nat → Nat → Int32 → Nat → Nat → Int32 → eH → Option (Unit × eH)
  | 0, _, _, _, _, _, _ => none
  | n + 1, l0, l1, l2, l3, l4, h =>
    (g_A 12 h l0 0).bind fun a1 =>
    (g_A 11 h a1 4).bind fun a3 =>
    (r_I 100 h a3 l1).bind fun x5 =>
    if l4 < x5 then
      some ((), h)
    else
      (g_A 12 h l0 0).bind fun a8 =>
      (g_A 11 h a8 1).bind fun a10 =>
      (r_I 100 h a10 l4).bind fun x12 =>
      if 0 ≤ (x12 - (262144 : Int32)) then
        if ¬ (x12 - (262144 : Int32)) = 0 then
          (r_I 100 h l3 ((x12 - (262144 : Int32)) - (1 : Int32))).bind fun x16 =>
          fX13_call_b79 N (fX13_call_b13 N n) l0 l1 l2 l3 l4 (x12 - (262144 : Int32)) x16 h
        else
          fX13_call_b79 N (fX13_call_b13 N n) l0 l1 l2 l3 l4 (x12 - (262144 : Int32)) (0 : Int32) h
      else
        (g_A 12 h l0 0).bind fun a18 =>
        (g_A 11 h a18 1).bind fun a20 =>
        (r_I 100 h a20 l4).bind fun x22 =>
        (k_ok 12 h l0).bind fun _ =>
        (fX13_put l0 x22 h).bind fun q25 =>
        fX13_call_b110 N (fX13_call_b13 N n) l0 l1 l2 l3 l4 q25.2
theorem pX13_call_b13 {w : eW} {d : Nat} (hd : 3 ≤ d + 1) {N : Nat} : ∀ (n : Nat) l0 l1 l2 l3 l4 h q, fX13_call_b13 N n l0 l1 l2 l3 l4 h = some q → wp w (d + 1) YX13_call 13 [some (.ref l0), some (.int l1), some (.ref l2), some (.ref l3), some (.int l4), none, none, none] [] h (e_is (e_rn c_V q)) := by
  intro n
  induction n with
  | zero => intro l0 l1 l2 l3 l4 h q hf; simp [fX13_call_b13] at hf
  | succ n ih =>
    intro l0 l1 l2 l3 l4 h q hf
    rw [fX13_call_b13] at hf
    refine w_iload dX13_call_13 rfl ?_
    refine w_aload_n dX13_call_15 rfl rfl ?_
    obtain ⟨a1, b2, hf⟩ := Option.bind_eq_some_iff.mp hf
    refine GX13_15 b2 dX13_call_16 rfl ?_
    obtain ⟨a3, b4, hf⟩ := Option.bind_eq_some_iff.mp hf
    refine GX13_40 b4 dX13_call_19 rfl ?_
    refine w_iload_n dX13_call_22 rfl rfl ?_
    obtain ⟨x5, b6, hf⟩ := Option.bind_eq_some_iff.mp hf
    refine x_rI b6 dX13_call_23 ?_
    refine w_icmp_lt 116 dX13_call_24 (by decide) (fun c7 => ?_) (fun c7 => ?_)
    · replace hf := (if_pos (show l4 < x5 from c7)).symm.trans hf
      cases hf
      exact w_vret dX13_call_116 rfl rfl
    · replace hf := (if_neg (show ¬ (l4 < x5) from c7)).symm.trans hf
      refine w_aload_n dX13_call_27 rfl rfl ?_
      obtain ⟨a8, b9, hf⟩ := Option.bind_eq_some_iff.mp hf
      refine GX13_15 b9 dX13_call_28 rfl ?_
      obtain ⟨a10, b11, hf⟩ := Option.bind_eq_some_iff.mp hf
      refine GX13_43 b11 dX13_call_31 rfl ?_
      refine w_iload dX13_call_34 rfl ?_
      obtain ⟨x12, b13, hf⟩ := Option.bind_eq_some_iff.mp hf
      refine x_rI b13 dX13_call_36 ?_
      refine w_ldc dX13_call_37 q2543 ?_
      refine w_isub dX13_call_39 ?_
      refine w_istore dX13_call_40 (by decide) (ls' := [some (.ref l0), some (.int l1), some (.ref l2), some (.ref l3), some (.int l4), some (.int (x12 - (262144 : Int32))), none, none]) rfl ?_
      refine w_iload dX13_call_42 rfl ?_
      refine w_if_ge 64 dX13_call_44 (by decide) (fun c14 => ?_) (fun c14 => ?_)
      · replace hf := (if_pos (show 0 ≤ (x12 - (262144 : Int32)) from c14)).symm.trans hf
        refine w_iload dX13_call_64 rfl ?_
        refine w_if_ne 73 dX13_call_66 (by decide) (fun c15 => ?_) (fun c15 => ?_)
        · replace hf := (if_pos (show ¬ (x12 - (262144 : Int32)) = 0 from c15)).symm.trans hf
          refine w_aload_n dX13_call_73 rfl rfl ?_
          refine w_iload dX13_call_74 rfl ?_
          refine w_iconst dX13_call_76 (v := 1) (by decide) ?_
          refine w_isub dX13_call_77 ?_
          obtain ⟨x16, b17, hf⟩ := Option.bind_eq_some_iff.mp hf
          refine x_rI b17 dX13_call_78 ?_
          exact (pX13_call_b79 hd ih hf).to ⟨rfl, rfl, rfl, rfl, rfl, rfl, trivial⟩
        · replace hf := (if_neg (show ¬ (¬ (x12 - (262144 : Int32)) = 0) from (fun z => z c15))).symm.trans hf
          refine w_iconst dX13_call_69 (v := 0) (by decide) ?_
          refine w_goto 79 dX13_call_70 (by decide) ?_
          exact (pX13_call_b79 hd ih hf).to ⟨rfl, rfl, rfl, rfl, rfl, rfl, trivial⟩
      · replace hf := (if_neg (show ¬ (0 ≤ (x12 - (262144 : Int32))) from c14)).symm.trans hf
        refine w_aload_n dX13_call_47 rfl rfl ?_
        refine w_aload_n dX13_call_48 rfl rfl ?_
        obtain ⟨a18, b19, hf⟩ := Option.bind_eq_some_iff.mp hf
        refine GX13_15 b19 dX13_call_49 rfl ?_
        obtain ⟨a20, b21, hf⟩ := Option.bind_eq_some_iff.mp hf
        refine GX13_43 b21 dX13_call_52 rfl ?_
        refine w_iload dX13_call_55 rfl ?_
        obtain ⟨x22, b23, hf⟩ := Option.bind_eq_some_iff.mp hf
        refine x_rI b23 dX13_call_57 ?_
        obtain ⟨_, b24, hf⟩ := Option.bind_eq_some_iff.mp hf
        refine x_cnV hf (e_stV (Yc := YX13_put) (ci := 12) (av := [.int x22]) (st := []) dX13_call_58 q2549 mX13_put rfl (k_ok_some b24).1 (k_ok_some b24).2) mX13_put.2.2.1 mX13_put.2.2.2.2.1 (Nat.le_of_ble_eq_true rfl) (Nat.le_of_ble_eq_true rfl) (fun q hq => pX13_put (by omega) hq) (fun q25 hf => ?_)
        refine w_goto 110 dX13_call_61 (by decide) ?_
        exact (pX13_call_b110 hd ih hf).to ⟨rfl, rfl, rfl, rfl, rfl, trivial⟩
def fX13_call (N : Nat) (this : Nat) (p0 : Int32) (p1 : Nat) (p2 : Nat) (h : eH) : Option (Unit × eH) :=
  (g_A 12 h this 0).bind fun a1 =>
  (g_A 11 h a1 5).bind fun a3 =>
  (r_I 100 h a3 p0).bind fun x5 =>
  fX13_call_b13 N N this p0 p1 p2 (x5 - (1 : Int32)) h
theorem pX13_call {w : eW} {d : Nat} (hd : 3 ≤ d) {N : Nat} {this : Nat} {p0 : Int32} {p1 : Nat} {p2 : Nat} {h : eH} {q} (hf : fX13_call N this p0 p1 p2 h = some q) : wm w d YX13_call [.ref this, .int p0, .ref p1, .ref p2] h (e_is (e_rn c_V q)) := by
  obtain ⟨d, rfl⟩ : ∃ e, d = e + 1 := ⟨d - 1, by omega⟩
  show wp w (d + 1) YX13_call 0 [some (.ref this), some (.int p0), some (.ref p1), some (.ref p2), none, none, none, none] [] h _
  unfold fX13_call at hf
  refine w_aload_n dX13_call_0 rfl rfl ?_
  obtain ⟨a1, b2, hf⟩ := Option.bind_eq_some_iff.mp hf
  refine GX13_15 b2 dX13_call_1 rfl ?_
  obtain ⟨a3, b4, hf⟩ := Option.bind_eq_some_iff.mp hf
  refine GX13_35 b4 dX13_call_4 rfl ?_
  refine w_iload_n dX13_call_7 rfl rfl ?_
  obtain ⟨x5, b6, hf⟩ := Option.bind_eq_some_iff.mp hf
  refine x_rI b6 dX13_call_8 ?_
  refine w_iconst dX13_call_9 (v := 1) (by decide) ?_
  refine w_isub dX13_call_10 ?_
  refine w_istore dX13_call_11 (by decide) (ls' := [some (.ref this), some (.int p0), some (.ref p1), some (.ref p2), some (.int (x5 - (1 : Int32))), none, none, none]) rfl ?_
  exact (pX13_call_b13 hd N _ _ _ _ _ _ _ hf).to ⟨rfl, rfl, rfl, rfl, rfl, trivial⟩
abbrev cX8_call : ByteArray := prog_4_method_24_code
def yX8_call : MethodName := ⟨RX8, "call", "(I)V"⟩
def YX8_call : eY := (yX8_call, cX8_call, 7, none, [])
theorem mX8_call : e_mv YX8_call RX8 1 := ⟨q2503, qs53, q2504, by decide, by decide +kernel, (e_sig (by decide +kernel))⟩
theorem dX8_call_0 : decode cX8_call 0 = .ok (.aload_n 0, 1) := dc_42 (by decide +kernel)
theorem dX8_call_1 : decode cX8_call 1 = .ok (.getfield 84, 3) := dc_180 (a := 0) (b := 84) (n := 84) (by decide +kernel)
theorem dX8_call_4 : decode cX8_call 4 = .ok (.getfield 295, 3) := dc_180 (a := 1) (b := 39) (n := 295) (by decide +kernel)
theorem dX8_call_7 : decode cX8_call 7 = .ok (.iload_n 1, 1) := dc_27 (by decide +kernel)
theorem dX8_call_8 : decode cX8_call 8 = .ok (.iaload, 1) := dc_46 (by decide +kernel)
theorem dX8_call_9 : decode cX8_call 9 = .ok (.istore_n 2, 1) := dc_61 (by decide +kernel)
theorem dX8_call_10 : decode cX8_call 10 = .ok (.aload_n 0, 1) := dc_42 (by decide +kernel)
theorem dX8_call_11 : decode cX8_call 11 = .ok (.getfield 84, 3) := dc_180 (a := 0) (b := 84) (n := 84) (by decide +kernel)
theorem dX8_call_14 : decode cX8_call 14 = .ok (.getfield 298, 3) := dc_180 (a := 1) (b := 42) (n := 298) (by decide +kernel)
theorem dX8_call_17 : decode cX8_call 17 = .ok (.iload_n 1, 1) := dc_27 (by decide +kernel)
theorem dX8_call_18 : decode cX8_call 18 = .ok (.iaload, 1) := dc_46 (by decide +kernel)
theorem dX8_call_19 : decode cX8_call 19 = .ok (.istore_n 3, 1) := dc_62 (by decide +kernel)
theorem dX8_call_20 : decode cX8_call 20 = .ok (.aload_n 0, 1) := dc_42 (by decide +kernel)
theorem dX8_call_21 : decode cX8_call 21 = .ok (.getfield 84, 3) := dc_180 (a := 0) (b := 84) (n := 84) (by decide +kernel)
theorem dX8_call_24 : decode cX8_call 24 = .ok (.getfield 301, 3) := dc_180 (a := 1) (b := 45) (n := 301) (by decide +kernel)
theorem dX8_call_27 : decode cX8_call 27 = .ok (.iload_n 1, 1) := dc_27 (by decide +kernel)
theorem dX8_call_28 : decode cX8_call 28 = .ok (.iaload, 1) := dc_46 (by decide +kernel)
theorem dX8_call_29 : decode cX8_call 29 = .ok (.istore 4, 2) := dc_54 (a := 4) (by decide +kernel)
theorem dX8_call_31 : decode cX8_call 31 = .ok (.aload_n 0, 1) := dc_42 (by decide +kernel)
theorem dX8_call_32 : decode cX8_call 32 = .ok (.iconst 0, 1) := dc_3 (by decide +kernel)
theorem dX8_call_33 : decode cX8_call 33 = .ok (.putfield 288, 3) := dc_181 (a := 1) (b := 32) (n := 288) (by decide +kernel)
theorem dX8_call_36 : decode cX8_call 36 = .ok (.iload_n 3, 1) := dc_29 (by decide +kernel)
theorem dX8_call_37 : decode cX8_call 37 = .ok (.iload 4, 2) := dc_21 (a := 4) (by decide +kernel)
theorem dX8_call_39 : decode cX8_call 39 = .ok (.if_icmp .ge 56, 3) := dc_162 (a := 0) (b := 56) (v := 56) (by decide +kernel)
theorem dX8_call_42 : decode cX8_call 42 = .ok (.aload_n 0, 1) := dc_42 (by decide +kernel)
theorem dX8_call_43 : decode cX8_call 43 = .ok (.getfield 84, 3) := dc_180 (a := 0) (b := 84) (n := 84) (by decide +kernel)
theorem dX8_call_46 : decode cX8_call 46 = .ok (.getfield 304, 3) := dc_180 (a := 1) (b := 48) (n := 304) (by decide +kernel)
theorem dX8_call_49 : decode cX8_call 49 = .ok (.iload_n 3, 1) := dc_29 (by decide +kernel)
theorem dX8_call_50 : decode cX8_call 50 = .ok (.iaload, 1) := dc_46 (by decide +kernel)
theorem dX8_call_51 : decode cX8_call 51 = .ok (.ldc_w 307, 3) := dc_19 (a := 1) (b := 51) (n := 307) (by decide +kernel)
theorem dX8_call_54 : decode cX8_call 54 = .ok (.if_icmp .ge 41, 3) := dc_162 (a := 0) (b := 41) (v := 41) (by decide +kernel)
theorem dX8_call_57 : decode cX8_call 57 = .ok (.aload_n 0, 1) := dc_42 (by decide +kernel)
theorem dX8_call_58 : decode cX8_call 58 = .ok (.getfield 51, 3) := dc_180 (a := 0) (b := 51) (n := 51) (by decide +kernel)
theorem dX8_call_61 : decode cX8_call 61 = .ok (.aload_n 0, 1) := dc_42 (by decide +kernel)
theorem dX8_call_62 : decode cX8_call 62 = .ok (.invokevirtual 213, 3) := dc_182 (a := 0) (b := 213) (n := 213) (by decide +kernel)
theorem dX8_call_65 : decode cX8_call 65 = .ok (.invokestatic 219, 3) := dc_184 (a := 0) (b := 219) (n := 219) (by decide +kernel)
theorem dX8_call_68 : decode cX8_call 68 = .ok (.aload_n 0, 1) := dc_42 (by decide +kernel)
theorem dX8_call_69 : decode cX8_call 69 = .ok (.getfield 84, 3) := dc_180 (a := 0) (b := 84) (n := 84) (by decide +kernel)
theorem dX8_call_72 : decode cX8_call 72 = .ok (.getfield 304, 3) := dc_180 (a := 1) (b := 48) (n := 304) (by decide +kernel)
theorem dX8_call_75 : decode cX8_call 75 = .ok (.iload_n 3, 1) := dc_29 (by decide +kernel)
theorem dX8_call_76 : decode cX8_call 76 = .ok (.iaload, 1) := dc_46 (by decide +kernel)
theorem dX8_call_77 : decode cX8_call 77 = .ok (.if_icmp .ne 7, 3) := dc_160 (a := 0) (b := 7) (v := 7) (by decide +kernel)
theorem dX8_call_80 : decode cX8_call 80 = .ok (.iconst 1, 1) := dc_4 (by decide +kernel)
theorem dX8_call_81 : decode cX8_call 81 = .ok (.goto 4, 3) := dc_167 (a := 0) (b := 4) (v := 4) (by decide +kernel)
theorem dX8_call_84 : decode cX8_call 84 = .ok (.iconst 0, 1) := dc_3 (by decide +kernel)
theorem dX8_call_85 : decode cX8_call 85 = .ok (.iconst 4, 1) := dc_7 (by decide +kernel)
theorem dX8_call_86 : decode cX8_call 86 = .ok (.invokevirtual 145, 3) := dc_182 (a := 0) (b := 145) (n := 145) (by decide +kernel)
theorem dX8_call_89 : decode cX8_call 89 = .ok (.iinc 3 1, 3) := dc_132 (a := 3) (b := 1) (v := 1) (by decide +kernel)
theorem dX8_call_92 : decode cX8_call 92 = .ok (.goto (-56), 3) := dc_167 (a := 255) (b := 200) (v := -56) (by decide +kernel)
theorem dX8_call_95 : decode cX8_call 95 = .ok (.iconst 0, 1) := dc_3 (by decide +kernel)
theorem dX8_call_96 : decode cX8_call 96 = .ok (.istore 5, 2) := dc_54 (a := 5) (by decide +kernel)
theorem dX8_call_98 : decode cX8_call 98 = .ok (.iload 5, 2) := dc_21 (a := 5) (by decide +kernel)
theorem dX8_call_100 : decode cX8_call 100 = .ok (.iload_n 2, 1) := dc_28 (by decide +kernel)
theorem dX8_call_101 : decode cX8_call 101 = .ok (.if_icmp .ge 73, 3) := dc_162 (a := 0) (b := 73) (v := 73) (by decide +kernel)
theorem dX8_call_104 : decode cX8_call 104 = .ok (.iinc 3 1, 3) := dc_132 (a := 3) (b := 1) (v := 1) (by decide +kernel)
theorem dX8_call_107 : decode cX8_call 107 = .ok (.iload_n 3, 1) := dc_29 (by decide +kernel)
theorem dX8_call_108 : decode cX8_call 108 = .ok (.istore 6, 2) := dc_54 (a := 6) (by decide +kernel)
theorem dX8_call_110 : decode cX8_call 110 = .ok (.iload_n 3, 1) := dc_29 (by decide +kernel)
theorem dX8_call_111 : decode cX8_call 111 = .ok (.iload 4, 2) := dc_21 (a := 4) (by decide +kernel)
theorem dX8_call_113 : decode cX8_call 113 = .ok (.if_icmp .ge 24, 3) := dc_162 (a := 0) (b := 24) (v := 24) (by decide +kernel)
theorem dX8_call_116 : decode cX8_call 116 = .ok (.aload_n 0, 1) := dc_42 (by decide +kernel)
theorem dX8_call_117 : decode cX8_call 117 = .ok (.getfield 84, 3) := dc_180 (a := 0) (b := 84) (n := 84) (by decide +kernel)
theorem dX8_call_120 : decode cX8_call 120 = .ok (.getfield 304, 3) := dc_180 (a := 1) (b := 48) (n := 304) (by decide +kernel)
theorem dX8_call_123 : decode cX8_call 123 = .ok (.iload_n 3, 1) := dc_29 (by decide +kernel)
theorem dX8_call_124 : decode cX8_call 124 = .ok (.iaload, 1) := dc_46 (by decide +kernel)
theorem dX8_call_125 : decode cX8_call 125 = .ok (.ldc_w 307, 3) := dc_19 (a := 1) (b := 51) (n := 307) (by decide +kernel)
theorem dX8_call_128 : decode cX8_call 128 = .ok (.if_icmp .ge 9, 3) := dc_162 (a := 0) (b := 9) (v := 9) (by decide +kernel)
theorem dX8_call_131 : decode cX8_call 131 = .ok (.iinc 3 1, 3) := dc_132 (a := 3) (b := 1) (v := 1) (by decide +kernel)
theorem dX8_call_134 : decode cX8_call 134 = .ok (.goto (-24), 3) := dc_167 (a := 255) (b := 232) (v := -24) (by decide +kernel)
theorem dX8_call_137 : decode cX8_call 137 = .ok (.iload 6, 2) := dc_21 (a := 6) (by decide +kernel)
theorem dX8_call_139 : decode cX8_call 139 = .ok (.iload_n 3, 1) := dc_29 (by decide +kernel)
theorem dX8_call_140 : decode cX8_call 140 = .ok (.if_icmp .ne 10, 3) := dc_160 (a := 0) (b := 10) (v := 10) (by decide +kernel)
theorem dX8_call_143 : decode cX8_call 143 = .ok (.aload_n 0, 1) := dc_42 (by decide +kernel)
theorem dX8_call_144 : decode cX8_call 144 = .ok (.invokevirtual 308, 3) := dc_182 (a := 1) (b := 52) (n := 308) (by decide +kernel)
theorem dX8_call_147 : decode cX8_call 147 = .ok (.goto 10, 3) := dc_167 (a := 0) (b := 10) (v := 10) (by decide +kernel)
theorem dX8_call_150 : decode cX8_call 150 = .ok (.aload_n 0, 1) := dc_42 (by decide +kernel)
theorem dX8_call_151 : decode cX8_call 151 = .ok (.iload 6, 2) := dc_21 (a := 6) (by decide +kernel)
theorem dX8_call_153 : decode cX8_call 153 = .ok (.iload_n 3, 1) := dc_29 (by decide +kernel)
theorem dX8_call_154 : decode cX8_call 154 = .ok (.invokevirtual 311, 3) := dc_182 (a := 1) (b := 55) (n := 311) (by decide +kernel)
theorem dX8_call_157 : decode cX8_call 157 = .ok (.aload_n 0, 1) := dc_42 (by decide +kernel)
theorem dX8_call_158 : decode cX8_call 158 = .ok (.getfield 32, 3) := dc_180 (a := 0) (b := 32) (n := 32) (by decide +kernel)
theorem dX8_call_161 : decode cX8_call 161 = .ok (.iload 5, 2) := dc_21 (a := 5) (by decide +kernel)
theorem dX8_call_163 : decode cX8_call 163 = .ok (.aload_n 0, 1) := dc_42 (by decide +kernel)
theorem dX8_call_164 : decode cX8_call 164 = .ok (.getfield 288, 3) := dc_180 (a := 1) (b := 32) (n := 288) (by decide +kernel)
theorem dX8_call_167 : decode cX8_call 167 = .ok (.iastore, 1) := dc_79 (by decide +kernel)
theorem dX8_call_168 : decode cX8_call 168 = .ok (.iinc 5 1, 3) := dc_132 (a := 5) (b := 1) (v := 1) (by decide +kernel)
theorem dX8_call_171 : decode cX8_call 171 = .ok (.goto (-73), 3) := dc_167 (a := 255) (b := 183) (v := -73) (by decide +kernel)
theorem dX8_call_174 : decode cX8_call 174 = .ok (.aload_n 0, 1) := dc_42 (by decide +kernel)
theorem dX8_call_175 : decode cX8_call 175 = .ok (.getfield 93, 3) := dc_180 (a := 0) (b := 93) (n := 93) (by decide +kernel)
theorem dX8_call_178 : decode cX8_call 178 = .ok (.iload_n 1, 1) := dc_27 (by decide +kernel)
theorem dX8_call_179 : decode cX8_call 179 = .ok (.aload_n 0, 1) := dc_42 (by decide +kernel)
theorem dX8_call_180 : decode cX8_call 180 = .ok (.getfield 32, 3) := dc_180 (a := 0) (b := 32) (n := 32) (by decide +kernel)
theorem dX8_call_183 : decode cX8_call 183 = .ok (.invokevirtual 314, 3) := dc_182 (a := 1) (b := 58) (n := 314) (by decide +kernel)
theorem dX8_call_186 : decode cX8_call 186 = .ok (.lstore 5, 2) := dc_55 (a := 5) (by decide +kernel)
theorem dX8_call_188 : decode cX8_call 188 = .ok (.aload_n 0, 1) := dc_42 (by decide +kernel)
theorem dX8_call_189 : decode cX8_call 189 = .ok (.getfield 51, 3) := dc_180 (a := 0) (b := 51) (n := 51) (by decide +kernel)
theorem dX8_call_192 : decode cX8_call 192 = .ok (.lload 5, 2) := dc_22 (a := 5) (by decide +kernel)
theorem dX8_call_194 : decode cX8_call 194 = .ok (.aload_n 0, 1) := dc_42 (by decide +kernel)
theorem dX8_call_195 : decode cX8_call 195 = .ok (.getfield 93, 3) := dc_180 (a := 0) (b := 93) (n := 93) (by decide +kernel)
theorem dX8_call_198 : decode cX8_call 198 = .ok (.getfield 210, 3) := dc_180 (a := 0) (b := 210) (n := 210) (by decide +kernel)
theorem dX8_call_201 : decode cX8_call 201 = .ok (.i2l, 1) := dc_133 (by decide +kernel)
theorem dX8_call_202 : decode cX8_call 202 = .ok (.ladd, 1) := dc_97 (by decide +kernel)
theorem dX8_call_203 : decode cX8_call 203 = .ok (.ldc2_w 318, 3) := dc_20 (a := 1) (b := 62) (n := 318) (by decide +kernel)
theorem dX8_call_206 : decode cX8_call 206 = .ok (.lcmp, 1) := dc_148 (by decide +kernel)
theorem dX8_call_207 : decode cX8_call 207 = .ok (.ifCond .gt 7, 3) := dc_157 (a := 0) (b := 7) (v := 7) (by decide +kernel)
theorem dX8_call_210 : decode cX8_call 210 = .ok (.iconst 1, 1) := dc_4 (by decide +kernel)
theorem dX8_call_211 : decode cX8_call 211 = .ok (.goto 4, 3) := dc_167 (a := 0) (b := 4) (v := 4) (by decide +kernel)
theorem dX8_call_214 : decode cX8_call 214 = .ok (.iconst 0, 1) := dc_3 (by decide +kernel)
theorem dX8_call_215 : decode cX8_call 215 = .ok (.iconst 2, 1) := dc_5 (by decide +kernel)
theorem dX8_call_216 : decode cX8_call 216 = .ok (.invokevirtual 145, 3) := dc_182 (a := 0) (b := 145) (n := 145) (by decide +kernel)
theorem dX8_call_219 : decode cX8_call 219 = .ok (.aload_n 0, 1) := dc_42 (by decide +kernel)
theorem dX8_call_220 : decode cX8_call 220 = .ok (.getfield 93, 3) := dc_180 (a := 0) (b := 93) (n := 93) (by decide +kernel)
theorem dX8_call_223 : decode cX8_call 223 = .ok (.iload_n 1, 1) := dc_27 (by decide +kernel)
theorem dX8_call_224 : decode cX8_call 224 = .ok (.aload_n 0, 1) := dc_42 (by decide +kernel)
theorem dX8_call_225 : decode cX8_call 225 = .ok (.getfield 28, 3) := dc_180 (a := 0) (b := 28) (n := 28) (by decide +kernel)
theorem dX8_call_228 : decode cX8_call 228 = .ok (.aload_n 0, 1) := dc_42 (by decide +kernel)
theorem dX8_call_229 : decode cX8_call 229 = .ok (.getfield 32, 3) := dc_180 (a := 0) (b := 32) (n := 32) (by decide +kernel)
theorem dX8_call_232 : decode cX8_call 232 = .ok (.invokevirtual 320, 3) := dc_182 (a := 1) (b := 64) (n := 320) (by decide +kernel)
theorem dX8_call_235 : decode cX8_call 235 = .ok (.return_, 1) := dc_177 (by decide +kernel)
theorem GX8_210 {w : eW} {d : Nat} {Y : eY} {pc : Nat} {ls : eL} {st : List Value} {h : eH} {Q : eO → eH → Prop} {a : Nat} {x : Int32} (hf : g_I 12 h a 3 = some x) (hd : decode Y.2.1 pc = .ok (.getfield 210, 3)) (hY : Y.1.cls = RX8) (kk : wp w d Y (pc + 3) ls (.int x :: st) h Q) : wp w d Y pc ls (.ref a :: st) h Q := x_gIN (ci := 12) (k := 3) hf hd rfl (by decide) (by rw [hY]; exact q821) kk
theorem GX8_295 {w : eW} {d : Nat} {Y : eY} {pc : Nat} {ls : eL} {st : List Value} {h : eH} {Q : eO → eH → Prop} {a : Nat} {x : Nat} (hf : g_A 11 h a 6 = some x) (hd : decode Y.2.1 pc = .ok (.getfield 295, 3)) (hY : Y.1.cls = RX8) (kk : wp w d Y (pc + 3) ls (.ref x :: st) h Q) : wp w d Y pc ls (.ref a :: st) h Q := x_gAN (ci := 11) (k := 6) hf hd rfl (by decide) (by rw [hY]; exact q791) kk
theorem GX8_298 {w : eW} {d : Nat} {Y : eY} {pc : Nat} {ls : eL} {st : List Value} {h : eH} {Q : eO → eH → Prop} {a : Nat} {x : Nat} (hf : g_A 11 h a 3 = some x) (hd : decode Y.2.1 pc = .ok (.getfield 298, 3)) (hY : Y.1.cls = RX8) (kk : wp w d Y (pc + 3) ls (.ref x :: st) h Q) : wp w d Y pc ls (.ref a :: st) h Q := x_gAN (ci := 11) (k := 3) hf hd rfl (by decide) (by rw [hY]; exact q784) kk
theorem GX8_301 {w : eW} {d : Nat} {Y : eY} {pc : Nat} {ls : eL} {st : List Value} {h : eH} {Q : eO → eH → Prop} {a : Nat} {x : Nat} (hf : g_A 11 h a 4 = some x) (hd : decode Y.2.1 pc = .ok (.getfield 301, 3)) (hY : Y.1.cls = RX8) (kk : wp w d Y (pc + 3) ls (.ref x :: st) h Q) : wp w d Y pc ls (.ref a :: st) h Q := x_gAN (ci := 11) (k := 4) hf hd rfl (by decide) (by rw [hY]; exact q787) kk
theorem GX8_32 {w : eW} {d : Nat} {Y : eY} {pc : Nat} {ls : eL} {st : List Value} {h : eH} {Q : eO → eH → Prop} {a : Nat} {x : Nat} (hf : g_A 7 h a 18 = some x) (hd : decode Y.2.1 pc = .ok (.getfield 32, 3)) (hY : Y.1.cls = RX8) (kk : wp w d Y (pc + 3) ls (.ref x :: st) h Q) : wp w d Y pc ls (.ref a :: st) h Q := x_gA (ci := 7) (k := 18) hf hd rfl (by decide) (by rw [hY]; exact q856) kk
def fX8_call_b85 (N : Nat) (k36 : Nat → Int32 → Int32 → Int32 → Int32 → eH → Option ((Unit ⊕ Nat) × eH)) (l0 : Nat) (l1 : Int32) (l2 : Int32) (l3 : Int32) (l4 : Int32) (s0 : Nat) (s1 : Int32) (h : eH) : Option ((Unit ⊕ Nat) × eH) :=
  (k_ok 3 h s0).bind fun _ =>
  t_B (fX4_want s0 s1 (4 : Int32) h) fun x2 h3 =>
  k36 l0 l1 l2 (l3 + (1 : Int32)) l4 h3
theorem pX8_call_b85 {w : eW} {d : Nat} (hd : 15 ≤ d + 1) {N : Nat} {k36 : Nat → Int32 → Int32 → Int32 → Int32 → eH → Option ((Unit ⊕ Nat) × eH)} (hk36 : ∀ l0 l1 l2 l3 l4 h q, k36 l0 l1 l2 l3 l4 h = some q → wp w (d + 1) YX8_call 36 [some (.ref l0), some (.int l1), some (.int l2), some (.int l3), some (.int l4), none, none] [] h (e_is (e_rt c_V q))) {l0 : Nat} {l1 : Int32} {l2 : Int32} {l3 : Int32} {l4 : Int32} {s0 : Nat} {s1 : Int32} {h : eH} {q} (hf : fX8_call_b85 N k36 l0 l1 l2 l3 l4 s0 s1 h = some q) : wp w (d + 1) YX8_call 85 [some (.ref l0), some (.int l1), some (.int l2), some (.int l3), some (.int l4), none, none] [.int s1, .ref s0] h (e_is (e_rt c_V q)) := by
  unfold fX8_call_b85 at hf
  refine w_iconst dX8_call_85 (v := 4) (by decide) ?_
  obtain ⟨_, b1, hf⟩ := Option.bind_eq_some_iff.mp hf
  refine x_ctV hf (e_stV (Yc := YX4_want) (ci := 3) (av := [.int s1, .int (4 : Int32)]) (st := []) dX8_call_86 q2500 mX4_want rfl (k_ok_some b1).1 (k_ok_some b1).2) mX4_want.2.2.1 mX4_want.2.2.2.2.1 (Nat.le_of_ble_eq_true rfl) (Nat.le_of_ble_eq_true rfl) rfl (fun q hq => pX4_want (by omega) hq) (fun x2 h3 hf => ?_)
  refine w_iinc dX8_call_89 (v := (l3 + (1 : Int32))) rfl rfl (by decide) (ls' := [some (.ref l0), some (.int l1), some (.int l2), some (.int (l3 + (1 : Int32))), some (.int l4), none, none]) rfl ?_
  refine w_goto 36 dX8_call_92 (by decide) ?_
  exact (hk36 _ _ _ _ _ _ _ hf).to ⟨rfl, rfl, rfl, rfl, rfl, trivial⟩
def fX8_call_b157 (N : Nat) (k98 : Nat → Int32 → Int32 → Int32 → Int32 → Int32 → eH → Option ((Unit ⊕ Nat) × eH)) (l0 : Nat) (l1 : Int32) (l2 : Int32) (l3 : Int32) (l4 : Int32) (l5 : Int32) (h : eH) : Option ((Unit ⊕ Nat) × eH) :=
  (g_A 7 h l0 18).bind fun a1 =>
  (g_I 7 h l0 17).bind fun x3 =>
  (q_V 100 h a1 l5 (.int x3)).bind fun h5 =>
  k98 l0 l1 l2 l3 l4 (l5 + (1 : Int32)) h5
theorem pX8_call_b157 {w : eW} {d : Nat} (hd : 15 ≤ d + 1) {N : Nat} {k98 : Nat → Int32 → Int32 → Int32 → Int32 → Int32 → eH → Option ((Unit ⊕ Nat) × eH)} (hk98 : ∀ l0 l1 l2 l3 l4 l5 h q, k98 l0 l1 l2 l3 l4 l5 h = some q → wp w (d + 1) YX8_call 98 [some (.ref l0), some (.int l1), some (.int l2), some (.int l3), some (.int l4), some (.int l5), none] [] h (e_is (e_rt c_V q))) {l0 : Nat} {l1 : Int32} {l2 : Int32} {l3 : Int32} {l4 : Int32} {l5 : Int32} {h : eH} {q} (hf : fX8_call_b157 N k98 l0 l1 l2 l3 l4 l5 h = some q) : wp w (d + 1) YX8_call 157 [some (.ref l0), some (.int l1), some (.int l2), some (.int l3), some (.int l4), some (.int l5), none] [] h (e_is (e_rt c_V q)) := by
  unfold fX8_call_b157 at hf
  refine w_aload_n dX8_call_157 rfl rfl ?_
  obtain ⟨a1, b2, hf⟩ := Option.bind_eq_some_iff.mp hf
  refine GX8_32 b2 dX8_call_158 rfl ?_
  refine w_iload dX8_call_161 rfl ?_
  refine w_aload_n dX8_call_163 rfl rfl ?_
  obtain ⟨x3, b4, hf⟩ := Option.bind_eq_some_iff.mp hf
  refine GX8_288 b4 dX8_call_164 rfl ?_
  obtain ⟨h5, b6, hf⟩ := Option.bind_eq_some_iff.mp hf
  refine x_qI b6 dX8_call_167 ?_
  refine w_iinc dX8_call_168 (v := (l5 + (1 : Int32))) rfl rfl (by decide) (ls' := [some (.ref l0), some (.int l1), some (.int l2), some (.int l3), some (.int l4), some (.int (l5 + (1 : Int32))), none]) rfl ?_
  refine w_goto 98 dX8_call_171 (by decide) ?_
  exact (hk98 _ _ _ _ _ _ _ _ hf).to ⟨rfl, rfl, rfl, rfl, rfl, rfl, trivial⟩
def fX8_call_b137 (N : Nat) (k98 : Nat → Int32 → Int32 → Int32 → Int32 → Int32 → eH → Option ((Unit ⊕ Nat) × eH)) (l0 : Nat) (l1 : Int32) (l2 : Int32) (l3 : Int32) (l4 : Int32) (l5 : Int32) (l6 : Int32) (h : eH) : Option ((Unit ⊕ Nat) × eH) :=
  if ¬ l6 = l3 then
    (k_ok 7 h l0).bind fun _ =>
    t_B (fX8_delimited N l0 l6 l3 h) fun x3 h4 =>
    fX8_call_b157 N k98 l0 l1 l2 l3 l4 l5 h4
  else
    (k_ok 7 h l0).bind fun _ =>
    t_B (fX8_single N l0 h) fun x6 h7 =>
    fX8_call_b157 N k98 l0 l1 l2 l3 l4 l5 h7
theorem pX8_call_b137 {w : eW} {d : Nat} (hd : 15 ≤ d + 1) {N : Nat} {k98 : Nat → Int32 → Int32 → Int32 → Int32 → Int32 → eH → Option ((Unit ⊕ Nat) × eH)} (hk98 : ∀ l0 l1 l2 l3 l4 l5 h q, k98 l0 l1 l2 l3 l4 l5 h = some q → wp w (d + 1) YX8_call 98 [some (.ref l0), some (.int l1), some (.int l2), some (.int l3), some (.int l4), some (.int l5), none] [] h (e_is (e_rt c_V q))) {l0 : Nat} {l1 : Int32} {l2 : Int32} {l3 : Int32} {l4 : Int32} {l5 : Int32} {l6 : Int32} {h : eH} {q} (hf : fX8_call_b137 N k98 l0 l1 l2 l3 l4 l5 l6 h = some q) : wp w (d + 1) YX8_call 137 [some (.ref l0), some (.int l1), some (.int l2), some (.int l3), some (.int l4), some (.int l5), some (.int l6)] [] h (e_is (e_rt c_V q)) := by
  unfold fX8_call_b137 at hf
  refine w_iload dX8_call_137 rfl ?_
  refine w_iload_n dX8_call_139 rfl rfl ?_
  refine w_icmp_ne 150 dX8_call_140 (by decide) (fun c1 => ?_) (fun c1 => ?_)
  · replace hf := (if_pos (show ¬ l6 = l3 from c1)).symm.trans hf
    refine w_aload_n dX8_call_150 rfl rfl ?_
    refine w_iload dX8_call_151 rfl ?_
    refine w_iload_n dX8_call_153 rfl rfl ?_
    obtain ⟨_, b2, hf⟩ := Option.bind_eq_some_iff.mp hf
    refine x_ctV hf (e_stV (Yc := YX8_delimited) (ci := 7) (av := [.int l6, .int l3]) (st := []) dX8_call_154 q2530 mX8_delimited rfl (k_ok_some b2).1 (k_ok_some b2).2) mX8_delimited.2.2.1 mX8_delimited.2.2.2.2.1 (Nat.le_of_ble_eq_true rfl) (Nat.le_of_ble_eq_true rfl) rfl (fun q hq => pX8_delimited (by omega) hq) (fun x3 h4 hf => ?_)
    exact (pX8_call_b157 hd hk98 hf).to ⟨rfl, rfl, rfl, rfl, rfl, rfl, trivial⟩
  · replace hf := (if_neg (show ¬ (¬ l6 = l3) from (fun z => z c1))).symm.trans hf
    refine w_aload_n dX8_call_143 rfl rfl ?_
    obtain ⟨_, b5, hf⟩ := Option.bind_eq_some_iff.mp hf
    refine x_ctV hf (e_stV (Yc := YX8_single) (ci := 7) (av := []) (st := []) dX8_call_144 q2514 mX8_single rfl (k_ok_some b5).1 (k_ok_some b5).2) mX8_single.2.2.1 mX8_single.2.2.2.2.1 (Nat.le_of_ble_eq_true rfl) (Nat.le_of_ble_eq_true rfl) rfl (fun q hq => pX8_single (by omega) hq) (fun x6 h7 hf => ?_)
    refine w_goto 157 dX8_call_147 (by decide) ?_
    exact (pX8_call_b157 hd hk98 hf).to ⟨rfl, rfl, rfl, rfl, rfl, rfl, trivial⟩
def fX8_call_b110 (N : Nat) (k98 : Nat → Int32 → Int32 → Int32 → Int32 → Int32 → eH → Option ((Unit ⊕ Nat) × eH)) : Nat → Nat → Int32 → Int32 → Int32 → Int32 → Int32 → Int32 → eH → Option ((Unit ⊕ Nat) × eH)
  | 0, _, _, _, _, _, _, _, _ => none
  | n + 1, l0, l1, l2, l3, l4, l5, l6, h =>
    if l4 ≤ l3 then
      fX8_call_b137 N k98 l0 l1 l2 l3 l4 l5 l6 h
    else
      (g_A 7 h l0 6).bind fun a2 =>
      (g_A 11 h a2 1).bind fun a4 =>
      (r_I 100 h a4 l3).bind fun x6 =>
      if (262144 : Int32) ≤ x6 then
        fX8_call_b137 N k98 l0 l1 l2 l3 l4 l5 l6 h
      else
        fX8_call_b110 N k98 n l0 l1 l2 (l3 + (1 : Int32)) l4 l5 l6 h
theorem pX8_call_b110 {w : eW} {d : Nat} (hd : 15 ≤ d + 1) {N : Nat} {k98 : Nat → Int32 → Int32 → Int32 → Int32 → Int32 → eH → Option ((Unit ⊕ Nat) × eH)} (hk98 : ∀ l0 l1 l2 l3 l4 l5 h q, k98 l0 l1 l2 l3 l4 l5 h = some q → wp w (d + 1) YX8_call 98 [some (.ref l0), some (.int l1), some (.int l2), some (.int l3), some (.int l4), some (.int l5), none] [] h (e_is (e_rt c_V q))) : ∀ (n : Nat) l0 l1 l2 l3 l4 l5 l6 h q, fX8_call_b110 N k98 n l0 l1 l2 l3 l4 l5 l6 h = some q → wp w (d + 1) YX8_call 110 [some (.ref l0), some (.int l1), some (.int l2), some (.int l3), some (.int l4), some (.int l5), some (.int l6)] [] h (e_is (e_rt c_V q)) := by
  intro n
  induction n with
  | zero => intro l0 l1 l2 l3 l4 l5 l6 h q hf; simp [fX8_call_b110] at hf
  | succ n ih =>
    intro l0 l1 l2 l3 l4 l5 l6 h q hf
    rw [fX8_call_b110] at hf
    refine w_iload_n dX8_call_110 rfl rfl ?_
    refine w_iload dX8_call_111 rfl ?_
    refine w_icmp_ge 137 dX8_call_113 (by decide) (fun c1 => ?_) (fun c1 => ?_)
    · replace hf := (if_pos (show l4 ≤ l3 from c1)).symm.trans hf
      exact (pX8_call_b137 hd hk98 hf).to ⟨rfl, rfl, rfl, rfl, rfl, rfl, rfl, trivial⟩
    · replace hf := (if_neg (show ¬ (l4 ≤ l3) from c1)).symm.trans hf
      refine w_aload_n dX8_call_116 rfl rfl ?_
      obtain ⟨a2, b3, hf⟩ := Option.bind_eq_some_iff.mp hf
      refine GX8_84 b3 dX8_call_117 rfl ?_
      obtain ⟨a4, b5, hf⟩ := Option.bind_eq_some_iff.mp hf
      refine GX8_304 b5 dX8_call_120 rfl ?_
      refine w_iload_n dX8_call_123 rfl rfl ?_
      obtain ⟨x6, b7, hf⟩ := Option.bind_eq_some_iff.mp hf
      refine x_rI b7 dX8_call_124 ?_
      refine w_ldc_w dX8_call_125 q2505 ?_
      refine w_icmp_ge 137 dX8_call_128 (by decide) (fun c8 => ?_) (fun c8 => ?_)
      · replace hf := (if_pos (show (262144 : Int32) ≤ x6 from c8)).symm.trans hf
        exact (pX8_call_b137 hd hk98 hf).to ⟨rfl, rfl, rfl, rfl, rfl, rfl, rfl, trivial⟩
      · replace hf := (if_neg (show ¬ ((262144 : Int32) ≤ x6) from c8)).symm.trans hf
        refine w_iinc dX8_call_131 (v := (l3 + (1 : Int32))) rfl rfl (by decide) (ls' := [some (.ref l0), some (.int l1), some (.int l2), some (.int (l3 + (1 : Int32))), some (.int l4), some (.int l5), some (.int l6)]) rfl ?_
        refine w_goto 110 dX8_call_134 (by decide) ?_
        exact (ih _ _ _ _ _ _ _ _ _ hf).to ⟨rfl, rfl, rfl, rfl, rfl, rfl, rfl, trivial⟩
def fX8_call_b215 (N : Nat) (l0 : Nat) (l1 : Int32) (s0 : Nat) (s1 : Int32) (h : eH) : Option ((Unit ⊕ Nat) × eH) :=
  (k_ok 3 h s0).bind fun _ =>
  t_B (fX4_want s0 s1 (2 : Int32) h) fun x2 h3 =>
  (g_A 7 h3 l0 7).bind fun a4 =>
  (g_A 7 h3 l0 16).bind fun a6 =>
  (g_A 7 h3 l0 18).bind fun a8 =>
  (k_ok 12 h3 a4).bind fun _ =>
  (fX13_call N a4 l1 a6 a8 h3).bind fun q11 =>
  some (.inl (), q11.2)
theorem pX8_call_b215 {w : eW} {d : Nat} (hd : 15 ≤ d + 1) {N : Nat} {l0 : Nat} {l1 : Int32} {s0 : Nat} {s1 : Int32} {h : eH} {q} (hf : fX8_call_b215 N l0 l1 s0 s1 h = some q) : wp w (d + 1) YX8_call 215 [some (.ref l0), some (.int l1), none, none, none, none, none] [.int s1, .ref s0] h (e_is (e_rt c_V q)) := by
  unfold fX8_call_b215 at hf
  refine w_iconst dX8_call_215 (v := 2) (by decide) ?_
  obtain ⟨_, b1, hf⟩ := Option.bind_eq_some_iff.mp hf
  refine x_ctV hf (e_stV (Yc := YX4_want) (ci := 3) (av := [.int s1, .int (2 : Int32)]) (st := []) dX8_call_216 q2500 mX4_want rfl (k_ok_some b1).1 (k_ok_some b1).2) mX4_want.2.2.1 mX4_want.2.2.2.2.1 (Nat.le_of_ble_eq_true rfl) (Nat.le_of_ble_eq_true rfl) rfl (fun q hq => pX4_want (by omega) hq) (fun x2 h3 hf => ?_)
  refine w_aload_n dX8_call_219 rfl rfl ?_
  obtain ⟨a4, b5, hf⟩ := Option.bind_eq_some_iff.mp hf
  refine GX8_93 b5 dX8_call_220 rfl ?_
  refine w_iload_n dX8_call_223 rfl rfl ?_
  refine w_aload_n dX8_call_224 rfl rfl ?_
  obtain ⟨a6, b7, hf⟩ := Option.bind_eq_some_iff.mp hf
  refine GX8_28 b7 dX8_call_225 rfl ?_
  refine w_aload_n dX8_call_228 rfl rfl ?_
  obtain ⟨a8, b9, hf⟩ := Option.bind_eq_some_iff.mp hf
  refine GX8_32 b9 dX8_call_229 rfl ?_
  obtain ⟨_, b10, hf⟩ := Option.bind_eq_some_iff.mp hf
  refine x_cnV hf (e_stV (Yc := YX13_call) (ci := 12) (av := [.int l1, .ref a6, .ref a8]) (st := []) dX8_call_232 q2545 mX13_call rfl (k_ok_some b10).1 (k_ok_some b10).2) mX13_call.2.2.1 mX13_call.2.2.2.2.1 (Nat.le_of_ble_eq_true rfl) (Nat.le_of_ble_eq_true rfl) (fun q hq => pX13_call (by omega) hq) (fun q11 hf => ?_)
  cases hf
  exact w_vret dX8_call_235 rfl rfl
def fX8_call_b98 (N : Nat) : Nat → Nat → Int32 → Int32 → Int32 → Int32 → Int32 → eH → Option ((Unit ⊕ Nat) × eH)
  | 0, _, _, _, _, _, _, _ => none
  | n + 1, l0, l1, l2, l3, l4, l5, h =>
    if l2 ≤ l5 then
      (g_A 7 h l0 7).bind fun a2 =>
      (g_A 7 h l0 18).bind fun a4 =>
      (k_ok 12 h a2).bind fun _ =>
      (fX13_length N a2 l1 a4 h).bind fun q7 =>
      (g_A 7 q7.2 l0 0).bind fun a8 =>
      (g_A 7 q7.2 l0 7).bind fun a10 =>
      (g_I 12 q7.2 a10 3).bind fun x12 =>
      if 0 < (lg_cmp (q7.1 + (x12).toInt64) (10000 : Int64)) then
        fX8_call_b215 N l0 l1 a8 (0 : Int32) q7.2
      else
        fX8_call_b215 N l0 l1 a8 (1 : Int32) q7.2
    else
      fX8_call_b110 N (fX8_call_b98 N n) N l0 l1 l2 (l3 + (1 : Int32)) l4 l5 (l3 + (1 : Int32)) h
theorem pX8_call_b98 {w : eW} {d : Nat} (hd : 15 ≤ d + 1) {N : Nat} : ∀ (n : Nat) l0 l1 l2 l3 l4 l5 h q, fX8_call_b98 N n l0 l1 l2 l3 l4 l5 h = some q → wp w (d + 1) YX8_call 98 [some (.ref l0), some (.int l1), some (.int l2), some (.int l3), some (.int l4), some (.int l5), none] [] h (e_is (e_rt c_V q)) := by
  intro n
  induction n with
  | zero => intro l0 l1 l2 l3 l4 l5 h q hf; simp [fX8_call_b98] at hf
  | succ n ih =>
    intro l0 l1 l2 l3 l4 l5 h q hf
    rw [fX8_call_b98] at hf
    refine w_iload dX8_call_98 rfl ?_
    refine w_iload_n dX8_call_100 rfl rfl ?_
    refine w_icmp_ge 174 dX8_call_101 (by decide) (fun c1 => ?_) (fun c1 => ?_)
    · replace hf := (if_pos (show l2 ≤ l5 from c1)).symm.trans hf
      refine w_aload_n dX8_call_174 rfl rfl ?_
      obtain ⟨a2, b3, hf⟩ := Option.bind_eq_some_iff.mp hf
      refine GX8_93 b3 dX8_call_175 rfl ?_
      refine w_iload_n dX8_call_178 rfl rfl ?_
      refine w_aload_n dX8_call_179 rfl rfl ?_
      obtain ⟨a4, b5, hf⟩ := Option.bind_eq_some_iff.mp hf
      refine GX8_32 b5 dX8_call_180 rfl ?_
      obtain ⟨_, b6, hf⟩ := Option.bind_eq_some_iff.mp hf
      refine x_cnJ hf (e_stV (Yc := YX13_length) (ci := 12) (av := [.int l1, .ref a4]) (st := []) dX8_call_183 q2539 mX13_length rfl (k_ok_some b6).1 (k_ok_some b6).2) mX13_length.2.2.1 mX13_length.2.2.2.2.1 (Nat.le_of_ble_eq_true rfl) (Nat.le_of_ble_eq_true rfl) (fun q hq => pX13_length (by omega) hq) (fun q7 hf => ?_)
      refine w_lstore dX8_call_186 (by decide) (ls' := [some (.ref l0), some (.int l1), some (.int l2), some (.int l3), some (.int l4), some (.long q7.1), none]) rfl ?_
      refine w_aload_n dX8_call_188 rfl rfl ?_
      obtain ⟨a8, b9, hf⟩ := Option.bind_eq_some_iff.mp hf
      refine GX8_51 b9 dX8_call_189 rfl ?_
      refine w_lload dX8_call_192 rfl ?_
      refine w_aload_n dX8_call_194 rfl rfl ?_
      obtain ⟨a10, b11, hf⟩ := Option.bind_eq_some_iff.mp hf
      refine GX8_93 b11 dX8_call_195 rfl ?_
      obtain ⟨x12, b13, hf⟩ := Option.bind_eq_some_iff.mp hf
      refine GX8_210 b13 dX8_call_198 rfl ?_
      refine w_i2l dX8_call_201 ?_
      refine w_ladd dX8_call_202 ?_
      refine w_ldc2 dX8_call_203 q2544 ?_
      refine w_lcmp dX8_call_206 ?_
      refine w_if_gt 214 dX8_call_207 (by decide) (fun c14 => ?_) (fun c14 => ?_)
      · replace hf := (if_pos (show 0 < (lg_cmp (q7.1 + (x12).toInt64) (10000 : Int64)) from c14)).symm.trans hf
        refine w_iconst dX8_call_214 (v := 0) (by decide) ?_
        exact (pX8_call_b215 hd hf).to ⟨rfl, rfl, trivial⟩
      · replace hf := (if_neg (show ¬ (0 < (lg_cmp (q7.1 + (x12).toInt64) (10000 : Int64))) from c14)).symm.trans hf
        refine w_iconst dX8_call_210 (v := 1) (by decide) ?_
        refine w_goto 215 dX8_call_211 (by decide) ?_
        exact (pX8_call_b215 hd hf).to ⟨rfl, rfl, trivial⟩
    · replace hf := (if_neg (show ¬ (l2 ≤ l5) from c1)).symm.trans hf
      refine w_iinc dX8_call_104 (v := (l3 + (1 : Int32))) rfl rfl (by decide) (ls' := [some (.ref l0), some (.int l1), some (.int l2), some (.int (l3 + (1 : Int32))), some (.int l4), some (.int l5), none]) rfl ?_
      refine w_iload_n dX8_call_107 rfl rfl ?_
      refine w_istore dX8_call_108 (by decide) (ls' := [some (.ref l0), some (.int l1), some (.int l2), some (.int (l3 + (1 : Int32))), some (.int l4), some (.int l5), some (.int (l3 + (1 : Int32)))]) rfl ?_
      exact (pX8_call_b110 hd ih N _ _ _ _ _ _ _ _ _ hf).to ⟨rfl, rfl, rfl, rfl, rfl, rfl, rfl, trivial⟩
def fX8_call_b95 (N : Nat) (l0 : Nat) (l1 : Int32) (l2 : Int32) (l3 : Int32) (l4 : Int32) (h : eH) : Option ((Unit ⊕ Nat) × eH) :=
  fX8_call_b98 N N l0 l1 l2 l3 l4 (0 : Int32) h
theorem pX8_call_b95 {w : eW} {d : Nat} (hd : 15 ≤ d + 1) {N : Nat} {l0 : Nat} {l1 : Int32} {l2 : Int32} {l3 : Int32} {l4 : Int32} {h : eH} {q} (hf : fX8_call_b95 N l0 l1 l2 l3 l4 h = some q) : wp w (d + 1) YX8_call 95 [some (.ref l0), some (.int l1), some (.int l2), some (.int l3), some (.int l4), none, none] [] h (e_is (e_rt c_V q)) := by
  unfold fX8_call_b95 at hf
  refine w_iconst dX8_call_95 (v := 0) (by decide) ?_
  refine w_istore dX8_call_96 (by decide) (ls' := [some (.ref l0), some (.int l1), some (.int l2), some (.int l3), some (.int l4), some (.int (0 : Int32)), none]) rfl ?_
  exact (pX8_call_b98 hd N _ _ _ _ _ _ _ _ hf).to ⟨rfl, rfl, rfl, rfl, rfl, rfl, trivial⟩
def fX8_call_b36 (N : Nat) : Nat → Nat → Int32 → Int32 → Int32 → Int32 → eH → Option ((Unit ⊕ Nat) × eH)
  | 0, _, _, _, _, _, _ => none
  | n + 1, l0, l1, l2, l3, l4, h =>
    if l4 ≤ l3 then
      fX8_call_b95 N l0 l1 l2 l3 l4 h
    else
      (g_A 7 h l0 6).bind fun a2 =>
      (g_A 11 h a2 1).bind fun a4 =>
      (r_I 100 h a4 l3).bind fun x6 =>
      if (262144 : Int32) ≤ x6 then
        fX8_call_b95 N l0 l1 l2 l3 l4 h
      else
        (g_A 7 h l0 0).bind fun a9 =>
        (k_ok 7 h l0).bind fun _ =>
        t_B (fX8_need N l0 h) fun x12 h13 =>
        (fX8_bare x12 h13).bind fun q14 =>
        (g_A 7 q14.2 l0 6).bind fun a15 =>
        (g_A 11 q14.2 a15 1).bind fun a17 =>
        (r_I 100 q14.2 a17 l3).bind fun x19 =>
        if ¬ q14.1 = x19 then
          fX8_call_b85 N (fX8_call_b36 N n) l0 l1 l2 l3 l4 a9 (0 : Int32) q14.2
        else
          fX8_call_b85 N (fX8_call_b36 N n) l0 l1 l2 l3 l4 a9 (1 : Int32) q14.2
theorem pX8_call_b36 {w : eW} {d : Nat} (hd : 15 ≤ d + 1) {N : Nat} : ∀ (n : Nat) l0 l1 l2 l3 l4 h q, fX8_call_b36 N n l0 l1 l2 l3 l4 h = some q → wp w (d + 1) YX8_call 36 [some (.ref l0), some (.int l1), some (.int l2), some (.int l3), some (.int l4), none, none] [] h (e_is (e_rt c_V q)) := by
  intro n
  induction n with
  | zero => intro l0 l1 l2 l3 l4 h q hf; simp [fX8_call_b36] at hf
  | succ n ih =>
    intro l0 l1 l2 l3 l4 h q hf
    rw [fX8_call_b36] at hf
    refine w_iload_n dX8_call_36 rfl rfl ?_
    refine w_iload dX8_call_37 rfl ?_
    refine w_icmp_ge 95 dX8_call_39 (by decide) (fun c1 => ?_) (fun c1 => ?_)
    · replace hf := (if_pos (show l4 ≤ l3 from c1)).symm.trans hf
      exact (pX8_call_b95 hd hf).to ⟨rfl, rfl, rfl, rfl, rfl, trivial⟩
    · replace hf := (if_neg (show ¬ (l4 ≤ l3) from c1)).symm.trans hf
      refine w_aload_n dX8_call_42 rfl rfl ?_
      obtain ⟨a2, b3, hf⟩ := Option.bind_eq_some_iff.mp hf
      refine GX8_84 b3 dX8_call_43 rfl ?_
      obtain ⟨a4, b5, hf⟩ := Option.bind_eq_some_iff.mp hf
      refine GX8_304 b5 dX8_call_46 rfl ?_
      refine w_iload_n dX8_call_49 rfl rfl ?_
      obtain ⟨x6, b7, hf⟩ := Option.bind_eq_some_iff.mp hf
      refine x_rI b7 dX8_call_50 ?_
      refine w_ldc_w dX8_call_51 q2505 ?_
      refine w_icmp_ge 95 dX8_call_54 (by decide) (fun c8 => ?_) (fun c8 => ?_)
      · replace hf := (if_pos (show (262144 : Int32) ≤ x6 from c8)).symm.trans hf
        exact (pX8_call_b95 hd hf).to ⟨rfl, rfl, rfl, rfl, rfl, trivial⟩
      · replace hf := (if_neg (show ¬ ((262144 : Int32) ≤ x6) from c8)).symm.trans hf
        refine w_aload_n dX8_call_57 rfl rfl ?_
        obtain ⟨a9, b10, hf⟩ := Option.bind_eq_some_iff.mp hf
        refine GX8_51 b10 dX8_call_58 rfl ?_
        refine w_aload_n dX8_call_61 rfl rfl ?_
        obtain ⟨_, b11, hf⟩ := Option.bind_eq_some_iff.mp hf
        refine x_ctI hf (e_stV (Yc := YX8_need) (ci := 7) (av := []) (st := [.ref a9]) dX8_call_62 q2506 mX8_need rfl (k_ok_some b11).1 (k_ok_some b11).2) mX8_need.2.2.1 mX8_need.2.2.2.2.1 (Nat.le_of_ble_eq_true rfl) (Nat.le_of_ble_eq_true rfl) rfl (fun q hq => pX8_need (by omega) hq) (fun x12 h13 hf => ?_)
        refine x_cnI hf (e_stS (Yc := YX8_bare) (av := [.int x12]) (st := [.ref a9]) dX8_call_65 q2510 mX8_bare) mX8_bare.2.2.1 mX8_bare.2.2.2.2.1 (Nat.le_of_ble_eq_true rfl) (Nat.le_of_ble_eq_true rfl) (fun q hq => pX8_bare (by omega) hq) (fun q14 hf => ?_)
        refine w_aload_n dX8_call_68 rfl rfl ?_
        obtain ⟨a15, b16, hf⟩ := Option.bind_eq_some_iff.mp hf
        refine GX8_84 b16 dX8_call_69 rfl ?_
        obtain ⟨a17, b18, hf⟩ := Option.bind_eq_some_iff.mp hf
        refine GX8_304 b18 dX8_call_72 rfl ?_
        refine w_iload_n dX8_call_75 rfl rfl ?_
        obtain ⟨x19, b20, hf⟩ := Option.bind_eq_some_iff.mp hf
        refine x_rI b20 dX8_call_76 ?_
        refine w_icmp_ne 84 dX8_call_77 (by decide) (fun c21 => ?_) (fun c21 => ?_)
        · replace hf := (if_pos (show ¬ q14.1 = x19 from c21)).symm.trans hf
          refine w_iconst dX8_call_84 (v := 0) (by decide) ?_
          exact (pX8_call_b85 hd ih hf).to ⟨rfl, rfl, rfl, rfl, rfl, trivial⟩
        · replace hf := (if_neg (show ¬ (¬ q14.1 = x19) from (fun z => z c21))).symm.trans hf
          refine w_iconst dX8_call_80 (v := 1) (by decide) ?_
          refine w_goto 85 dX8_call_81 (by decide) ?_
          exact (pX8_call_b85 hd ih hf).to ⟨rfl, rfl, rfl, rfl, rfl, trivial⟩
def fX8_call (N : Nat) (this : Nat) (p0 : Int32) (h : eH) : Option ((Unit ⊕ Nat) × eH) :=
  (g_A 7 h this 6).bind fun a1 =>
  (g_A 11 h a1 6).bind fun a3 =>
  (r_I 100 h a3 p0).bind fun x5 =>
  (g_A 7 h this 6).bind fun a7 =>
  (g_A 11 h a7 3).bind fun a9 =>
  (r_I 100 h a9 p0).bind fun x11 =>
  (g_A 7 h this 6).bind fun a13 =>
  (g_A 11 h a13 4).bind fun a15 =>
  (r_I 100 h a15 p0).bind fun x17 =>
  (p_V 7 h this 17 (.int (0 : Int32))).bind fun h19 =>
  fX8_call_b36 N N this p0 x5 x11 x17 h19
theorem pX8_call {w : eW} {d : Nat} (hd : 15 ≤ d) {N : Nat} {this : Nat} {p0 : Int32} {h : eH} {q} (hf : fX8_call N this p0 h = some q) : wm w d YX8_call [.ref this, .int p0] h (e_is (e_rt c_V q)) := by
  obtain ⟨d, rfl⟩ : ∃ e, d = e + 1 := ⟨d - 1, by omega⟩
  show wp w (d + 1) YX8_call 0 [some (.ref this), some (.int p0), none, none, none, none, none] [] h _
  unfold fX8_call at hf
  refine w_aload_n dX8_call_0 rfl rfl ?_
  obtain ⟨a1, b2, hf⟩ := Option.bind_eq_some_iff.mp hf
  refine GX8_84 b2 dX8_call_1 rfl ?_
  obtain ⟨a3, b4, hf⟩ := Option.bind_eq_some_iff.mp hf
  refine GX8_295 b4 dX8_call_4 rfl ?_
  refine w_iload_n dX8_call_7 rfl rfl ?_
  obtain ⟨x5, b6, hf⟩ := Option.bind_eq_some_iff.mp hf
  refine x_rI b6 dX8_call_8 ?_
  refine w_istore_n dX8_call_9 rfl (by decide) (ls' := [some (.ref this), some (.int p0), some (.int x5), none, none, none, none]) rfl ?_
  refine w_aload_n dX8_call_10 rfl rfl ?_
  obtain ⟨a7, b8, hf⟩ := Option.bind_eq_some_iff.mp hf
  refine GX8_84 b8 dX8_call_11 rfl ?_
  obtain ⟨a9, b10, hf⟩ := Option.bind_eq_some_iff.mp hf
  refine GX8_298 b10 dX8_call_14 rfl ?_
  refine w_iload_n dX8_call_17 rfl rfl ?_
  obtain ⟨x11, b12, hf⟩ := Option.bind_eq_some_iff.mp hf
  refine x_rI b12 dX8_call_18 ?_
  refine w_istore_n dX8_call_19 rfl (by decide) (ls' := [some (.ref this), some (.int p0), some (.int x5), some (.int x11), none, none, none]) rfl ?_
  refine w_aload_n dX8_call_20 rfl rfl ?_
  obtain ⟨a13, b14, hf⟩ := Option.bind_eq_some_iff.mp hf
  refine GX8_84 b14 dX8_call_21 rfl ?_
  obtain ⟨a15, b16, hf⟩ := Option.bind_eq_some_iff.mp hf
  refine GX8_301 b16 dX8_call_24 rfl ?_
  refine w_iload_n dX8_call_27 rfl rfl ?_
  obtain ⟨x17, b18, hf⟩ := Option.bind_eq_some_iff.mp hf
  refine x_rI b18 dX8_call_28 ?_
  refine w_istore dX8_call_29 (by decide) (ls' := [some (.ref this), some (.int p0), some (.int x5), some (.int x11), some (.int x17), none, none]) rfl ?_
  refine w_aload_n dX8_call_31 rfl rfl ?_
  refine w_iconst dX8_call_32 (v := 0) (by decide) ?_
  obtain ⟨h19, b20, hf⟩ := Option.bind_eq_some_iff.mp hf
  refine SX8_288 b20 dX8_call_33 rfl ?_
  exact (pX8_call_b36 hd N _ _ _ _ _ _ _ hf).to ⟨rfl, rfl, rfl, rfl, rfl, trivial⟩
abbrev cX8_categoryOf : ByteArray := prog_4_method_72_code
def yX8_categoryOf : MethodName := ⟨RX8, "categoryOf", "(I)I"⟩
def YX8_categoryOf : eY := (yX8_categoryOf, cX8_categoryOf, 2, (Option.some FieldType.int), [])
theorem mX8_categoryOf : e_mv YX8_categoryOf RX8 1 := ⟨q2695, qs85, q2696, by decide, by decide +kernel, (e_sig (by decide +kernel))⟩
theorem dX8_categoryOf_0 : decode cX8_categoryOf 0 = .ok (.aload_n 0, 1) := dc_42 (by decide +kernel)
theorem dX8_categoryOf_1 : decode cX8_categoryOf 1 = .ok (.iload_n 1, 1) := dc_27 (by decide +kernel)
theorem dX8_categoryOf_2 : decode cX8_categoryOf 2 = .ok (.invokevirtual 174, 3) := dc_182 (a := 0) (b := 174) (n := 174) (by decide +kernel)
theorem dX8_categoryOf_5 : decode cX8_categoryOf 5 = .ok (.iconst 3, 1) := dc_6 (by decide +kernel)
theorem dX8_categoryOf_6 : decode cX8_categoryOf 6 = .ok (.if_icmp .ne 14, 3) := dc_160 (a := 0) (b := 14) (v := 14) (by decide +kernel)
theorem dX8_categoryOf_9 : decode cX8_categoryOf 9 = .ok (.aload_n 0, 1) := dc_42 (by decide +kernel)
theorem dX8_categoryOf_10 : decode cX8_categoryOf 10 = .ok (.iload_n 1, 1) := dc_27 (by decide +kernel)
theorem dX8_categoryOf_11 : decode cX8_categoryOf 11 = .ok (.invokevirtual 178, 3) := dc_182 (a := 0) (b := 178) (n := 178) (by decide +kernel)
theorem dX8_categoryOf_14 : decode cX8_categoryOf 14 = .ok (.invokestatic 564, 3) := dc_184 (a := 2) (b := 52) (n := 564) (by decide +kernel)
theorem dX8_categoryOf_17 : decode cX8_categoryOf 17 = .ok (.goto 5, 3) := dc_167 (a := 0) (b := 5) (v := 5) (by decide +kernel)
theorem dX8_categoryOf_20 : decode cX8_categoryOf 20 = .ok (.bipush 16, 2) := dc_16 (a := 16) (v := 16) (by decide +kernel)
theorem dX8_categoryOf_22 : decode cX8_categoryOf 22 = .ok (.ireturn, 1) := dc_172 (by decide +kernel)
def fX8_categoryOf_b22 (s0 : Int32) (h : eH) : Option (Int32 × eH) :=
  some (s0, h)
theorem pX8_categoryOf_b22 {w : eW} {d : Nat} (hd : 2 ≤ d + 1) {s0 : Int32} {h : eH} {q} (hf : fX8_categoryOf_b22 s0 h = some q) : wp w (d + 1) YX8_categoryOf 22 [none, none] [.int s0] h (e_is (e_rn c_I q)) := by
  unfold fX8_categoryOf_b22 at hf
  cases hf
  exact w_iret dX8_categoryOf_22 rfl rfl rfl
def fX8_categoryOf (this : Nat) (p0 : Int32) (h : eH) : Option (Int32 × eH) :=
  (k_ok 7 h this).bind fun _ =>
  (fX8_kind this p0 h).bind fun q2 =>
  if ¬ q2.1 = (3 : Int32) then
    fX8_categoryOf_b22 (16 : Int32) q2.2
  else
    (k_ok 7 q2.2 this).bind fun _ =>
    (fX8_value this p0 q2.2).bind fun q5 =>
    (fX1_category q5.1 q5.2).bind fun q6 =>
    fX8_categoryOf_b22 q6.1 q6.2
theorem pX8_categoryOf {w : eW} {d : Nat} (hd : 2 ≤ d) {this : Nat} {p0 : Int32} {h : eH} {q} (hf : fX8_categoryOf this p0 h = some q) : wm w d YX8_categoryOf [.ref this, .int p0] h (e_is (e_rn c_I q)) := by
  obtain ⟨d, rfl⟩ : ∃ e, d = e + 1 := ⟨d - 1, by omega⟩
  show wp w (d + 1) YX8_categoryOf 0 [some (.ref this), some (.int p0)] [] h _
  unfold fX8_categoryOf at hf
  refine w_aload_n dX8_categoryOf_0 rfl rfl ?_
  refine w_iload_n dX8_categoryOf_1 rfl rfl ?_
  obtain ⟨_, b1, hf⟩ := Option.bind_eq_some_iff.mp hf
  refine x_cnI hf (e_stV (Yc := YX8_kind) (ci := 7) (av := [.int p0]) (st := []) dX8_categoryOf_2 q2477 mX8_kind rfl (k_ok_some b1).1 (k_ok_some b1).2) mX8_kind.2.2.1 mX8_kind.2.2.2.2.1 (Nat.le_of_ble_eq_true rfl) (Nat.le_of_ble_eq_true rfl) (fun q hq => pX8_kind (by omega) hq) (fun q2 hf => ?_)
  refine w_iconst dX8_categoryOf_5 (v := 3) (by decide) ?_
  refine w_icmp_ne 20 dX8_categoryOf_6 (by decide) (fun c3 => ?_) (fun c3 => ?_)
  · replace hf := (if_pos (show ¬ q2.1 = (3 : Int32) from c3)).symm.trans hf
    refine w_bipush dX8_categoryOf_20 (v := 16) (by decide) ?_
    exact (pX8_categoryOf_b22 hd hf).to trivial
  · replace hf := (if_neg (show ¬ (¬ q2.1 = (3 : Int32)) from (fun z => z c3))).symm.trans hf
    refine w_aload_n dX8_categoryOf_9 rfl rfl ?_
    refine w_iload_n dX8_categoryOf_10 rfl rfl ?_
    obtain ⟨_, b4, hf⟩ := Option.bind_eq_some_iff.mp hf
    refine x_cnI hf (e_stV (Yc := YX8_value) (ci := 7) (av := [.int p0]) (st := []) dX8_categoryOf_11 q2488 mX8_value rfl (k_ok_some b4).1 (k_ok_some b4).2) mX8_value.2.2.1 mX8_value.2.2.2.2.1 (Nat.le_of_ble_eq_true rfl) (Nat.le_of_ble_eq_true rfl) (fun q hq => pX8_value (by omega) hq) (fun q5 hf => ?_)
    refine x_cnI hf (e_stSN (Yc := YX1_category) (av := [.int q5.1]) (st := []) dX8_categoryOf_14 q2697 mX1_category) mX1_category.2.2.1 mX1_category.2.2.2.2.1 (Nat.le_of_ble_eq_true rfl) (Nat.le_of_ble_eq_true rfl) (fun q hq => pX1_category (by omega) hq) (fun q6 hf => ?_)
    refine w_goto 22 dX8_categoryOf_17 (by decide) ?_
    exact (pX8_categoryOf_b22 hd hf).to trivial
abbrev cX8_pass : ByteArray := prog_4_method_66_code
def yX8_pass : MethodName := ⟨RX8, "pass", "()I"⟩
def YX8_pass : eY := (yX8_pass, cX8_pass, 3, (Option.some FieldType.int), [])
theorem mX8_pass : e_mv YX8_pass RX8 0 := ⟨q2671, qs79, q2672, by decide, by decide +kernel, (e_sig (by decide +kernel))⟩
theorem dX8_pass_0 : decode cX8_pass 0 = .ok (.iconst 0, 1) := dc_3 (by decide +kernel)
theorem dX8_pass_1 : decode cX8_pass 1 = .ok (.istore_n 1, 1) := dc_60 (by decide +kernel)
theorem dX8_pass_2 : decode cX8_pass 2 = .ok (.aload_n 0, 1) := dc_42 (by decide +kernel)
theorem dX8_pass_3 : decode cX8_pass 3 = .ok (.aload_n 0, 1) := dc_42 (by decide +kernel)
theorem dX8_pass_4 : decode cX8_pass 4 = .ok (.invokevirtual 213, 3) := dc_182 (a := 0) (b := 213) (n := 213) (by decide +kernel)
theorem dX8_pass_7 : decode cX8_pass 7 = .ok (.invokevirtual 243, 3) := dc_182 (a := 0) (b := 243) (n := 243) (by decide +kernel)
theorem dX8_pass_10 : decode cX8_pass 10 = .ok (.istore_n 2, 1) := dc_61 (by decide +kernel)
theorem dX8_pass_11 : decode cX8_pass 11 = .ok (.iload_n 1, 1) := dc_27 (by decide +kernel)
theorem dX8_pass_12 : decode cX8_pass 12 = .ok (.ifCond .ne 23, 3) := dc_154 (a := 0) (b := 23) (v := 23) (by decide +kernel)
theorem dX8_pass_15 : decode cX8_pass 15 = .ok (.iload_n 2, 1) := dc_28 (by decide +kernel)
theorem dX8_pass_16 : decode cX8_pass 16 = .ok (.bipush 19, 2) := dc_16 (a := 19) (v := 19) (by decide +kernel)
theorem dX8_pass_18 : decode cX8_pass 18 = .ok (.if_icmp .eq 15, 3) := dc_159 (a := 0) (b := 15) (v := 15) (by decide +kernel)
theorem dX8_pass_21 : decode cX8_pass 21 = .ok (.iload_n 2, 1) := dc_28 (by decide +kernel)
theorem dX8_pass_22 : decode cX8_pass 22 = .ok (.bipush 20, 2) := dc_16 (a := 20) (v := 20) (by decide +kernel)
theorem dX8_pass_24 : decode cX8_pass 24 = .ok (.if_icmp .eq 9, 3) := dc_159 (a := 0) (b := 9) (v := 9) (by decide +kernel)
theorem dX8_pass_27 : decode cX8_pass 27 = .ok (.iload_n 2, 1) := dc_28 (by decide +kernel)
theorem dX8_pass_28 : decode cX8_pass 28 = .ok (.bipush 21, 2) := dc_16 (a := 21) (v := 21) (by decide +kernel)
theorem dX8_pass_30 : decode cX8_pass 30 = .ok (.if_icmp .ne 5, 3) := dc_160 (a := 0) (b := 5) (v := 5) (by decide +kernel)
theorem dX8_pass_33 : decode cX8_pass 33 = .ok (.iload_n 2, 1) := dc_28 (by decide +kernel)
theorem dX8_pass_34 : decode cX8_pass 34 = .ok (.ireturn, 1) := dc_172 (by decide +kernel)
theorem dX8_pass_35 : decode cX8_pass 35 = .ok (.iload_n 1, 1) := dc_27 (by decide +kernel)
theorem dX8_pass_36 : decode cX8_pass 36 = .ok (.iload_n 2, 1) := dc_28 (by decide +kernel)
theorem dX8_pass_37 : decode cX8_pass 37 = .ok (.bipush 7, 2) := dc_16 (a := 7) (v := 7) (by decide +kernel)
theorem dX8_pass_39 : decode cX8_pass 39 = .ok (.if_icmp .lt 13, 3) := dc_161 (a := 0) (b := 13) (v := 13) (by decide +kernel)
theorem dX8_pass_42 : decode cX8_pass 42 = .ok (.iload_n 2, 1) := dc_28 (by decide +kernel)
theorem dX8_pass_43 : decode cX8_pass 43 = .ok (.bipush 18, 2) := dc_16 (a := 18) (v := 18) (by decide +kernel)
theorem dX8_pass_45 : decode cX8_pass 45 = .ok (.if_icmp .gt 7, 3) := dc_163 (a := 0) (b := 7) (v := 7) (by decide +kernel)
theorem dX8_pass_48 : decode cX8_pass 48 = .ok (.iconst 1, 1) := dc_4 (by decide +kernel)
theorem dX8_pass_49 : decode cX8_pass 49 = .ok (.goto 14, 3) := dc_167 (a := 0) (b := 14) (v := 14) (by decide +kernel)
theorem dX8_pass_52 : decode cX8_pass 52 = .ok (.iload_n 2, 1) := dc_28 (by decide +kernel)
theorem dX8_pass_53 : decode cX8_pass 53 = .ok (.bipush 21, 2) := dc_16 (a := 21) (v := 21) (by decide +kernel)
theorem dX8_pass_55 : decode cX8_pass 55 = .ok (.if_icmp .ne 7, 3) := dc_160 (a := 0) (b := 7) (v := 7) (by decide +kernel)
theorem dX8_pass_58 : decode cX8_pass 58 = .ok (.iconst (-1), 1) := dc_2 (by decide +kernel)
theorem dX8_pass_59 : decode cX8_pass 59 = .ok (.goto 4, 3) := dc_167 (a := 0) (b := 4) (v := 4) (by decide +kernel)
theorem dX8_pass_62 : decode cX8_pass 62 = .ok (.iconst 0, 1) := dc_3 (by decide +kernel)
theorem dX8_pass_63 : decode cX8_pass 63 = .ok (.iadd, 1) := dc_96 (by decide +kernel)
theorem dX8_pass_64 : decode cX8_pass 64 = .ok (.istore_n 1, 1) := dc_60 (by decide +kernel)
theorem dX8_pass_65 : decode cX8_pass 65 = .ok (.goto (-63), 3) := dc_167 (a := 255) (b := 193) (v := -63) (by decide +kernel)
def fX8_pass_b33 (N : Nat) (l2 : Int32) (h : eH) : Option ((Int32 ⊕ Nat) × eH) :=
  some (.inl l2, h)
theorem pX8_pass_b33 {w : eW} {d : Nat} (hd : 14 ≤ d + 1) {N : Nat} {l2 : Int32} {h : eH} {q} (hf : fX8_pass_b33 N l2 h = some q) : wp w (d + 1) YX8_pass 33 [none, none, some (.int l2)] [] h (e_is (e_rt c_I q)) := by
  unfold fX8_pass_b33 at hf
  refine w_iload_n dX8_pass_33 rfl rfl ?_
  cases hf
  exact w_iret dX8_pass_34 rfl rfl rfl
def fX8_pass_b63 (N : Nat) (k2 : Nat → Int32 → eH → Option ((Int32 ⊕ Nat) × eH)) (l0 : Nat) (s0 : Int32) (s1 : Int32) (h : eH) : Option ((Int32 ⊕ Nat) × eH) :=
  k2 l0 (s0 + s1) h
theorem pX8_pass_b63 {w : eW} {d : Nat} (hd : 14 ≤ d + 1) {N : Nat} {k2 : Nat → Int32 → eH → Option ((Int32 ⊕ Nat) × eH)} (hk2 : ∀ l0 l1 h q, k2 l0 l1 h = some q → wp w (d + 1) YX8_pass 2 [some (.ref l0), some (.int l1), none] [] h (e_is (e_rt c_I q))) {l0 : Nat} {s0 : Int32} {s1 : Int32} {h : eH} {q} (hf : fX8_pass_b63 N k2 l0 s0 s1 h = some q) : wp w (d + 1) YX8_pass 63 [some (.ref l0), none, none] [.int s1, .int s0] h (e_is (e_rt c_I q)) := by
  unfold fX8_pass_b63 at hf
  refine w_iadd dX8_pass_63 ?_
  refine w_istore_n dX8_pass_64 rfl (by decide) (ls' := [some (.ref l0), some (.int (s0 + s1)), none]) rfl ?_
  refine w_goto 2 dX8_pass_65 (by decide) ?_
  exact (hk2 _ _ _ _ hf).to ⟨rfl, rfl, trivial⟩
def fX8_pass_b52 (N : Nat) (k2 : Nat → Int32 → eH → Option ((Int32 ⊕ Nat) × eH)) (l0 : Nat) (l2 : Int32) (s0 : Int32) (h : eH) : Option ((Int32 ⊕ Nat) × eH) :=
  if ¬ l2 = (21 : Int32) then
    fX8_pass_b63 N k2 l0 s0 (0 : Int32) h
  else
    fX8_pass_b63 N k2 l0 s0 (-1 : Int32) h
theorem pX8_pass_b52 {w : eW} {d : Nat} (hd : 14 ≤ d + 1) {N : Nat} {k2 : Nat → Int32 → eH → Option ((Int32 ⊕ Nat) × eH)} (hk2 : ∀ l0 l1 h q, k2 l0 l1 h = some q → wp w (d + 1) YX8_pass 2 [some (.ref l0), some (.int l1), none] [] h (e_is (e_rt c_I q))) {l0 : Nat} {l2 : Int32} {s0 : Int32} {h : eH} {q} (hf : fX8_pass_b52 N k2 l0 l2 s0 h = some q) : wp w (d + 1) YX8_pass 52 [some (.ref l0), none, some (.int l2)] [.int s0] h (e_is (e_rt c_I q)) := by
  unfold fX8_pass_b52 at hf
  refine w_iload_n dX8_pass_52 rfl rfl ?_
  refine w_bipush dX8_pass_53 (v := 21) (by decide) ?_
  refine w_icmp_ne 62 dX8_pass_55 (by decide) (fun c1 => ?_) (fun c1 => ?_)
  · replace hf := (if_pos (show ¬ l2 = (21 : Int32) from c1)).symm.trans hf
    refine w_iconst dX8_pass_62 (v := 0) (by decide) ?_
    exact (pX8_pass_b63 hd hk2 hf).to ⟨rfl, trivial⟩
  · replace hf := (if_neg (show ¬ (¬ l2 = (21 : Int32)) from (fun z => z c1))).symm.trans hf
    refine w_iconst dX8_pass_58 (v := -1) (by decide) ?_
    refine w_goto 63 dX8_pass_59 (by decide) ?_
    exact (pX8_pass_b63 hd hk2 hf).to ⟨rfl, trivial⟩
def fX8_pass_b35 (N : Nat) (k2 : Nat → Int32 → eH → Option ((Int32 ⊕ Nat) × eH)) (l0 : Nat) (l1 : Int32) (l2 : Int32) (h : eH) : Option ((Int32 ⊕ Nat) × eH) :=
  if l2 < (7 : Int32) then
    fX8_pass_b52 N k2 l0 l2 l1 h
  else
    if (18 : Int32) < l2 then
      fX8_pass_b52 N k2 l0 l2 l1 h
    else
      fX8_pass_b63 N k2 l0 l1 (1 : Int32) h
theorem pX8_pass_b35 {w : eW} {d : Nat} (hd : 14 ≤ d + 1) {N : Nat} {k2 : Nat → Int32 → eH → Option ((Int32 ⊕ Nat) × eH)} (hk2 : ∀ l0 l1 h q, k2 l0 l1 h = some q → wp w (d + 1) YX8_pass 2 [some (.ref l0), some (.int l1), none] [] h (e_is (e_rt c_I q))) {l0 : Nat} {l1 : Int32} {l2 : Int32} {h : eH} {q} (hf : fX8_pass_b35 N k2 l0 l1 l2 h = some q) : wp w (d + 1) YX8_pass 35 [some (.ref l0), some (.int l1), some (.int l2)] [] h (e_is (e_rt c_I q)) := by
  unfold fX8_pass_b35 at hf
  refine w_iload_n dX8_pass_35 rfl rfl ?_
  refine w_iload_n dX8_pass_36 rfl rfl ?_
  refine w_bipush dX8_pass_37 (v := 7) (by decide) ?_
  refine w_icmp_lt 52 dX8_pass_39 (by decide) (fun c1 => ?_) (fun c1 => ?_)
  · replace hf := (if_pos (show l2 < (7 : Int32) from c1)).symm.trans hf
    exact (pX8_pass_b52 hd hk2 hf).to ⟨rfl, rfl, trivial⟩
  · replace hf := (if_neg (show ¬ (l2 < (7 : Int32)) from c1)).symm.trans hf
    refine w_iload_n dX8_pass_42 rfl rfl ?_
    refine w_bipush dX8_pass_43 (v := 18) (by decide) ?_
    refine w_icmp_gt 52 dX8_pass_45 (by decide) (fun c2 => ?_) (fun c2 => ?_)
    · replace hf := (if_pos (show (18 : Int32) < l2 from c2)).symm.trans hf
      exact (pX8_pass_b52 hd hk2 hf).to ⟨rfl, rfl, trivial⟩
    · replace hf := (if_neg (show ¬ ((18 : Int32) < l2) from c2)).symm.trans hf
      refine w_iconst dX8_pass_48 (v := 1) (by decide) ?_
      refine w_goto 63 dX8_pass_49 (by decide) ?_
      exact (pX8_pass_b63 hd hk2 hf).to ⟨rfl, trivial⟩
def fX8_pass_b2 (N : Nat) : Nat → Nat → Int32 → eH → Option ((Int32 ⊕ Nat) × eH)
  | 0, _, _, _ => none
  | n + 1, l0, l1, h =>
    (k_ok 7 h l0).bind fun _ =>
    t_B (fX8_need N l0 h) fun x2 h3 =>
    (k_ok 7 h3 l0).bind fun _ =>
    (fX8_primitive l0 x2 h3).bind fun q5 =>
    if ¬ l1 = 0 then
      fX8_pass_b35 N (fX8_pass_b2 N n) l0 l1 q5.1 q5.2
    else
      if q5.1 = (19 : Int32) then
        fX8_pass_b33 N q5.1 q5.2
      else
        if q5.1 = (20 : Int32) then
          fX8_pass_b33 N q5.1 q5.2
        else
          if ¬ q5.1 = (21 : Int32) then
            fX8_pass_b35 N (fX8_pass_b2 N n) l0 l1 q5.1 q5.2
          else
            fX8_pass_b33 N q5.1 q5.2
theorem pX8_pass_b2 {w : eW} {d : Nat} (hd : 14 ≤ d + 1) {N : Nat} : ∀ (n : Nat) l0 l1 h q, fX8_pass_b2 N n l0 l1 h = some q → wp w (d + 1) YX8_pass 2 [some (.ref l0), some (.int l1), none] [] h (e_is (e_rt c_I q)) := by
  intro n
  induction n with
  | zero => intro l0 l1 h q hf; simp [fX8_pass_b2] at hf
  | succ n ih =>
    intro l0 l1 h q hf
    rw [fX8_pass_b2] at hf
    refine w_aload_n dX8_pass_2 rfl rfl ?_
    refine w_aload_n dX8_pass_3 rfl rfl ?_
    obtain ⟨_, b1, hf⟩ := Option.bind_eq_some_iff.mp hf
    refine x_ctI hf (e_stV (Yc := YX8_need) (ci := 7) (av := []) (st := [.ref l0]) dX8_pass_4 q2506 mX8_need rfl (k_ok_some b1).1 (k_ok_some b1).2) mX8_need.2.2.1 mX8_need.2.2.2.2.1 (Nat.le_of_ble_eq_true rfl) (Nat.le_of_ble_eq_true rfl) rfl (fun q hq => pX8_need (by omega) hq) (fun x2 h3 hf => ?_)
    obtain ⟨_, b4, hf⟩ := Option.bind_eq_some_iff.mp hf
    refine x_cnI hf (e_stV (Yc := YX8_primitive) (ci := 7) (av := [.int x2]) (st := []) dX8_pass_7 q2568 mX8_primitive rfl (k_ok_some b4).1 (k_ok_some b4).2) mX8_primitive.2.2.1 mX8_primitive.2.2.2.2.1 (Nat.le_of_ble_eq_true rfl) (Nat.le_of_ble_eq_true rfl) (fun q hq => pX8_primitive (by omega) hq) (fun q5 hf => ?_)
    refine w_istore_n dX8_pass_10 rfl (by decide) (ls' := [some (.ref l0), some (.int l1), some (.int q5.1)]) rfl ?_
    refine w_iload_n dX8_pass_11 rfl rfl ?_
    refine w_if_ne 35 dX8_pass_12 (by decide) (fun c6 => ?_) (fun c6 => ?_)
    · replace hf := (if_pos (show ¬ l1 = 0 from c6)).symm.trans hf
      exact (pX8_pass_b35 hd ih hf).to ⟨rfl, rfl, rfl, trivial⟩
    · replace hf := (if_neg (show ¬ (¬ l1 = 0) from (fun z => z c6))).symm.trans hf
      refine w_iload_n dX8_pass_15 rfl rfl ?_
      refine w_bipush dX8_pass_16 (v := 19) (by decide) ?_
      refine w_icmp_eq 33 dX8_pass_18 (by decide) (fun c7 => ?_) (fun c7 => ?_)
      · replace hf := (if_pos (show q5.1 = (19 : Int32) from c7)).symm.trans hf
        exact (pX8_pass_b33 hd hf).to ⟨rfl, trivial⟩
      · replace hf := (if_neg (show ¬ (q5.1 = (19 : Int32)) from c7)).symm.trans hf
        refine w_iload_n dX8_pass_21 rfl rfl ?_
        refine w_bipush dX8_pass_22 (v := 20) (by decide) ?_
        refine w_icmp_eq 33 dX8_pass_24 (by decide) (fun c8 => ?_) (fun c8 => ?_)
        · replace hf := (if_pos (show q5.1 = (20 : Int32) from c8)).symm.trans hf
          exact (pX8_pass_b33 hd hf).to ⟨rfl, trivial⟩
        · replace hf := (if_neg (show ¬ (q5.1 = (20 : Int32)) from c8)).symm.trans hf
          refine w_iload_n dX8_pass_27 rfl rfl ?_
          refine w_bipush dX8_pass_28 (v := 21) (by decide) ?_
          refine w_icmp_ne 35 dX8_pass_30 (by decide) (fun c9 => ?_) (fun c9 => ?_)
          · replace hf := (if_pos (show ¬ q5.1 = (21 : Int32) from c9)).symm.trans hf
            exact (pX8_pass_b35 hd ih hf).to ⟨rfl, rfl, rfl, trivial⟩
          · replace hf := (if_neg (show ¬ (¬ q5.1 = (21 : Int32)) from (fun z => z c9))).symm.trans hf
            exact (pX8_pass_b33 hd hf).to ⟨rfl, trivial⟩
def fX8_pass (N : Nat) (this : Nat) (h : eH) : Option ((Int32 ⊕ Nat) × eH) :=
  fX8_pass_b2 N N this (0 : Int32) h
theorem pX8_pass {w : eW} {d : Nat} (hd : 14 ≤ d) {N : Nat} {this : Nat} {h : eH} {q} (hf : fX8_pass N this h = some q) : wm w d YX8_pass [.ref this] h (e_is (e_rt c_I q)) := by
  obtain ⟨d, rfl⟩ : ∃ e, d = e + 1 := ⟨d - 1, by omega⟩
  show wp w (d + 1) YX8_pass 0 [some (.ref this), none, none] [] h _
  unfold fX8_pass at hf
  refine w_iconst dX8_pass_0 (v := 0) (by decide) ?_
  refine w_istore_n dX8_pass_1 rfl (by decide) (ls' := [some (.ref this), some (.int (0 : Int32)), none]) rfl ?_
  exact (pX8_pass_b2 hd N _ _ _ _ hf).to ⟨rfl, rfl, trivial⟩
abbrev cX8_passOwn : ByteArray := prog_4_method_68_code
def yX8_passOwn : MethodName := ⟨RX8, "passOwn", "(I)I"⟩
def YX8_passOwn : eY := (yX8_passOwn, cX8_passOwn, 3, (Option.some FieldType.int), [])
theorem mX8_passOwn : e_mv YX8_passOwn RX8 1 := ⟨q2683, qs82, q2684, by decide, by decide +kernel, (e_sig (by decide +kernel))⟩
theorem dX8_passOwn_0 : decode cX8_passOwn 0 = .ok (.aload_n 0, 1) := dc_42 (by decide +kernel)
theorem dX8_passOwn_1 : decode cX8_passOwn 1 = .ok (.invokevirtual 536, 3) := dc_182 (a := 2) (b := 24) (n := 536) (by decide +kernel)
theorem dX8_passOwn_4 : decode cX8_passOwn 4 = .ok (.istore_n 2, 1) := dc_61 (by decide +kernel)
theorem dX8_passOwn_5 : decode cX8_passOwn 5 = .ok (.aload_n 0, 1) := dc_42 (by decide +kernel)
theorem dX8_passOwn_6 : decode cX8_passOwn 6 = .ok (.getfield 128, 3) := dc_180 (a := 0) (b := 128) (n := 128) (by decide +kernel)
theorem dX8_passOwn_9 : decode cX8_passOwn 9 = .ok (.iload_n 1, 1) := dc_27 (by decide +kernel)
theorem dX8_passOwn_10 : decode cX8_passOwn 10 = .ok (.iconst 1, 1) := dc_4 (by decide +kernel)
theorem dX8_passOwn_11 : decode cX8_passOwn 11 = .ok (.iadd, 1) := dc_96 (by decide +kernel)
theorem dX8_passOwn_12 : decode cX8_passOwn 12 = .ok (.if_icmp .le 31, 3) := dc_164 (a := 0) (b := 31) (v := 31) (by decide +kernel)
theorem dX8_passOwn_15 : decode cX8_passOwn 15 = .ok (.aload_n 0, 1) := dc_42 (by decide +kernel)
theorem dX8_passOwn_16 : decode cX8_passOwn 16 = .ok (.dup, 1) := dc_89 (by decide +kernel)
theorem dX8_passOwn_17 : decode cX8_passOwn 17 = .ok (.getfield 128, 3) := dc_180 (a := 0) (b := 128) (n := 128) (by decide +kernel)
theorem dX8_passOwn_20 : decode cX8_passOwn 20 = .ok (.iload_n 2, 1) := dc_28 (by decide +kernel)
theorem dX8_passOwn_21 : decode cX8_passOwn 21 = .ok (.bipush 21, 2) := dc_16 (a := 21) (v := 21) (by decide +kernel)
theorem dX8_passOwn_23 : decode cX8_passOwn 23 = .ok (.if_icmp .ne 7, 3) := dc_160 (a := 0) (b := 7) (v := 7) (by decide +kernel)
theorem dX8_passOwn_26 : decode cX8_passOwn 26 = .ok (.iconst 1, 1) := dc_4 (by decide +kernel)
theorem dX8_passOwn_27 : decode cX8_passOwn 27 = .ok (.goto 4, 3) := dc_167 (a := 0) (b := 4) (v := 4) (by decide +kernel)
theorem dX8_passOwn_30 : decode cX8_passOwn 30 = .ok (.iconst 0, 1) := dc_3 (by decide +kernel)
theorem dX8_passOwn_31 : decode cX8_passOwn 31 = .ok (.isub, 1) := dc_100 (by decide +kernel)
theorem dX8_passOwn_32 : decode cX8_passOwn 32 = .ok (.putfield 128, 3) := dc_181 (a := 0) (b := 128) (n := 128) (by decide +kernel)
theorem dX8_passOwn_35 : decode cX8_passOwn 35 = .ok (.aload_n 0, 1) := dc_42 (by decide +kernel)
theorem dX8_passOwn_36 : decode cX8_passOwn 36 = .ok (.invokevirtual 536, 3) := dc_182 (a := 2) (b := 24) (n := 536) (by decide +kernel)
theorem dX8_passOwn_39 : decode cX8_passOwn 39 = .ok (.istore_n 2, 1) := dc_61 (by decide +kernel)
theorem dX8_passOwn_40 : decode cX8_passOwn 40 = .ok (.goto (-35), 3) := dc_167 (a := 255) (b := 221) (v := -35) (by decide +kernel)
theorem dX8_passOwn_43 : decode cX8_passOwn 43 = .ok (.iload_n 2, 1) := dc_28 (by decide +kernel)
theorem dX8_passOwn_44 : decode cX8_passOwn 44 = .ok (.ireturn, 1) := dc_172 (by decide +kernel)
theorem GX8_128 {w : eW} {d : Nat} {Y : eY} {pc : Nat} {ls : eL} {st : List Value} {h : eH} {Q : eO → eH → Prop} {a : Nat} {x : Int32} (hf : g_I 7 h a 15 = some x) (hd : decode Y.2.1 pc = .ok (.getfield 128, 3)) (hY : Y.1.cls = RX8) (kk : wp w d Y (pc + 3) ls (.int x :: st) h Q) : wp w d Y pc ls (.ref a :: st) h Q := x_gI (ci := 7) (k := 15) hf hd rfl (by decide) (by rw [hY]; exact q852) kk
def fX8_passOwn_b31 (N : Nat) (k5 : Nat → Int32 → Int32 → eH → Option ((Int32 ⊕ Nat) × eH)) (l0 : Nat) (l1 : Int32) (s0 : Nat) (s1 : Int32) (s2 : Int32) (h : eH) : Option ((Int32 ⊕ Nat) × eH) :=
  (p_V 7 h s0 15 (.int (s1 - s2))).bind fun h1 =>
  (k_ok 7 h1 l0).bind fun _ =>
  t_B (fX8_pass N l0 h1) fun x4 h5 =>
  k5 l0 l1 x4 h5
theorem pX8_passOwn_b31 {w : eW} {d : Nat} (hd : 15 ≤ d + 1) {N : Nat} {k5 : Nat → Int32 → Int32 → eH → Option ((Int32 ⊕ Nat) × eH)} (hk5 : ∀ l0 l1 l2 h q, k5 l0 l1 l2 h = some q → wp w (d + 1) YX8_passOwn 5 [some (.ref l0), some (.int l1), some (.int l2)] [] h (e_is (e_rt c_I q))) {l0 : Nat} {l1 : Int32} {s0 : Nat} {s1 : Int32} {s2 : Int32} {h : eH} {q} (hf : fX8_passOwn_b31 N k5 l0 l1 s0 s1 s2 h = some q) : wp w (d + 1) YX8_passOwn 31 [some (.ref l0), some (.int l1), none] [.int s2, .int s1, .ref s0] h (e_is (e_rt c_I q)) := by
  unfold fX8_passOwn_b31 at hf
  refine w_isub dX8_passOwn_31 ?_
  obtain ⟨h1, b2, hf⟩ := Option.bind_eq_some_iff.mp hf
  refine SX8_128 b2 dX8_passOwn_32 rfl ?_
  refine w_aload_n dX8_passOwn_35 rfl rfl ?_
  obtain ⟨_, b3, hf⟩ := Option.bind_eq_some_iff.mp hf
  refine x_ctI hf (e_stV (Yc := YX8_pass) (ci := 7) (av := []) (st := []) dX8_passOwn_36 q2669 mX8_pass rfl (k_ok_some b3).1 (k_ok_some b3).2) mX8_pass.2.2.1 mX8_pass.2.2.2.2.1 (Nat.le_of_ble_eq_true rfl) (Nat.le_of_ble_eq_true rfl) rfl (fun q hq => pX8_pass (by omega) hq) (fun x4 h5 hf => ?_)
  refine w_istore_n dX8_passOwn_39 rfl (by decide) (ls' := [some (.ref l0), some (.int l1), some (.int x4)]) rfl ?_
  refine w_goto 5 dX8_passOwn_40 (by decide) ?_
  exact (hk5 _ _ _ _ _ hf).to ⟨rfl, rfl, rfl, trivial⟩
def fX8_passOwn_b5 (N : Nat) : Nat → Nat → Int32 → Int32 → eH → Option ((Int32 ⊕ Nat) × eH)
  | 0, _, _, _, _ => none
  | n + 1, l0, l1, l2, h =>
    (g_I 7 h l0 15).bind fun x1 =>
    if x1 ≤ (l1 + (1 : Int32)) then
      some (.inl l2, h)
    else
      (g_I 7 h l0 15).bind fun x4 =>
      if ¬ l2 = (21 : Int32) then
        fX8_passOwn_b31 N (fX8_passOwn_b5 N n) l0 l1 l0 x4 (0 : Int32) h
      else
        fX8_passOwn_b31 N (fX8_passOwn_b5 N n) l0 l1 l0 x4 (1 : Int32) h
theorem pX8_passOwn_b5 {w : eW} {d : Nat} (hd : 15 ≤ d + 1) {N : Nat} : ∀ (n : Nat) l0 l1 l2 h q, fX8_passOwn_b5 N n l0 l1 l2 h = some q → wp w (d + 1) YX8_passOwn 5 [some (.ref l0), some (.int l1), some (.int l2)] [] h (e_is (e_rt c_I q)) := by
  intro n
  induction n with
  | zero => intro l0 l1 l2 h q hf; simp [fX8_passOwn_b5] at hf
  | succ n ih =>
    intro l0 l1 l2 h q hf
    rw [fX8_passOwn_b5] at hf
    refine w_aload_n dX8_passOwn_5 rfl rfl ?_
    obtain ⟨x1, b2, hf⟩ := Option.bind_eq_some_iff.mp hf
    refine GX8_128 b2 dX8_passOwn_6 rfl ?_
    refine w_iload_n dX8_passOwn_9 rfl rfl ?_
    refine w_iconst dX8_passOwn_10 (v := 1) (by decide) ?_
    refine w_iadd dX8_passOwn_11 ?_
    refine w_icmp_le 43 dX8_passOwn_12 (by decide) (fun c3 => ?_) (fun c3 => ?_)
    · replace hf := (if_pos (show x1 ≤ (l1 + (1 : Int32)) from c3)).symm.trans hf
      refine w_iload_n dX8_passOwn_43 rfl rfl ?_
      cases hf
      exact w_iret dX8_passOwn_44 rfl rfl rfl
    · replace hf := (if_neg (show ¬ (x1 ≤ (l1 + (1 : Int32))) from c3)).symm.trans hf
      refine w_aload_n dX8_passOwn_15 rfl rfl ?_
      refine w_dup dX8_passOwn_16 rfl ?_
      obtain ⟨x4, b5, hf⟩ := Option.bind_eq_some_iff.mp hf
      refine GX8_128 b5 dX8_passOwn_17 rfl ?_
      refine w_iload_n dX8_passOwn_20 rfl rfl ?_
      refine w_bipush dX8_passOwn_21 (v := 21) (by decide) ?_
      refine w_icmp_ne 30 dX8_passOwn_23 (by decide) (fun c6 => ?_) (fun c6 => ?_)
      · replace hf := (if_pos (show ¬ l2 = (21 : Int32) from c6)).symm.trans hf
        refine w_iconst dX8_passOwn_30 (v := 0) (by decide) ?_
        exact (pX8_passOwn_b31 hd ih hf).to ⟨rfl, rfl, trivial⟩
      · replace hf := (if_neg (show ¬ (¬ l2 = (21 : Int32)) from (fun z => z c6))).symm.trans hf
        refine w_iconst dX8_passOwn_26 (v := 1) (by decide) ?_
        refine w_goto 31 dX8_passOwn_27 (by decide) ?_
        exact (pX8_passOwn_b31 hd ih hf).to ⟨rfl, rfl, trivial⟩
def fX8_passOwn (N : Nat) (this : Nat) (p0 : Int32) (h : eH) : Option ((Int32 ⊕ Nat) × eH) :=
  (k_ok 7 h this).bind fun _ =>
  t_B (fX8_pass N this h) fun x2 h3 =>
  fX8_passOwn_b5 N N this p0 x2 h3
theorem pX8_passOwn {w : eW} {d : Nat} (hd : 15 ≤ d) {N : Nat} {this : Nat} {p0 : Int32} {h : eH} {q} (hf : fX8_passOwn N this p0 h = some q) : wm w d YX8_passOwn [.ref this, .int p0] h (e_is (e_rt c_I q)) := by
  obtain ⟨d, rfl⟩ : ∃ e, d = e + 1 := ⟨d - 1, by omega⟩
  show wp w (d + 1) YX8_passOwn 0 [some (.ref this), some (.int p0), none] [] h _
  unfold fX8_passOwn at hf
  refine w_aload_n dX8_passOwn_0 rfl rfl ?_
  obtain ⟨_, b1, hf⟩ := Option.bind_eq_some_iff.mp hf
  refine x_ctI hf (e_stV (Yc := YX8_pass) (ci := 7) (av := []) (st := []) dX8_passOwn_1 q2669 mX8_pass rfl (k_ok_some b1).1 (k_ok_some b1).2) mX8_pass.2.2.1 mX8_pass.2.2.2.2.1 (Nat.le_of_ble_eq_true rfl) (Nat.le_of_ble_eq_true rfl) rfl (fun q hq => pX8_pass (by omega) hq) (fun x2 h3 hf => ?_)
  refine w_istore_n dX8_passOwn_4 rfl (by decide) (ls' := [some (.ref this), some (.int p0), some (.int x2)]) rfl ?_
  exact (pX8_passOwn_b5 hd N _ _ _ _ _ hf).to ⟨rfl, rfl, rfl, trivial⟩
abbrev cX8_chooseCase : ByteArray := prog_4_method_69_code
def yX8_chooseCase : MethodName := ⟨RX8, "chooseCase", "(II)V"⟩
def YX8_chooseCase : eY := (yX8_chooseCase, cX8_chooseCase, 5, none, [])
theorem mX8_chooseCase : e_mv YX8_chooseCase RX8 2 := ⟨q2679, qs81, q2680, by decide, by decide +kernel, (e_sig (by decide +kernel))⟩
theorem dX8_chooseCase_0 : decode cX8_chooseCase 0 = .ok (.aload_n 0, 1) := dc_42 (by decide +kernel)
theorem dX8_chooseCase_1 : decode cX8_chooseCase 1 = .ok (.getfield 18, 3) := dc_180 (a := 0) (b := 18) (n := 18) (by decide +kernel)
theorem dX8_chooseCase_4 : decode cX8_chooseCase 4 = .ok (.iload_n 1, 1) := dc_27 (by decide +kernel)
theorem dX8_chooseCase_5 : decode cX8_chooseCase 5 = .ok (.iconst 1, 1) := dc_4 (by decide +kernel)
theorem dX8_chooseCase_6 : decode cX8_chooseCase 6 = .ok (.bastore, 1) := dc_84 (by decide +kernel)
theorem dX8_chooseCase_7 : decode cX8_chooseCase 7 = .ok (.iload_n 2, 1) := dc_28 (by decide +kernel)
theorem dX8_chooseCase_8 : decode cX8_chooseCase 8 = .ok (.istore_n 3, 1) := dc_62 (by decide +kernel)
theorem dX8_chooseCase_9 : decode cX8_chooseCase 9 = .ok (.bipush 20, 2) := dc_16 (a := 20) (v := 20) (by decide +kernel)
theorem dX8_chooseCase_11 : decode cX8_chooseCase 11 = .ok (.istore 4, 2) := dc_54 (a := 4) (by decide +kernel)
theorem dX8_chooseCase_13 : decode cX8_chooseCase 13 = .ok (.iload_n 3, 1) := dc_29 (by decide +kernel)
theorem dX8_chooseCase_14 : decode cX8_chooseCase 14 = .ok (.ifCond .eq 39, 3) := dc_153 (a := 0) (b := 39) (v := 39) (by decide +kernel)
theorem dX8_chooseCase_17 : decode cX8_chooseCase 17 = .ok (.iload 4, 2) := dc_21 (a := 4) (by decide +kernel)
theorem dX8_chooseCase_19 : decode cX8_chooseCase 19 = .ok (.bipush 20, 2) := dc_16 (a := 20) (v := 20) (by decide +kernel)
theorem dX8_chooseCase_21 : decode cX8_chooseCase 21 = .ok (.if_icmp .ne 32, 3) := dc_160 (a := 0) (b := 32) (v := 32) (by decide +kernel)
theorem dX8_chooseCase_24 : decode cX8_chooseCase 24 = .ok (.aload_n 0, 1) := dc_42 (by decide +kernel)
theorem dX8_chooseCase_25 : decode cX8_chooseCase 25 = .ok (.iload_n 1, 1) := dc_27 (by decide +kernel)
theorem dX8_chooseCase_26 : decode cX8_chooseCase 26 = .ok (.invokevirtual 545, 3) := dc_182 (a := 2) (b := 33) (n := 545) (by decide +kernel)
theorem dX8_chooseCase_29 : decode cX8_chooseCase 29 = .ok (.istore 4, 2) := dc_54 (a := 4) (by decide +kernel)
theorem dX8_chooseCase_31 : decode cX8_chooseCase 31 = .ok (.iload_n 3, 1) := dc_29 (by decide +kernel)
theorem dX8_chooseCase_32 : decode cX8_chooseCase 32 = .ok (.iload 4, 2) := dc_21 (a := 4) (by decide +kernel)
theorem dX8_chooseCase_34 : decode cX8_chooseCase 34 = .ok (.bipush 20, 2) := dc_16 (a := 20) (v := 20) (by decide +kernel)
theorem dX8_chooseCase_36 : decode cX8_chooseCase 36 = .ok (.if_icmp .ne 11, 3) := dc_160 (a := 0) (b := 11) (v := 11) (by decide +kernel)
theorem dX8_chooseCase_39 : decode cX8_chooseCase 39 = .ok (.iload_n 3, 1) := dc_29 (by decide +kernel)
theorem dX8_chooseCase_40 : decode cX8_chooseCase 40 = .ok (.ifCond .le 7, 3) := dc_158 (a := 0) (b := 7) (v := 7) (by decide +kernel)
theorem dX8_chooseCase_43 : decode cX8_chooseCase 43 = .ok (.iconst 1, 1) := dc_4 (by decide +kernel)
theorem dX8_chooseCase_44 : decode cX8_chooseCase 44 = .ok (.goto 4, 3) := dc_167 (a := 0) (b := 4) (v := 4) (by decide +kernel)
theorem dX8_chooseCase_47 : decode cX8_chooseCase 47 = .ok (.iconst 0, 1) := dc_3 (by decide +kernel)
theorem dX8_chooseCase_48 : decode cX8_chooseCase 48 = .ok (.isub, 1) := dc_100 (by decide +kernel)
theorem dX8_chooseCase_49 : decode cX8_chooseCase 49 = .ok (.istore_n 3, 1) := dc_62 (by decide +kernel)
theorem dX8_chooseCase_50 : decode cX8_chooseCase 50 = .ok (.goto (-37), 3) := dc_167 (a := 255) (b := 219) (v := -37) (by decide +kernel)
theorem dX8_chooseCase_53 : decode cX8_chooseCase 53 = .ok (.aload_n 0, 1) := dc_42 (by decide +kernel)
theorem dX8_chooseCase_54 : decode cX8_chooseCase 54 = .ok (.getfield 25, 3) := dc_180 (a := 0) (b := 25) (n := 25) (by decide +kernel)
theorem dX8_chooseCase_57 : decode cX8_chooseCase 57 = .ok (.iload_n 1, 1) := dc_27 (by decide +kernel)
theorem dX8_chooseCase_58 : decode cX8_chooseCase 58 = .ok (.iload 4, 2) := dc_21 (a := 4) (by decide +kernel)
theorem dX8_chooseCase_60 : decode cX8_chooseCase 60 = .ok (.bipush 19, 2) := dc_16 (a := 19) (v := 19) (by decide +kernel)
theorem dX8_chooseCase_62 : decode cX8_chooseCase 62 = .ok (.if_icmp .ne 7, 3) := dc_160 (a := 0) (b := 7) (v := 7) (by decide +kernel)
theorem dX8_chooseCase_65 : decode cX8_chooseCase 65 = .ok (.iconst 1, 1) := dc_4 (by decide +kernel)
theorem dX8_chooseCase_66 : decode cX8_chooseCase 66 = .ok (.goto 4, 3) := dc_167 (a := 0) (b := 4) (v := 4) (by decide +kernel)
theorem dX8_chooseCase_69 : decode cX8_chooseCase 69 = .ok (.iconst 0, 1) := dc_3 (by decide +kernel)
theorem dX8_chooseCase_70 : decode cX8_chooseCase 70 = .ok (.bastore, 1) := dc_84 (by decide +kernel)
theorem dX8_chooseCase_71 : decode cX8_chooseCase 71 = .ok (.iload 4, 2) := dc_21 (a := 4) (by decide +kernel)
theorem dX8_chooseCase_73 : decode cX8_chooseCase 73 = .ok (.bipush 21, 2) := dc_16 (a := 21) (v := 21) (by decide +kernel)
theorem dX8_chooseCase_75 : decode cX8_chooseCase 75 = .ok (.if_icmp .ne 13, 3) := dc_160 (a := 0) (b := 13) (v := 13) (by decide +kernel)
theorem dX8_chooseCase_78 : decode cX8_chooseCase 78 = .ok (.aload_n 0, 1) := dc_42 (by decide +kernel)
theorem dX8_chooseCase_79 : decode cX8_chooseCase 79 = .ok (.dup, 1) := dc_89 (by decide +kernel)
theorem dX8_chooseCase_80 : decode cX8_chooseCase 80 = .ok (.getfield 128, 3) := dc_180 (a := 0) (b := 128) (n := 128) (by decide +kernel)
theorem dX8_chooseCase_83 : decode cX8_chooseCase 83 = .ok (.iconst 1, 1) := dc_4 (by decide +kernel)
theorem dX8_chooseCase_84 : decode cX8_chooseCase 84 = .ok (.isub, 1) := dc_100 (by decide +kernel)
theorem dX8_chooseCase_85 : decode cX8_chooseCase 85 = .ok (.putfield 128, 3) := dc_181 (a := 0) (b := 128) (n := 128) (by decide +kernel)
theorem dX8_chooseCase_88 : decode cX8_chooseCase 88 = .ok (.return_, 1) := dc_177 (by decide +kernel)
theorem GX8_18 {w : eW} {d : Nat} {Y : eY} {pc : Nat} {ls : eL} {st : List Value} {h : eH} {Q : eO → eH → Prop} {a : Nat} {x : Nat} (hf : g_A 7 h a 12 = some x) (hd : decode Y.2.1 pc = .ok (.getfield 18, 3)) (hY : Y.1.cls = RX8) (kk : wp w d Y (pc + 3) ls (.ref x :: st) h Q) : wp w d Y pc ls (.ref a :: st) h Q := x_gA (ci := 7) (k := 12) hf hd rfl (by decide) (by rw [hY]; exact q849) kk
theorem GX8_25 {w : eW} {d : Nat} {Y : eY} {pc : Nat} {ls : eL} {st : List Value} {h : eH} {Q : eO → eH → Prop} {a : Nat} {x : Nat} (hf : g_A 7 h a 14 = some x) (hd : decode Y.2.1 pc = .ok (.getfield 25, 3)) (hY : Y.1.cls = RX8) (kk : wp w d Y (pc + 3) ls (.ref x :: st) h Q) : wp w d Y pc ls (.ref a :: st) h Q := x_gA (ci := 7) (k := 14) hf hd rfl (by decide) (by rw [hY]; exact q851) kk
def fX8_chooseCase_b48 (N : Nat) (k13 : Nat → Int32 → Int32 → Int32 → eH → Option ((Unit ⊕ Nat) × eH)) (l0 : Nat) (l1 : Int32) (l4 : Int32) (s0 : Int32) (s1 : Int32) (h : eH) : Option ((Unit ⊕ Nat) × eH) :=
  k13 l0 l1 (s0 - s1) l4 h
theorem pX8_chooseCase_b48 {w : eW} {d : Nat} (hd : 16 ≤ d + 1) {N : Nat} {k13 : Nat → Int32 → Int32 → Int32 → eH → Option ((Unit ⊕ Nat) × eH)} (hk13 : ∀ l0 l1 l3 l4 h q, k13 l0 l1 l3 l4 h = some q → wp w (d + 1) YX8_chooseCase 13 [some (.ref l0), some (.int l1), none, some (.int l3), some (.int l4)] [] h (e_is (e_rt c_V q))) {l0 : Nat} {l1 : Int32} {l4 : Int32} {s0 : Int32} {s1 : Int32} {h : eH} {q} (hf : fX8_chooseCase_b48 N k13 l0 l1 l4 s0 s1 h = some q) : wp w (d + 1) YX8_chooseCase 48 [some (.ref l0), some (.int l1), none, none, some (.int l4)] [.int s1, .int s0] h (e_is (e_rt c_V q)) := by
  unfold fX8_chooseCase_b48 at hf
  refine w_isub dX8_chooseCase_48 ?_
  refine w_istore_n dX8_chooseCase_49 rfl (by decide) (ls' := [some (.ref l0), some (.int l1), none, some (.int (s0 - s1)), some (.int l4)]) rfl ?_
  refine w_goto 13 dX8_chooseCase_50 (by decide) ?_
  exact (hk13 _ _ _ _ _ _ hf).to ⟨rfl, rfl, rfl, rfl, trivial⟩
def fX8_chooseCase_b47 (N : Nat) (k13 : Nat → Int32 → Int32 → Int32 → eH → Option ((Unit ⊕ Nat) × eH)) (l0 : Nat) (l1 : Int32) (l4 : Int32) (s0 : Int32) (h : eH) : Option ((Unit ⊕ Nat) × eH) :=
  fX8_chooseCase_b48 N k13 l0 l1 l4 s0 (0 : Int32) h
theorem pX8_chooseCase_b47 {w : eW} {d : Nat} (hd : 16 ≤ d + 1) {N : Nat} {k13 : Nat → Int32 → Int32 → Int32 → eH → Option ((Unit ⊕ Nat) × eH)} (hk13 : ∀ l0 l1 l3 l4 h q, k13 l0 l1 l3 l4 h = some q → wp w (d + 1) YX8_chooseCase 13 [some (.ref l0), some (.int l1), none, some (.int l3), some (.int l4)] [] h (e_is (e_rt c_V q))) {l0 : Nat} {l1 : Int32} {l4 : Int32} {s0 : Int32} {h : eH} {q} (hf : fX8_chooseCase_b47 N k13 l0 l1 l4 s0 h = some q) : wp w (d + 1) YX8_chooseCase 47 [some (.ref l0), some (.int l1), none, none, some (.int l4)] [.int s0] h (e_is (e_rt c_V q)) := by
  unfold fX8_chooseCase_b47 at hf
  refine w_iconst dX8_chooseCase_47 (v := 0) (by decide) ?_
  exact (pX8_chooseCase_b48 hd hk13 hf).to ⟨rfl, rfl, rfl, trivial⟩
def fX8_chooseCase_b88 (N : Nat)  (h : eH) : Option ((Unit ⊕ Nat) × eH) :=
  some (.inl (), h)
theorem pX8_chooseCase_b88 {w : eW} {d : Nat} (hd : 16 ≤ d + 1) {N : Nat}  {h : eH} {q} (hf : fX8_chooseCase_b88 N h = some q) : wp w (d + 1) YX8_chooseCase 88 [none, none, none, none, none] [] h (e_is (e_rt c_V q)) := by
  unfold fX8_chooseCase_b88 at hf
  cases hf
  exact w_vret dX8_chooseCase_88 rfl rfl
def fX8_chooseCase_b70 (N : Nat) (l0 : Nat) (l4 : Int32) (s0 : Nat) (s1 : Int32) (s2 : Int32) (h : eH) : Option ((Unit ⊕ Nat) × eH) :=
  (q_V 103 h s0 s1 (.int (s2 &&& 1))).bind fun h1 =>
  if ¬ l4 = (21 : Int32) then
    fX8_chooseCase_b88 N h1
  else
    (g_I 7 h1 l0 15).bind fun x4 =>
    (p_V 7 h1 l0 15 (.int (x4 - (1 : Int32)))).bind fun h6 =>
    fX8_chooseCase_b88 N h6
theorem pX8_chooseCase_b70 {w : eW} {d : Nat} (hd : 16 ≤ d + 1) {N : Nat} {l0 : Nat} {l4 : Int32} {s0 : Nat} {s1 : Int32} {s2 : Int32} {h : eH} {q} (hf : fX8_chooseCase_b70 N l0 l4 s0 s1 s2 h = some q) : wp w (d + 1) YX8_chooseCase 70 [some (.ref l0), none, none, none, some (.int l4)] [.int s2, .int s1, .ref s0] h (e_is (e_rt c_V q)) := by
  unfold fX8_chooseCase_b70 at hf
  obtain ⟨h1, b2, hf⟩ := Option.bind_eq_some_iff.mp hf
  refine x_qZ b2 dX8_chooseCase_70 ?_
  refine w_iload dX8_chooseCase_71 rfl ?_
  refine w_bipush dX8_chooseCase_73 (v := 21) (by decide) ?_
  refine w_icmp_ne 88 dX8_chooseCase_75 (by decide) (fun c3 => ?_) (fun c3 => ?_)
  · replace hf := (if_pos (show ¬ l4 = (21 : Int32) from c3)).symm.trans hf
    exact (pX8_chooseCase_b88 hd hf).to trivial
  · replace hf := (if_neg (show ¬ (¬ l4 = (21 : Int32)) from (fun z => z c3))).symm.trans hf
    refine w_aload_n dX8_chooseCase_78 rfl rfl ?_
    refine w_dup dX8_chooseCase_79 rfl ?_
    obtain ⟨x4, b5, hf⟩ := Option.bind_eq_some_iff.mp hf
    refine GX8_128 b5 dX8_chooseCase_80 rfl ?_
    refine w_iconst dX8_chooseCase_83 (v := 1) (by decide) ?_
    refine w_isub dX8_chooseCase_84 ?_
    obtain ⟨h6, b7, hf⟩ := Option.bind_eq_some_iff.mp hf
    refine SX8_128 b7 dX8_chooseCase_85 rfl ?_
    exact (pX8_chooseCase_b88 hd hf).to trivial
def fX8_chooseCase_b53 (N : Nat) (l0 : Nat) (l1 : Int32) (l4 : Int32) (h : eH) : Option ((Unit ⊕ Nat) × eH) :=
  (g_A 7 h l0 14).bind fun a1 =>
  if ¬ l4 = (19 : Int32) then
    fX8_chooseCase_b70 N l0 l4 a1 l1 (0 : Int32) h
  else
    fX8_chooseCase_b70 N l0 l4 a1 l1 (1 : Int32) h
theorem pX8_chooseCase_b53 {w : eW} {d : Nat} (hd : 16 ≤ d + 1) {N : Nat} {l0 : Nat} {l1 : Int32} {l4 : Int32} {h : eH} {q} (hf : fX8_chooseCase_b53 N l0 l1 l4 h = some q) : wp w (d + 1) YX8_chooseCase 53 [some (.ref l0), some (.int l1), none, none, some (.int l4)] [] h (e_is (e_rt c_V q)) := by
  unfold fX8_chooseCase_b53 at hf
  refine w_aload_n dX8_chooseCase_53 rfl rfl ?_
  obtain ⟨a1, b2, hf⟩ := Option.bind_eq_some_iff.mp hf
  refine GX8_25 b2 dX8_chooseCase_54 rfl ?_
  refine w_iload_n dX8_chooseCase_57 rfl rfl ?_
  refine w_iload dX8_chooseCase_58 rfl ?_
  refine w_bipush dX8_chooseCase_60 (v := 19) (by decide) ?_
  refine w_icmp_ne 69 dX8_chooseCase_62 (by decide) (fun c3 => ?_) (fun c3 => ?_)
  · replace hf := (if_pos (show ¬ l4 = (19 : Int32) from c3)).symm.trans hf
    refine w_iconst dX8_chooseCase_69 (v := 0) (by decide) ?_
    exact (pX8_chooseCase_b70 hd hf).to ⟨rfl, rfl, trivial⟩
  · replace hf := (if_neg (show ¬ (¬ l4 = (19 : Int32)) from (fun z => z c3))).symm.trans hf
    refine w_iconst dX8_chooseCase_65 (v := 1) (by decide) ?_
    refine w_goto 70 dX8_chooseCase_66 (by decide) ?_
    exact (pX8_chooseCase_b70 hd hf).to ⟨rfl, rfl, trivial⟩
def fX8_chooseCase_b13 (N : Nat) : Nat → Nat → Int32 → Int32 → Int32 → eH → Option ((Unit ⊕ Nat) × eH)
  | 0, _, _, _, _, _ => none
  | n + 1, l0, l1, l3, l4, h =>
    if l3 = 0 then
      fX8_chooseCase_b53 N l0 l1 l4 h
    else
      if ¬ l4 = (20 : Int32) then
        fX8_chooseCase_b53 N l0 l1 l4 h
      else
        (k_ok 7 h l0).bind fun _ =>
        t_B (fX8_passOwn N l0 l1 h) fun x4 h5 =>
        if ¬ x4 = (20 : Int32) then
          fX8_chooseCase_b47 N (fX8_chooseCase_b13 N n) l0 l1 x4 l3 h5
        else
          if l3 ≤ 0 then
            fX8_chooseCase_b47 N (fX8_chooseCase_b13 N n) l0 l1 x4 l3 h5
          else
            fX8_chooseCase_b48 N (fX8_chooseCase_b13 N n) l0 l1 x4 l3 (1 : Int32) h5
theorem pX8_chooseCase_b13 {w : eW} {d : Nat} (hd : 16 ≤ d + 1) {N : Nat} : ∀ (n : Nat) l0 l1 l3 l4 h q, fX8_chooseCase_b13 N n l0 l1 l3 l4 h = some q → wp w (d + 1) YX8_chooseCase 13 [some (.ref l0), some (.int l1), none, some (.int l3), some (.int l4)] [] h (e_is (e_rt c_V q)) := by
  intro n
  induction n with
  | zero => intro l0 l1 l3 l4 h q hf; simp [fX8_chooseCase_b13] at hf
  | succ n ih =>
    intro l0 l1 l3 l4 h q hf
    rw [fX8_chooseCase_b13] at hf
    refine w_iload_n dX8_chooseCase_13 rfl rfl ?_
    refine w_if_eq 53 dX8_chooseCase_14 (by decide) (fun c1 => ?_) (fun c1 => ?_)
    · replace hf := (if_pos (show l3 = 0 from c1)).symm.trans hf
      exact (pX8_chooseCase_b53 hd hf).to ⟨rfl, rfl, rfl, trivial⟩
    · replace hf := (if_neg (show ¬ (l3 = 0) from c1)).symm.trans hf
      refine w_iload dX8_chooseCase_17 rfl ?_
      refine w_bipush dX8_chooseCase_19 (v := 20) (by decide) ?_
      refine w_icmp_ne 53 dX8_chooseCase_21 (by decide) (fun c2 => ?_) (fun c2 => ?_)
      · replace hf := (if_pos (show ¬ l4 = (20 : Int32) from c2)).symm.trans hf
        exact (pX8_chooseCase_b53 hd hf).to ⟨rfl, rfl, rfl, trivial⟩
      · replace hf := (if_neg (show ¬ (¬ l4 = (20 : Int32)) from (fun z => z c2))).symm.trans hf
        refine w_aload_n dX8_chooseCase_24 rfl rfl ?_
        refine w_iload_n dX8_chooseCase_25 rfl rfl ?_
        obtain ⟨_, b3, hf⟩ := Option.bind_eq_some_iff.mp hf
        refine x_ctI hf (e_stV (Yc := YX8_passOwn) (ci := 7) (av := [.int l1]) (st := []) dX8_chooseCase_26 q2681 mX8_passOwn rfl (k_ok_some b3).1 (k_ok_some b3).2) mX8_passOwn.2.2.1 mX8_passOwn.2.2.2.2.1 (Nat.le_of_ble_eq_true rfl) (Nat.le_of_ble_eq_true rfl) rfl (fun q hq => pX8_passOwn (by omega) hq) (fun x4 h5 hf => ?_)
        refine w_istore dX8_chooseCase_29 (by decide) (ls' := [some (.ref l0), some (.int l1), none, some (.int l3), some (.int x4)]) rfl ?_
        refine w_iload_n dX8_chooseCase_31 rfl rfl ?_
        refine w_iload dX8_chooseCase_32 rfl ?_
        refine w_bipush dX8_chooseCase_34 (v := 20) (by decide) ?_
        refine w_icmp_ne 47 dX8_chooseCase_36 (by decide) (fun c6 => ?_) (fun c6 => ?_)
        · replace hf := (if_pos (show ¬ x4 = (20 : Int32) from c6)).symm.trans hf
          exact (pX8_chooseCase_b47 hd ih hf).to ⟨rfl, rfl, rfl, trivial⟩
        · replace hf := (if_neg (show ¬ (¬ x4 = (20 : Int32)) from (fun z => z c6))).symm.trans hf
          refine w_iload_n dX8_chooseCase_39 rfl rfl ?_
          refine w_if_le 47 dX8_chooseCase_40 (by decide) (fun c7 => ?_) (fun c7 => ?_)
          · replace hf := (if_pos (show l3 ≤ 0 from c7)).symm.trans hf
            exact (pX8_chooseCase_b47 hd ih hf).to ⟨rfl, rfl, rfl, trivial⟩
          · replace hf := (if_neg (show ¬ (l3 ≤ 0) from c7)).symm.trans hf
            refine w_iconst dX8_chooseCase_43 (v := 1) (by decide) ?_
            refine w_goto 48 dX8_chooseCase_44 (by decide) ?_
            exact (pX8_chooseCase_b48 hd ih hf).to ⟨rfl, rfl, rfl, trivial⟩
def fX8_chooseCase (N : Nat) (this : Nat) (p0 : Int32) (p1 : Int32) (h : eH) : Option ((Unit ⊕ Nat) × eH) :=
  (g_A 7 h this 12).bind fun a1 =>
  (q_V 103 h a1 p0 (.int ((1 : Int32) &&& 1))).bind fun h3 =>
  fX8_chooseCase_b13 N N this p0 p1 (20 : Int32) h3
theorem pX8_chooseCase {w : eW} {d : Nat} (hd : 16 ≤ d) {N : Nat} {this : Nat} {p0 : Int32} {p1 : Int32} {h : eH} {q} (hf : fX8_chooseCase N this p0 p1 h = some q) : wm w d YX8_chooseCase [.ref this, .int p0, .int p1] h (e_is (e_rt c_V q)) := by
  obtain ⟨d, rfl⟩ : ∃ e, d = e + 1 := ⟨d - 1, by omega⟩
  show wp w (d + 1) YX8_chooseCase 0 [some (.ref this), some (.int p0), some (.int p1), none, none] [] h _
  unfold fX8_chooseCase at hf
  refine w_aload_n dX8_chooseCase_0 rfl rfl ?_
  obtain ⟨a1, b2, hf⟩ := Option.bind_eq_some_iff.mp hf
  refine GX8_18 b2 dX8_chooseCase_1 rfl ?_
  refine w_iload_n dX8_chooseCase_4 rfl rfl ?_
  refine w_iconst dX8_chooseCase_5 (v := 1) (by decide) ?_
  obtain ⟨h3, b4, hf⟩ := Option.bind_eq_some_iff.mp hf
  refine x_qZ b4 dX8_chooseCase_6 ?_
  refine w_iload_n dX8_chooseCase_7 rfl rfl ?_
  refine w_istore_n dX8_chooseCase_8 rfl (by decide) (ls' := [some (.ref this), some (.int p0), some (.int p1), some (.int p1), none]) rfl ?_
  refine w_bipush dX8_chooseCase_9 (v := 20) (by decide) ?_
  refine w_istore dX8_chooseCase_11 (by decide) (ls' := [some (.ref this), some (.int p0), some (.int p1), some (.int p1), some (.int (20 : Int32))]) rfl ?_
  exact (pX8_chooseCase_b13 hd N _ _ _ _ _ _ hf).to ⟨rfl, rfl, rfl, rfl, trivial⟩
abbrev cX8_codeOf : ByteArray := prog_4_method_71_code
def yX8_codeOf : MethodName := ⟨RX8, "codeOf", "(I)I"⟩
def YX8_codeOf : eY := (yX8_codeOf, cX8_codeOf, 2, (Option.some FieldType.int), [])
theorem mX8_codeOf : e_mv YX8_codeOf RX8 1 := ⟨q2691, qs84, q2692, by decide, by decide +kernel, (e_sig (by decide +kernel))⟩
theorem dX8_codeOf_0 : decode cX8_codeOf 0 = .ok (.aload_n 0, 1) := dc_42 (by decide +kernel)
theorem dX8_codeOf_1 : decode cX8_codeOf 1 = .ok (.iload_n 1, 1) := dc_27 (by decide +kernel)
theorem dX8_codeOf_2 : decode cX8_codeOf 2 = .ok (.invokevirtual 174, 3) := dc_182 (a := 0) (b := 174) (n := 174) (by decide +kernel)
theorem dX8_codeOf_5 : decode cX8_codeOf 5 = .ok (.iconst 3, 1) := dc_6 (by decide +kernel)
theorem dX8_codeOf_6 : decode cX8_codeOf 6 = .ok (.if_icmp .ne 15, 3) := dc_160 (a := 0) (b := 15) (v := 15) (by decide +kernel)
theorem dX8_codeOf_9 : decode cX8_codeOf 9 = .ok (.aload_n 0, 1) := dc_42 (by decide +kernel)
theorem dX8_codeOf_10 : decode cX8_codeOf 10 = .ok (.iload_n 1, 1) := dc_27 (by decide +kernel)
theorem dX8_codeOf_11 : decode cX8_codeOf 11 = .ok (.invokevirtual 178, 3) := dc_182 (a := 0) (b := 178) (n := 178) (by decide +kernel)
theorem dX8_codeOf_14 : decode cX8_codeOf 14 = .ok (.sipush 255, 3) := dc_17 (a := 0) (b := 255) (v := 255) (by decide +kernel)
theorem dX8_codeOf_17 : decode cX8_codeOf 17 = .ok (.iand, 1) := dc_126 (by decide +kernel)
theorem dX8_codeOf_18 : decode cX8_codeOf 18 = .ok (.goto 6, 3) := dc_167 (a := 0) (b := 6) (v := 6) (by decide +kernel)
theorem dX8_codeOf_21 : decode cX8_codeOf 21 = .ok (.sipush 256, 3) := dc_17 (a := 1) (b := 0) (v := 256) (by decide +kernel)
theorem dX8_codeOf_24 : decode cX8_codeOf 24 = .ok (.ireturn, 1) := dc_172 (by decide +kernel)
def fX8_codeOf_b24 (s0 : Int32) (h : eH) : Option (Int32 × eH) :=
  some (s0, h)
theorem pX8_codeOf_b24 {w : eW} {d : Nat} (hd : 2 ≤ d + 1) {s0 : Int32} {h : eH} {q} (hf : fX8_codeOf_b24 s0 h = some q) : wp w (d + 1) YX8_codeOf 24 [none, none] [.int s0] h (e_is (e_rn c_I q)) := by
  unfold fX8_codeOf_b24 at hf
  cases hf
  exact w_iret dX8_codeOf_24 rfl rfl rfl
def fX8_codeOf (this : Nat) (p0 : Int32) (h : eH) : Option (Int32 × eH) :=
  (k_ok 7 h this).bind fun _ =>
  (fX8_kind this p0 h).bind fun q2 =>
  if ¬ q2.1 = (3 : Int32) then
    fX8_codeOf_b24 (256 : Int32) q2.2
  else
    (k_ok 7 q2.2 this).bind fun _ =>
    (fX8_value this p0 q2.2).bind fun q5 =>
    fX8_codeOf_b24 (q5.1 &&& (255 : Int32)) q5.2
theorem pX8_codeOf {w : eW} {d : Nat} (hd : 2 ≤ d) {this : Nat} {p0 : Int32} {h : eH} {q} (hf : fX8_codeOf this p0 h = some q) : wm w d YX8_codeOf [.ref this, .int p0] h (e_is (e_rn c_I q)) := by
  obtain ⟨d, rfl⟩ : ∃ e, d = e + 1 := ⟨d - 1, by omega⟩
  show wp w (d + 1) YX8_codeOf 0 [some (.ref this), some (.int p0)] [] h _
  unfold fX8_codeOf at hf
  refine w_aload_n dX8_codeOf_0 rfl rfl ?_
  refine w_iload_n dX8_codeOf_1 rfl rfl ?_
  obtain ⟨_, b1, hf⟩ := Option.bind_eq_some_iff.mp hf
  refine x_cnI hf (e_stV (Yc := YX8_kind) (ci := 7) (av := [.int p0]) (st := []) dX8_codeOf_2 q2477 mX8_kind rfl (k_ok_some b1).1 (k_ok_some b1).2) mX8_kind.2.2.1 mX8_kind.2.2.2.2.1 (Nat.le_of_ble_eq_true rfl) (Nat.le_of_ble_eq_true rfl) (fun q hq => pX8_kind (by omega) hq) (fun q2 hf => ?_)
  refine w_iconst dX8_codeOf_5 (v := 3) (by decide) ?_
  refine w_icmp_ne 21 dX8_codeOf_6 (by decide) (fun c3 => ?_) (fun c3 => ?_)
  · replace hf := (if_pos (show ¬ q2.1 = (3 : Int32) from c3)).symm.trans hf
    refine w_sipush dX8_codeOf_21 (v := 256) (by decide) ?_
    exact (pX8_codeOf_b24 hd hf).to trivial
  · replace hf := (if_neg (show ¬ (¬ q2.1 = (3 : Int32)) from (fun z => z c3))).symm.trans hf
    refine w_aload_n dX8_codeOf_9 rfl rfl ?_
    refine w_iload_n dX8_codeOf_10 rfl rfl ?_
    obtain ⟨_, b4, hf⟩ := Option.bind_eq_some_iff.mp hf
    refine x_cnI hf (e_stV (Yc := YX8_value) (ci := 7) (av := [.int p0]) (st := []) dX8_codeOf_11 q2488 mX8_value rfl (k_ok_some b4).1 (k_ok_some b4).2) mX8_value.2.2.1 mX8_value.2.2.2.2.1 (Nat.le_of_ble_eq_true rfl) (Nat.le_of_ble_eq_true rfl) (fun q hq => pX8_value (by omega) hq) (fun q5 hf => ?_)
    refine w_sipush dX8_codeOf_14 (v := 255) (by decide) ?_
    refine w_iand dX8_codeOf_17 ?_
    refine w_goto 24 dX8_codeOf_18 (by decide) ?_
    exact (pX8_codeOf_b24 hd hf).to trivial
abbrev cX8_compare : ByteArray := prog_4_method_74_code
def yX8_compare : MethodName := ⟨RX8, "compare", "(Z)Z"⟩
def YX8_compare : eY := (yX8_compare, cX8_compare, 5, (Option.some FieldType.boolean), [])
theorem mX8_compare : e_mv YX8_compare RX8 1 := ⟨q2708, qs87, q2709, by decide, by decide +kernel, (e_sig (by decide +kernel))⟩
theorem dX8_compare_0 : decode cX8_compare 0 = .ok (.iload_n 1, 1) := dc_27 (by decide +kernel)
theorem dX8_compare_1 : decode cX8_compare 1 = .ok (.ifCond .eq 10, 3) := dc_153 (a := 0) (b := 10) (v := 10) (by decide +kernel)
theorem dX8_compare_4 : decode cX8_compare 4 = .ok (.aload_n 0, 1) := dc_42 (by decide +kernel)
theorem dX8_compare_5 : decode cX8_compare 5 = .ok (.invokevirtual 499, 3) := dc_182 (a := 1) (b := 243) (n := 499) (by decide +kernel)
theorem dX8_compare_8 : decode cX8_compare 8 = .ok (.goto 7, 3) := dc_167 (a := 0) (b := 7) (v := 7) (by decide +kernel)
theorem dX8_compare_11 : decode cX8_compare 11 = .ok (.aload_n 0, 1) := dc_42 (by decide +kernel)
theorem dX8_compare_12 : decode cX8_compare 12 = .ok (.invokevirtual 225, 3) := dc_182 (a := 0) (b := 225) (n := 225) (by decide +kernel)
theorem dX8_compare_15 : decode cX8_compare 15 = .ok (.istore_n 2, 1) := dc_61 (by decide +kernel)
theorem dX8_compare_16 : decode cX8_compare 16 = .ok (.aload_n 0, 1) := dc_42 (by decide +kernel)
theorem dX8_compare_17 : decode cX8_compare 17 = .ok (.invokevirtual 335, 3) := dc_182 (a := 1) (b := 79) (n := 335) (by decide +kernel)
theorem dX8_compare_20 : decode cX8_compare 20 = .ok (.istore_n 3, 1) := dc_62 (by decide +kernel)
theorem dX8_compare_21 : decode cX8_compare 21 = .ok (.aload_n 0, 1) := dc_42 (by decide +kernel)
theorem dX8_compare_22 : decode cX8_compare 22 = .ok (.getfield 51, 3) := dc_180 (a := 0) (b := 51) (n := 51) (by decide +kernel)
theorem dX8_compare_25 : decode cX8_compare 25 = .ok (.iload_n 3, 1) := dc_29 (by decide +kernel)
theorem dX8_compare_26 : decode cX8_compare 26 = .ok (.bipush 60, 2) := dc_16 (a := 60) (v := 60) (by decide +kernel)
theorem dX8_compare_28 : decode cX8_compare 28 = .ok (.invokestatic 255, 3) := dc_184 (a := 0) (b := 255) (n := 255) (by decide +kernel)
theorem dX8_compare_31 : decode cX8_compare 31 = .ok (.if_icmp .eq 21, 3) := dc_159 (a := 0) (b := 21) (v := 21) (by decide +kernel)
theorem dX8_compare_34 : decode cX8_compare 34 = .ok (.iload_n 3, 1) := dc_29 (by decide +kernel)
theorem dX8_compare_35 : decode cX8_compare 35 = .ok (.bipush 61, 2) := dc_16 (a := 61) (v := 61) (by decide +kernel)
theorem dX8_compare_37 : decode cX8_compare 37 = .ok (.invokestatic 255, 3) := dc_184 (a := 0) (b := 255) (n := 255) (by decide +kernel)
theorem dX8_compare_40 : decode cX8_compare 40 = .ok (.if_icmp .eq 12, 3) := dc_159 (a := 0) (b := 12) (v := 12) (by decide +kernel)
theorem dX8_compare_43 : decode cX8_compare 43 = .ok (.iload_n 3, 1) := dc_29 (by decide +kernel)
theorem dX8_compare_44 : decode cX8_compare 44 = .ok (.bipush 62, 2) := dc_16 (a := 62) (v := 62) (by decide +kernel)
theorem dX8_compare_46 : decode cX8_compare 46 = .ok (.invokestatic 255, 3) := dc_184 (a := 0) (b := 255) (n := 255) (by decide +kernel)
theorem dX8_compare_49 : decode cX8_compare 49 = .ok (.if_icmp .ne 7, 3) := dc_160 (a := 0) (b := 7) (v := 7) (by decide +kernel)
theorem dX8_compare_52 : decode cX8_compare 52 = .ok (.iconst 1, 1) := dc_4 (by decide +kernel)
theorem dX8_compare_53 : decode cX8_compare 53 = .ok (.goto 4, 3) := dc_167 (a := 0) (b := 4) (v := 4) (by decide +kernel)
theorem dX8_compare_56 : decode cX8_compare 56 = .ok (.iconst 0, 1) := dc_3 (by decide +kernel)
theorem dX8_compare_57 : decode cX8_compare 57 = .ok (.bipush 6, 2) := dc_16 (a := 6) (v := 6) (by decide +kernel)
theorem dX8_compare_59 : decode cX8_compare 59 = .ok (.invokevirtual 145, 3) := dc_182 (a := 0) (b := 145) (n := 145) (by decide +kernel)
theorem dX8_compare_62 : decode cX8_compare 62 = .ok (.iload_n 1, 1) := dc_27 (by decide +kernel)
theorem dX8_compare_63 : decode cX8_compare 63 = .ok (.ifCond .eq 10, 3) := dc_153 (a := 0) (b := 10) (v := 10) (by decide +kernel)
theorem dX8_compare_66 : decode cX8_compare 66 = .ok (.aload_n 0, 1) := dc_42 (by decide +kernel)
theorem dX8_compare_67 : decode cX8_compare 67 = .ok (.invokevirtual 499, 3) := dc_182 (a := 1) (b := 243) (n := 499) (by decide +kernel)
theorem dX8_compare_70 : decode cX8_compare 70 = .ok (.goto 7, 3) := dc_167 (a := 0) (b := 7) (v := 7) (by decide +kernel)
theorem dX8_compare_73 : decode cX8_compare 73 = .ok (.aload_n 0, 1) := dc_42 (by decide +kernel)
theorem dX8_compare_74 : decode cX8_compare 74 = .ok (.invokevirtual 225, 3) := dc_182 (a := 0) (b := 225) (n := 225) (by decide +kernel)
theorem dX8_compare_77 : decode cX8_compare 77 = .ok (.istore 4, 2) := dc_54 (a := 4) (by decide +kernel)
theorem dX8_compare_79 : decode cX8_compare 79 = .ok (.iload_n 3, 1) := dc_29 (by decide +kernel)
theorem dX8_compare_80 : decode cX8_compare 80 = .ok (.bipush 60, 2) := dc_16 (a := 60) (v := 60) (by decide +kernel)
theorem dX8_compare_82 : decode cX8_compare 82 = .ok (.invokestatic 255, 3) := dc_184 (a := 0) (b := 255) (n := 255) (by decide +kernel)
theorem dX8_compare_85 : decode cX8_compare 85 = .ok (.if_icmp .ne 17, 3) := dc_160 (a := 0) (b := 17) (v := 17) (by decide +kernel)
theorem dX8_compare_88 : decode cX8_compare 88 = .ok (.iload_n 2, 1) := dc_28 (by decide +kernel)
theorem dX8_compare_89 : decode cX8_compare 89 = .ok (.iload 4, 2) := dc_21 (a := 4) (by decide +kernel)
theorem dX8_compare_91 : decode cX8_compare 91 = .ok (.if_icmp .ge 7, 3) := dc_162 (a := 0) (b := 7) (v := 7) (by decide +kernel)
theorem dX8_compare_94 : decode cX8_compare 94 = .ok (.iconst 1, 1) := dc_4 (by decide +kernel)
theorem dX8_compare_95 : decode cX8_compare 95 = .ok (.goto 41, 3) := dc_167 (a := 0) (b := 41) (v := 41) (by decide +kernel)
theorem dX8_compare_98 : decode cX8_compare 98 = .ok (.iconst 0, 1) := dc_3 (by decide +kernel)
theorem dX8_compare_99 : decode cX8_compare 99 = .ok (.goto 37, 3) := dc_167 (a := 0) (b := 37) (v := 37) (by decide +kernel)
theorem dX8_compare_102 : decode cX8_compare 102 = .ok (.iload_n 3, 1) := dc_29 (by decide +kernel)
theorem dX8_compare_103 : decode cX8_compare 103 = .ok (.bipush 62, 2) := dc_16 (a := 62) (v := 62) (by decide +kernel)
theorem dX8_compare_105 : decode cX8_compare 105 = .ok (.invokestatic 255, 3) := dc_184 (a := 0) (b := 255) (n := 255) (by decide +kernel)
theorem dX8_compare_108 : decode cX8_compare 108 = .ok (.if_icmp .ne 17, 3) := dc_160 (a := 0) (b := 17) (v := 17) (by decide +kernel)
theorem dX8_compare_111 : decode cX8_compare 111 = .ok (.iload_n 2, 1) := dc_28 (by decide +kernel)
theorem dX8_compare_112 : decode cX8_compare 112 = .ok (.iload 4, 2) := dc_21 (a := 4) (by decide +kernel)
theorem dX8_compare_114 : decode cX8_compare 114 = .ok (.if_icmp .le 7, 3) := dc_164 (a := 0) (b := 7) (v := 7) (by decide +kernel)
theorem dX8_compare_117 : decode cX8_compare 117 = .ok (.iconst 1, 1) := dc_4 (by decide +kernel)
theorem dX8_compare_118 : decode cX8_compare 118 = .ok (.goto 18, 3) := dc_167 (a := 0) (b := 18) (v := 18) (by decide +kernel)
theorem dX8_compare_121 : decode cX8_compare 121 = .ok (.iconst 0, 1) := dc_3 (by decide +kernel)
theorem dX8_compare_122 : decode cX8_compare 122 = .ok (.goto 14, 3) := dc_167 (a := 0) (b := 14) (v := 14) (by decide +kernel)
theorem dX8_compare_125 : decode cX8_compare 125 = .ok (.iload_n 2, 1) := dc_28 (by decide +kernel)
theorem dX8_compare_126 : decode cX8_compare 126 = .ok (.iload 4, 2) := dc_21 (a := 4) (by decide +kernel)
theorem dX8_compare_128 : decode cX8_compare 128 = .ok (.if_icmp .ne 7, 3) := dc_160 (a := 0) (b := 7) (v := 7) (by decide +kernel)
theorem dX8_compare_131 : decode cX8_compare 131 = .ok (.iconst 1, 1) := dc_4 (by decide +kernel)
theorem dX8_compare_132 : decode cX8_compare 132 = .ok (.goto 4, 3) := dc_167 (a := 0) (b := 4) (v := 4) (by decide +kernel)
theorem dX8_compare_135 : decode cX8_compare 135 = .ok (.iconst 0, 1) := dc_3 (by decide +kernel)
theorem dX8_compare_136 : decode cX8_compare 136 = .ok (.ireturn, 1) := dc_172 (by decide +kernel)
def fX8_compare_b136 (N : Nat) (rE : Nat → Int32 → eH → Option ((Unit ⊕ Nat) × eH)) (rN : Nat → eH → Option ((Int32 ⊕ Nat) × eH)) (s0 : Int32) (h : eH) : Option ((Int32 ⊕ Nat) × eH) :=
  z_r s0 (.inl s0, h)
theorem pX8_compare_b136 {w : eW} {d : Nat} {dr : Nat} (hd : dr + 18 ≤ d + 1) (hdr : 12 ≤ dr) {N : Nat} {rE : Nat → Int32 → eH → Option ((Unit ⊕ Nat) × eH)} {rN : Nat → eH → Option ((Int32 ⊕ Nat) × eH)} (hrE : ∀ a t0 h q, rE a t0 h = some q → wm w dr YX8_expand [.ref a, .int t0] h (e_is (e_rt c_V q))) (hrN : ∀ a h q, rN a h = some q → wm w dr YX8_number [.ref a] h (e_is (e_rt c_I q))) {s0 : Int32} {h : eH} {q} (hf : fX8_compare_b136 N rE rN s0 h = some q) : wp w (d + 1) YX8_compare 136 [none, none, none, none, none] [.int s0] h (e_is (e_rt c_I q)) := by
  unfold fX8_compare_b136 at hf
  obtain ⟨b1, rfl⟩ := z_r_some hf
  exact w_iret dX8_compare_136 rfl b1 rfl
def fX8_compare_b77 (N : Nat) (rE : Nat → Int32 → eH → Option ((Unit ⊕ Nat) × eH)) (rN : Nat → eH → Option ((Int32 ⊕ Nat) × eH)) (l2 : Int32) (l3 : Int32) (s0 : Int32) (h : eH) : Option ((Int32 ⊕ Nat) × eH) :=
  (fX1_other (60 : Int32) h).bind fun q1 =>
  if ¬ l3 = q1.1 then
    (fX1_other (62 : Int32) q1.2).bind fun q3 =>
    if ¬ l3 = q3.1 then
      if ¬ l2 = s0 then
        fX8_compare_b136 N rE rN (0 : Int32) q3.2
      else
        fX8_compare_b136 N rE rN (1 : Int32) q3.2
    else
      if l2 ≤ s0 then
        fX8_compare_b136 N rE rN (0 : Int32) q3.2
      else
        fX8_compare_b136 N rE rN (1 : Int32) q3.2
  else
    if s0 ≤ l2 then
      fX8_compare_b136 N rE rN (0 : Int32) q1.2
    else
      fX8_compare_b136 N rE rN (1 : Int32) q1.2
theorem pX8_compare_b77 {w : eW} {d : Nat} {dr : Nat} (hd : dr + 18 ≤ d + 1) (hdr : 12 ≤ dr) {N : Nat} {rE : Nat → Int32 → eH → Option ((Unit ⊕ Nat) × eH)} {rN : Nat → eH → Option ((Int32 ⊕ Nat) × eH)} (hrE : ∀ a t0 h q, rE a t0 h = some q → wm w dr YX8_expand [.ref a, .int t0] h (e_is (e_rt c_V q))) (hrN : ∀ a h q, rN a h = some q → wm w dr YX8_number [.ref a] h (e_is (e_rt c_I q))) {l2 : Int32} {l3 : Int32} {s0 : Int32} {h : eH} {q} (hf : fX8_compare_b77 N rE rN l2 l3 s0 h = some q) : wp w (d + 1) YX8_compare 77 [none, none, some (.int l2), some (.int l3), none] [.int s0] h (e_is (e_rt c_I q)) := by
  unfold fX8_compare_b77 at hf
  refine w_istore dX8_compare_77 (by decide) (ls' := [none, none, some (.int l2), some (.int l3), some (.int s0)]) rfl ?_
  refine w_iload_n dX8_compare_79 rfl rfl ?_
  refine w_bipush dX8_compare_80 (v := 60) (by decide) ?_
  refine x_cnI hf (e_stSN (Yc := YX1_other) (av := [.int (60 : Int32)]) (st := [.int l3]) dX8_compare_82 q2579 mX1_other) mX1_other.2.2.1 mX1_other.2.2.2.2.1 (Nat.le_of_ble_eq_true rfl) (Nat.le_of_ble_eq_true rfl) (fun q hq => pX1_other (by omega) hq) (fun q1 hf => ?_)
  refine w_icmp_ne 102 dX8_compare_85 (by decide) (fun c2 => ?_) (fun c2 => ?_)
  · replace hf := (if_pos (show ¬ l3 = q1.1 from c2)).symm.trans hf
    refine w_iload_n dX8_compare_102 rfl rfl ?_
    refine w_bipush dX8_compare_103 (v := 62) (by decide) ?_
    refine x_cnI hf (e_stSN (Yc := YX1_other) (av := [.int (62 : Int32)]) (st := [.int l3]) dX8_compare_105 q2579 mX1_other) mX1_other.2.2.1 mX1_other.2.2.2.2.1 (Nat.le_of_ble_eq_true rfl) (Nat.le_of_ble_eq_true rfl) (fun q hq => pX1_other (by omega) hq) (fun q3 hf => ?_)
    refine w_icmp_ne 125 dX8_compare_108 (by decide) (fun c4 => ?_) (fun c4 => ?_)
    · replace hf := (if_pos (show ¬ l3 = q3.1 from c4)).symm.trans hf
      refine w_iload_n dX8_compare_125 rfl rfl ?_
      refine w_iload dX8_compare_126 rfl ?_
      refine w_icmp_ne 135 dX8_compare_128 (by decide) (fun c5 => ?_) (fun c5 => ?_)
      · replace hf := (if_pos (show ¬ l2 = s0 from c5)).symm.trans hf
        refine w_iconst dX8_compare_135 (v := 0) (by decide) ?_
        exact (pX8_compare_b136 hd hdr hrE hrN hf).to trivial
      · replace hf := (if_neg (show ¬ (¬ l2 = s0) from (fun z => z c5))).symm.trans hf
        refine w_iconst dX8_compare_131 (v := 1) (by decide) ?_
        refine w_goto 136 dX8_compare_132 (by decide) ?_
        exact (pX8_compare_b136 hd hdr hrE hrN hf).to trivial
    · replace hf := (if_neg (show ¬ (¬ l3 = q3.1) from (fun z => z c4))).symm.trans hf
      refine w_iload_n dX8_compare_111 rfl rfl ?_
      refine w_iload dX8_compare_112 rfl ?_
      refine w_icmp_le 121 dX8_compare_114 (by decide) (fun c6 => ?_) (fun c6 => ?_)
      · replace hf := (if_pos (show l2 ≤ s0 from c6)).symm.trans hf
        refine w_iconst dX8_compare_121 (v := 0) (by decide) ?_
        refine w_goto 136 dX8_compare_122 (by decide) ?_
        exact (pX8_compare_b136 hd hdr hrE hrN hf).to trivial
      · replace hf := (if_neg (show ¬ (l2 ≤ s0) from c6)).symm.trans hf
        refine w_iconst dX8_compare_117 (v := 1) (by decide) ?_
        refine w_goto 136 dX8_compare_118 (by decide) ?_
        exact (pX8_compare_b136 hd hdr hrE hrN hf).to trivial
  · replace hf := (if_neg (show ¬ (¬ l3 = q1.1) from (fun z => z c2))).symm.trans hf
    refine w_iload_n dX8_compare_88 rfl rfl ?_
    refine w_iload dX8_compare_89 rfl ?_
    refine w_icmp_ge 98 dX8_compare_91 (by decide) (fun c7 => ?_) (fun c7 => ?_)
    · replace hf := (if_pos (show s0 ≤ l2 from c7)).symm.trans hf
      refine w_iconst dX8_compare_98 (v := 0) (by decide) ?_
      refine w_goto 136 dX8_compare_99 (by decide) ?_
      exact (pX8_compare_b136 hd hdr hrE hrN hf).to trivial
    · replace hf := (if_neg (show ¬ (s0 ≤ l2) from c7)).symm.trans hf
      refine w_iconst dX8_compare_94 (v := 1) (by decide) ?_
      refine w_goto 136 dX8_compare_95 (by decide) ?_
      exact (pX8_compare_b136 hd hdr hrE hrN hf).to trivial
def fX8_compare_b57 (N : Nat) (rE : Nat → Int32 → eH → Option ((Unit ⊕ Nat) × eH)) (rN : Nat → eH → Option ((Int32 ⊕ Nat) × eH)) (l0 : Nat) (l1 : Int32) (l2 : Int32) (l3 : Int32) (s0 : Nat) (s1 : Int32) (h : eH) : Option ((Int32 ⊕ Nat) × eH) :=
  (k_ok 3 h s0).bind fun _ =>
  t_B (fX4_want s0 s1 (6 : Int32) h) fun x2 h3 =>
  if l1 = 0 then
    (k_ok 7 h3 l0).bind fun _ =>
    t_B (rN l0 h3) fun x6 h7 =>
    fX8_compare_b77 N rE rN l2 l3 x6 h7
  else
    (k_ok 7 h3 l0).bind fun _ =>
    t_B (fX8_dimension N rE rN l0 h3) fun x9 h10 =>
    fX8_compare_b77 N rE rN l2 l3 x9 h10
theorem pX8_compare_b57 {w : eW} {d : Nat} {dr : Nat} (hd : dr + 18 ≤ d + 1) (hdr : 12 ≤ dr) {N : Nat} {rE : Nat → Int32 → eH → Option ((Unit ⊕ Nat) × eH)} {rN : Nat → eH → Option ((Int32 ⊕ Nat) × eH)} (hrE : ∀ a t0 h q, rE a t0 h = some q → wm w dr YX8_expand [.ref a, .int t0] h (e_is (e_rt c_V q))) (hrN : ∀ a h q, rN a h = some q → wm w dr YX8_number [.ref a] h (e_is (e_rt c_I q))) {l0 : Nat} {l1 : Int32} {l2 : Int32} {l3 : Int32} {s0 : Nat} {s1 : Int32} {h : eH} {q} (hf : fX8_compare_b57 N rE rN l0 l1 l2 l3 s0 s1 h = some q) : wp w (d + 1) YX8_compare 57 [some (.ref l0), some (.int l1), some (.int l2), some (.int l3), none] [.int s1, .ref s0] h (e_is (e_rt c_I q)) := by
  unfold fX8_compare_b57 at hf
  refine w_bipush dX8_compare_57 (v := 6) (by decide) ?_
  obtain ⟨_, b1, hf⟩ := Option.bind_eq_some_iff.mp hf
  refine x_ctV hf (e_stV (Yc := YX4_want) (ci := 3) (av := [.int s1, .int (6 : Int32)]) (st := []) dX8_compare_59 q2500 mX4_want rfl (k_ok_some b1).1 (k_ok_some b1).2) mX4_want.2.2.1 mX4_want.2.2.2.2.1 (Nat.le_of_ble_eq_true rfl) (Nat.le_of_ble_eq_true rfl) rfl (fun q hq => pX4_want (by omega) hq) (fun x2 h3 hf => ?_)
  refine w_iload_n dX8_compare_62 rfl rfl ?_
  refine w_if_eq 73 dX8_compare_63 (by decide) (fun c4 => ?_) (fun c4 => ?_)
  · replace hf := (if_pos (show l1 = 0 from c4)).symm.trans hf
    refine w_aload_n dX8_compare_73 rfl rfl ?_
    obtain ⟨_, b5, hf⟩ := Option.bind_eq_some_iff.mp hf
    refine x_ctI hf (e_stV (Yc := YX8_number) (ci := 7) (av := []) (st := []) dX8_compare_74 q2590 mX8_number rfl (k_ok_some b5).1 (k_ok_some b5).2) mX8_number.2.2.1 mX8_number.2.2.2.2.1 (Nat.le_of_ble_eq_true rfl) (Nat.le_of_ble_eq_true rfl) rfl (fun q hq => (hrN _ _ _ hq).up (by omega)) (fun x6 h7 hf => ?_)
    exact (pX8_compare_b77 hd hdr hrE hrN hf).to ⟨rfl, rfl, trivial⟩
  · replace hf := (if_neg (show ¬ (l1 = 0) from c4)).symm.trans hf
    refine w_aload_n dX8_compare_66 rfl rfl ?_
    obtain ⟨_, b8, hf⟩ := Option.bind_eq_some_iff.mp hf
    refine x_ctI hf (e_stV (Yc := YX8_dimension) (ci := 7) (av := []) (st := []) dX8_compare_67 q2710 mX8_dimension rfl (k_ok_some b8).1 (k_ok_some b8).2) mX8_dimension.2.2.1 mX8_dimension.2.2.2.2.1 (Nat.le_of_ble_eq_true rfl) (Nat.le_of_ble_eq_true rfl) rfl (fun q hq => pX8_dimension (by omega) hdr hrE hrN hq) (fun x9 h10 hf => ?_)
    refine w_goto 77 dX8_compare_70 (by decide) ?_
    exact (pX8_compare_b77 hd hdr hrE hrN hf).to ⟨rfl, rfl, trivial⟩
def fX8_compare_b52 (N : Nat) (rE : Nat → Int32 → eH → Option ((Unit ⊕ Nat) × eH)) (rN : Nat → eH → Option ((Int32 ⊕ Nat) × eH)) (l0 : Nat) (l1 : Int32) (l2 : Int32) (l3 : Int32) (s0 : Nat) (h : eH) : Option ((Int32 ⊕ Nat) × eH) :=
  fX8_compare_b57 N rE rN l0 l1 l2 l3 s0 (1 : Int32) h
theorem pX8_compare_b52 {w : eW} {d : Nat} {dr : Nat} (hd : dr + 18 ≤ d + 1) (hdr : 12 ≤ dr) {N : Nat} {rE : Nat → Int32 → eH → Option ((Unit ⊕ Nat) × eH)} {rN : Nat → eH → Option ((Int32 ⊕ Nat) × eH)} (hrE : ∀ a t0 h q, rE a t0 h = some q → wm w dr YX8_expand [.ref a, .int t0] h (e_is (e_rt c_V q))) (hrN : ∀ a h q, rN a h = some q → wm w dr YX8_number [.ref a] h (e_is (e_rt c_I q))) {l0 : Nat} {l1 : Int32} {l2 : Int32} {l3 : Int32} {s0 : Nat} {h : eH} {q} (hf : fX8_compare_b52 N rE rN l0 l1 l2 l3 s0 h = some q) : wp w (d + 1) YX8_compare 52 [some (.ref l0), some (.int l1), some (.int l2), some (.int l3), none] [.ref s0] h (e_is (e_rt c_I q)) := by
  unfold fX8_compare_b52 at hf
  refine w_iconst dX8_compare_52 (v := 1) (by decide) ?_
  refine w_goto 57 dX8_compare_53 (by decide) ?_
  exact (pX8_compare_b57 hd hdr hrE hrN hf).to ⟨rfl, rfl, rfl, rfl, trivial⟩
def fX8_compare_b15 (N : Nat) (rE : Nat → Int32 → eH → Option ((Unit ⊕ Nat) × eH)) (rN : Nat → eH → Option ((Int32 ⊕ Nat) × eH)) (l0 : Nat) (l1 : Int32) (s0 : Int32) (h : eH) : Option ((Int32 ⊕ Nat) × eH) :=
  (k_ok 7 h l0).bind fun _ =>
  t_B (fX8_needSolid N rE l0 h) fun x2 h3 =>
  (g_A 7 h3 l0 0).bind fun a4 =>
  (fX1_other (60 : Int32) h3).bind fun q6 =>
  if x2 = q6.1 then
    fX8_compare_b52 N rE rN l0 l1 s0 x2 a4 q6.2
  else
    (fX1_other (61 : Int32) q6.2).bind fun q8 =>
    if x2 = q8.1 then
      fX8_compare_b52 N rE rN l0 l1 s0 x2 a4 q8.2
    else
      (fX1_other (62 : Int32) q8.2).bind fun q10 =>
      if ¬ x2 = q10.1 then
        fX8_compare_b57 N rE rN l0 l1 s0 x2 a4 (0 : Int32) q10.2
      else
        fX8_compare_b52 N rE rN l0 l1 s0 x2 a4 q10.2
theorem pX8_compare_b15 {w : eW} {d : Nat} {dr : Nat} (hd : dr + 18 ≤ d + 1) (hdr : 12 ≤ dr) {N : Nat} {rE : Nat → Int32 → eH → Option ((Unit ⊕ Nat) × eH)} {rN : Nat → eH → Option ((Int32 ⊕ Nat) × eH)} (hrE : ∀ a t0 h q, rE a t0 h = some q → wm w dr YX8_expand [.ref a, .int t0] h (e_is (e_rt c_V q))) (hrN : ∀ a h q, rN a h = some q → wm w dr YX8_number [.ref a] h (e_is (e_rt c_I q))) {l0 : Nat} {l1 : Int32} {s0 : Int32} {h : eH} {q} (hf : fX8_compare_b15 N rE rN l0 l1 s0 h = some q) : wp w (d + 1) YX8_compare 15 [some (.ref l0), some (.int l1), none, none, none] [.int s0] h (e_is (e_rt c_I q)) := by
  unfold fX8_compare_b15 at hf
  refine w_istore_n dX8_compare_15 rfl (by decide) (ls' := [some (.ref l0), some (.int l1), some (.int s0), none, none]) rfl ?_
  refine w_aload_n dX8_compare_16 rfl rfl ?_
  obtain ⟨_, b1, hf⟩ := Option.bind_eq_some_iff.mp hf
  refine x_ctI hf (e_stV (Yc := YX8_needSolid) (ci := 7) (av := []) (st := []) dX8_compare_17 q2594 mX8_needSolid rfl (k_ok_some b1).1 (k_ok_some b1).2) mX8_needSolid.2.2.1 mX8_needSolid.2.2.2.2.1 (Nat.le_of_ble_eq_true rfl) (Nat.le_of_ble_eq_true rfl) rfl (fun q hq => pX8_needSolid (by omega) hdr hrE hq) (fun x2 h3 hf => ?_)
  refine w_istore_n dX8_compare_20 rfl (by decide) (ls' := [some (.ref l0), some (.int l1), some (.int s0), some (.int x2), none]) rfl ?_
  refine w_aload_n dX8_compare_21 rfl rfl ?_
  obtain ⟨a4, b5, hf⟩ := Option.bind_eq_some_iff.mp hf
  refine GX8_51 b5 dX8_compare_22 rfl ?_
  refine w_iload_n dX8_compare_25 rfl rfl ?_
  refine w_bipush dX8_compare_26 (v := 60) (by decide) ?_
  refine x_cnI hf (e_stSN (Yc := YX1_other) (av := [.int (60 : Int32)]) (st := [.int x2, .ref a4]) dX8_compare_28 q2579 mX1_other) mX1_other.2.2.1 mX1_other.2.2.2.2.1 (Nat.le_of_ble_eq_true rfl) (Nat.le_of_ble_eq_true rfl) (fun q hq => pX1_other (by omega) hq) (fun q6 hf => ?_)
  refine w_icmp_eq 52 dX8_compare_31 (by decide) (fun c7 => ?_) (fun c7 => ?_)
  · replace hf := (if_pos (show x2 = q6.1 from c7)).symm.trans hf
    exact (pX8_compare_b52 hd hdr hrE hrN hf).to ⟨rfl, rfl, rfl, rfl, trivial⟩
  · replace hf := (if_neg (show ¬ (x2 = q6.1) from c7)).symm.trans hf
    refine w_iload_n dX8_compare_34 rfl rfl ?_
    refine w_bipush dX8_compare_35 (v := 61) (by decide) ?_
    refine x_cnI hf (e_stSN (Yc := YX1_other) (av := [.int (61 : Int32)]) (st := [.int x2, .ref a4]) dX8_compare_37 q2579 mX1_other) mX1_other.2.2.1 mX1_other.2.2.2.2.1 (Nat.le_of_ble_eq_true rfl) (Nat.le_of_ble_eq_true rfl) (fun q hq => pX1_other (by omega) hq) (fun q8 hf => ?_)
    refine w_icmp_eq 52 dX8_compare_40 (by decide) (fun c9 => ?_) (fun c9 => ?_)
    · replace hf := (if_pos (show x2 = q8.1 from c9)).symm.trans hf
      exact (pX8_compare_b52 hd hdr hrE hrN hf).to ⟨rfl, rfl, rfl, rfl, trivial⟩
    · replace hf := (if_neg (show ¬ (x2 = q8.1) from c9)).symm.trans hf
      refine w_iload_n dX8_compare_43 rfl rfl ?_
      refine w_bipush dX8_compare_44 (v := 62) (by decide) ?_
      refine x_cnI hf (e_stSN (Yc := YX1_other) (av := [.int (62 : Int32)]) (st := [.int x2, .ref a4]) dX8_compare_46 q2579 mX1_other) mX1_other.2.2.1 mX1_other.2.2.2.2.1 (Nat.le_of_ble_eq_true rfl) (Nat.le_of_ble_eq_true rfl) (fun q hq => pX1_other (by omega) hq) (fun q10 hf => ?_)
      refine w_icmp_ne 56 dX8_compare_49 (by decide) (fun c11 => ?_) (fun c11 => ?_)
      · replace hf := (if_pos (show ¬ x2 = q10.1 from c11)).symm.trans hf
        refine w_iconst dX8_compare_56 (v := 0) (by decide) ?_
        exact (pX8_compare_b57 hd hdr hrE hrN hf).to ⟨rfl, rfl, rfl, rfl, trivial⟩
      · replace hf := (if_neg (show ¬ (¬ x2 = q10.1) from (fun z => z c11))).symm.trans hf
        exact (pX8_compare_b52 hd hdr hrE hrN hf).to ⟨rfl, rfl, rfl, rfl, trivial⟩
def fX8_compare (N : Nat) (rE : Nat → Int32 → eH → Option ((Unit ⊕ Nat) × eH)) (rN : Nat → eH → Option ((Int32 ⊕ Nat) × eH)) (this : Nat) (p0 : Int32) (h : eH) : Option ((Int32 ⊕ Nat) × eH) :=
  if p0 = 0 then
    (k_ok 7 h this).bind fun _ =>
    t_B (rN this h) fun x3 h4 =>
    fX8_compare_b15 N rE rN this p0 x3 h4
  else
    (k_ok 7 h this).bind fun _ =>
    t_B (fX8_dimension N rE rN this h) fun x6 h7 =>
    fX8_compare_b15 N rE rN this p0 x6 h7
theorem pX8_compare {w : eW} {d : Nat} {dr : Nat} (hd : dr + 18 ≤ d) (hdr : 12 ≤ dr) {N : Nat} {rE : Nat → Int32 → eH → Option ((Unit ⊕ Nat) × eH)} {rN : Nat → eH → Option ((Int32 ⊕ Nat) × eH)} (hrE : ∀ a t0 h q, rE a t0 h = some q → wm w dr YX8_expand [.ref a, .int t0] h (e_is (e_rt c_V q))) (hrN : ∀ a h q, rN a h = some q → wm w dr YX8_number [.ref a] h (e_is (e_rt c_I q))) {this : Nat} {p0 : Int32} {h : eH} {q} (hf : fX8_compare N rE rN this p0 h = some q) : wm w d YX8_compare [.ref this, .int p0] h (e_is (e_rt c_I q)) := by
  obtain ⟨d, rfl⟩ : ∃ e, d = e + 1 := ⟨d - 1, by omega⟩
  show wp w (d + 1) YX8_compare 0 [some (.ref this), some (.int p0), none, none, none] [] h _
  unfold fX8_compare at hf
  refine w_iload_n dX8_compare_0 rfl rfl ?_
  refine w_if_eq 11 dX8_compare_1 (by decide) (fun c1 => ?_) (fun c1 => ?_)
  · replace hf := (if_pos (show p0 = 0 from c1)).symm.trans hf
    refine w_aload_n dX8_compare_11 rfl rfl ?_
    obtain ⟨_, b2, hf⟩ := Option.bind_eq_some_iff.mp hf
    refine x_ctI hf (e_stV (Yc := YX8_number) (ci := 7) (av := []) (st := []) dX8_compare_12 q2590 mX8_number rfl (k_ok_some b2).1 (k_ok_some b2).2) mX8_number.2.2.1 mX8_number.2.2.2.2.1 (Nat.le_of_ble_eq_true rfl) (Nat.le_of_ble_eq_true rfl) rfl (fun q hq => (hrN _ _ _ hq).up (by omega)) (fun x3 h4 hf => ?_)
    exact (pX8_compare_b15 hd hdr hrE hrN hf).to ⟨rfl, rfl, trivial⟩
  · replace hf := (if_neg (show ¬ (p0 = 0) from c1)).symm.trans hf
    refine w_aload_n dX8_compare_4 rfl rfl ?_
    obtain ⟨_, b5, hf⟩ := Option.bind_eq_some_iff.mp hf
    refine x_ctI hf (e_stV (Yc := YX8_dimension) (ci := 7) (av := []) (st := []) dX8_compare_5 q2710 mX8_dimension rfl (k_ok_some b5).1 (k_ok_some b5).2) mX8_dimension.2.2.1 mX8_dimension.2.2.2.2.1 (Nat.le_of_ble_eq_true rfl) (Nat.le_of_ble_eq_true rfl) rfl (fun q hq => pX8_dimension (by omega) hdr hrE hrN hq) (fun x6 h7 hf => ?_)
    refine w_goto 15 dX8_compare_8 (by decide) ?_
    exact (pX8_compare_b15 hd hdr hrE hrN hf).to ⟨rfl, rfl, trivial⟩
abbrev cX8_test : ByteArray := prog_4_method_70_code
def yX8_test : MethodName := ⟨RX8, "test", "(I)Z"⟩
def YX8_test : eY := (yX8_test, cX8_test, 5, (Option.some FieldType.boolean), [])
theorem mX8_test : e_mv YX8_test RX8 1 := ⟨q2687, qs83, q2688, by decide, by decide +kernel, (e_sig (by decide +kernel))⟩
theorem dX8_test_0 : decode cX8_test 0 = .ok (.iload_n 1, 1) := dc_27 (by decide +kernel)
theorem dX8_test_1 : decode cX8_test 1 = .ok (.tableswitch 196 7 15 #[51, 78, 105, 122, 128, 181, 134, 139, 152], 51) := by decide +kernel
theorem dX8_test_52 : decode cX8_test 52 = .ok (.aload_n 0, 1) := dc_42 (by decide +kernel)
theorem dX8_test_53 : decode cX8_test 53 = .ok (.aload_n 0, 1) := dc_42 (by decide +kernel)
theorem dX8_test_54 : decode cX8_test 54 = .ok (.invokevirtual 190, 3) := dc_182 (a := 0) (b := 190) (n := 190) (by decide +kernel)
theorem dX8_test_57 : decode cX8_test 57 = .ok (.invokevirtual 548, 3) := dc_182 (a := 2) (b := 36) (n := 548) (by decide +kernel)
theorem dX8_test_60 : decode cX8_test 60 = .ok (.istore_n 2, 1) := dc_61 (by decide +kernel)
theorem dX8_test_61 : decode cX8_test 61 = .ok (.iload_n 2, 1) := dc_28 (by decide +kernel)
theorem dX8_test_62 : decode cX8_test 62 = .ok (.aload_n 0, 1) := dc_42 (by decide +kernel)
theorem dX8_test_63 : decode cX8_test 63 = .ok (.aload_n 0, 1) := dc_42 (by decide +kernel)
theorem dX8_test_64 : decode cX8_test 64 = .ok (.invokevirtual 190, 3) := dc_182 (a := 0) (b := 190) (n := 190) (by decide +kernel)
theorem dX8_test_67 : decode cX8_test 67 = .ok (.invokevirtual 548, 3) := dc_182 (a := 2) (b := 36) (n := 548) (by decide +kernel)
theorem dX8_test_70 : decode cX8_test 70 = .ok (.if_icmp .ne 7, 3) := dc_160 (a := 0) (b := 7) (v := 7) (by decide +kernel)
theorem dX8_test_73 : decode cX8_test 73 = .ok (.iconst 1, 1) := dc_4 (by decide +kernel)
theorem dX8_test_74 : decode cX8_test 74 = .ok (.goto 4, 3) := dc_167 (a := 0) (b := 4) (v := 4) (by decide +kernel)
theorem dX8_test_77 : decode cX8_test 77 = .ok (.iconst 0, 1) := dc_3 (by decide +kernel)
theorem dX8_test_78 : decode cX8_test 78 = .ok (.ireturn, 1) := dc_172 (by decide +kernel)
theorem dX8_test_79 : decode cX8_test 79 = .ok (.aload_n 0, 1) := dc_42 (by decide +kernel)
theorem dX8_test_80 : decode cX8_test 80 = .ok (.aload_n 0, 1) := dc_42 (by decide +kernel)
theorem dX8_test_81 : decode cX8_test 81 = .ok (.invokevirtual 190, 3) := dc_182 (a := 0) (b := 190) (n := 190) (by decide +kernel)
theorem dX8_test_84 : decode cX8_test 84 = .ok (.invokevirtual 551, 3) := dc_182 (a := 2) (b := 39) (n := 551) (by decide +kernel)
theorem dX8_test_87 : decode cX8_test 87 = .ok (.istore_n 3, 1) := dc_62 (by decide +kernel)
theorem dX8_test_88 : decode cX8_test 88 = .ok (.iload_n 3, 1) := dc_29 (by decide +kernel)
theorem dX8_test_89 : decode cX8_test 89 = .ok (.aload_n 0, 1) := dc_42 (by decide +kernel)
theorem dX8_test_90 : decode cX8_test 90 = .ok (.aload_n 0, 1) := dc_42 (by decide +kernel)
theorem dX8_test_91 : decode cX8_test 91 = .ok (.invokevirtual 190, 3) := dc_182 (a := 0) (b := 190) (n := 190) (by decide +kernel)
theorem dX8_test_94 : decode cX8_test 94 = .ok (.invokevirtual 551, 3) := dc_182 (a := 2) (b := 39) (n := 551) (by decide +kernel)
theorem dX8_test_97 : decode cX8_test 97 = .ok (.if_icmp .ne 7, 3) := dc_160 (a := 0) (b := 7) (v := 7) (by decide +kernel)
theorem dX8_test_100 : decode cX8_test 100 = .ok (.iconst 1, 1) := dc_4 (by decide +kernel)
theorem dX8_test_101 : decode cX8_test 101 = .ok (.goto 4, 3) := dc_167 (a := 0) (b := 4) (v := 4) (by decide +kernel)
theorem dX8_test_104 : decode cX8_test 104 = .ok (.iconst 0, 1) := dc_3 (by decide +kernel)
theorem dX8_test_105 : decode cX8_test 105 = .ok (.ireturn, 1) := dc_172 (by decide +kernel)
theorem dX8_test_106 : decode cX8_test 106 = .ok (.aload_n 0, 1) := dc_42 (by decide +kernel)
theorem dX8_test_107 : decode cX8_test 107 = .ok (.invokevirtual 213, 3) := dc_182 (a := 0) (b := 213) (n := 213) (by decide +kernel)
theorem dX8_test_110 : decode cX8_test 110 = .ok (.istore 4, 2) := dc_54 (a := 4) (by decide +kernel)
theorem dX8_test_112 : decode cX8_test 112 = .ok (.aload_n 0, 1) := dc_42 (by decide +kernel)
theorem dX8_test_113 : decode cX8_test 113 = .ok (.iload 4, 2) := dc_21 (a := 4) (by decide +kernel)
theorem dX8_test_115 : decode cX8_test 115 = .ok (.aload_n 0, 1) := dc_42 (by decide +kernel)
theorem dX8_test_116 : decode cX8_test 116 = .ok (.invokevirtual 213, 3) := dc_182 (a := 0) (b := 213) (n := 213) (by decide +kernel)
theorem dX8_test_119 : decode cX8_test 119 = .ok (.invokevirtual 554, 3) := dc_182 (a := 2) (b := 42) (n := 554) (by decide +kernel)
theorem dX8_test_122 : decode cX8_test 122 = .ok (.ireturn, 1) := dc_172 (by decide +kernel)
theorem dX8_test_123 : decode cX8_test 123 = .ok (.aload_n 0, 1) := dc_42 (by decide +kernel)
theorem dX8_test_124 : decode cX8_test 124 = .ok (.iconst 0, 1) := dc_3 (by decide +kernel)
theorem dX8_test_125 : decode cX8_test 125 = .ok (.invokevirtual 557, 3) := dc_182 (a := 2) (b := 45) (n := 557) (by decide +kernel)
theorem dX8_test_128 : decode cX8_test 128 = .ok (.ireturn, 1) := dc_172 (by decide +kernel)
theorem dX8_test_129 : decode cX8_test 129 = .ok (.aload_n 0, 1) := dc_42 (by decide +kernel)
theorem dX8_test_130 : decode cX8_test 130 = .ok (.iconst 1, 1) := dc_4 (by decide +kernel)
theorem dX8_test_131 : decode cX8_test 131 = .ok (.invokevirtual 557, 3) := dc_182 (a := 2) (b := 45) (n := 557) (by decide +kernel)
theorem dX8_test_134 : decode cX8_test 134 = .ok (.ireturn, 1) := dc_172 (by decide +kernel)
theorem dX8_test_135 : decode cX8_test 135 = .ok (.aload_n 0, 1) := dc_42 (by decide +kernel)
theorem dX8_test_136 : decode cX8_test 136 = .ok (.getfield 561, 3) := dc_180 (a := 2) (b := 49) (n := 561) (by decide +kernel)
theorem dX8_test_139 : decode cX8_test 139 = .ok (.ireturn, 1) := dc_172 (by decide +kernel)
theorem dX8_test_140 : decode cX8_test 140 = .ok (.aload_n 0, 1) := dc_42 (by decide +kernel)
theorem dX8_test_141 : decode cX8_test 141 = .ok (.getfield 561, 3) := dc_180 (a := 2) (b := 49) (n := 561) (by decide +kernel)
theorem dX8_test_144 : decode cX8_test 144 = .ok (.ifCond .ne 7, 3) := dc_154 (a := 0) (b := 7) (v := 7) (by decide +kernel)
theorem dX8_test_147 : decode cX8_test 147 = .ok (.iconst 1, 1) := dc_4 (by decide +kernel)
theorem dX8_test_148 : decode cX8_test 148 = .ok (.goto 4, 3) := dc_167 (a := 0) (b := 4) (v := 4) (by decide +kernel)
theorem dX8_test_151 : decode cX8_test 151 = .ok (.iconst 0, 1) := dc_3 (by decide +kernel)
theorem dX8_test_152 : decode cX8_test 152 = .ok (.ireturn, 1) := dc_172 (by decide +kernel)
theorem dX8_test_153 : decode cX8_test 153 = .ok (.aload_n 0, 1) := dc_42 (by decide +kernel)
theorem dX8_test_154 : decode cX8_test 154 = .ok (.getfield 12, 3) := dc_180 (a := 0) (b := 12) (n := 12) (by decide +kernel)
theorem dX8_test_157 : decode cX8_test 157 = .ok (.getfield 357, 3) := dc_180 (a := 1) (b := 101) (n := 357) (by decide +kernel)
theorem dX8_test_160 : decode cX8_test 160 = .ok (.sipush 1583, 3) := dc_17 (a := 6) (b := 47) (v := 1583) (by decide +kernel)
theorem dX8_test_163 : decode cX8_test 163 = .ok (.aload_n 0, 1) := dc_42 (by decide +kernel)
theorem dX8_test_164 : decode cX8_test 164 = .ok (.sipush 255, 3) := dc_17 (a := 0) (b := 255) (v := 255) (by decide +kernel)
theorem dX8_test_167 : decode cX8_test 167 = .ok (.invokevirtual 363, 3) := dc_182 (a := 1) (b := 107) (n := 363) (by decide +kernel)
theorem dX8_test_170 : decode cX8_test 170 = .ok (.iadd, 1) := dc_96 (by decide +kernel)
theorem dX8_test_171 : decode cX8_test 171 = .ok (.iaload, 1) := dc_46 (by decide +kernel)
theorem dX8_test_172 : decode cX8_test 172 = .ok (.iconst (-1), 1) := dc_2 (by decide +kernel)
theorem dX8_test_173 : decode cX8_test 173 = .ok (.if_icmp .ne 7, 3) := dc_160 (a := 0) (b := 7) (v := 7) (by decide +kernel)
theorem dX8_test_176 : decode cX8_test 176 = .ok (.iconst 1, 1) := dc_4 (by decide +kernel)
theorem dX8_test_177 : decode cX8_test 177 = .ok (.goto 4, 3) := dc_167 (a := 0) (b := 4) (v := 4) (by decide +kernel)
theorem dX8_test_180 : decode cX8_test 180 = .ok (.iconst 0, 1) := dc_3 (by decide +kernel)
theorem dX8_test_181 : decode cX8_test 181 = .ok (.ireturn, 1) := dc_172 (by decide +kernel)
theorem dX8_test_182 : decode cX8_test 182 = .ok (.aload_n 0, 1) := dc_42 (by decide +kernel)
theorem dX8_test_183 : decode cX8_test 183 = .ok (.invokevirtual 225, 3) := dc_182 (a := 0) (b := 225) (n := 225) (by decide +kernel)
theorem dX8_test_186 : decode cX8_test 186 = .ok (.iconst 2, 1) := dc_5 (by decide +kernel)
theorem dX8_test_187 : decode cX8_test 187 = .ok (.irem, 1) := dc_112 (by decide +kernel)
theorem dX8_test_188 : decode cX8_test 188 = .ok (.ifCond .eq 7, 3) := dc_153 (a := 0) (b := 7) (v := 7) (by decide +kernel)
theorem dX8_test_191 : decode cX8_test 191 = .ok (.iconst 1, 1) := dc_4 (by decide +kernel)
theorem dX8_test_192 : decode cX8_test 192 = .ok (.goto 4, 3) := dc_167 (a := 0) (b := 4) (v := 4) (by decide +kernel)
theorem dX8_test_195 : decode cX8_test 195 = .ok (.iconst 0, 1) := dc_3 (by decide +kernel)
theorem dX8_test_196 : decode cX8_test 196 = .ok (.ireturn, 1) := dc_172 (by decide +kernel)
theorem dX8_test_197 : decode cX8_test 197 = .ok (.iload_n 1, 1) := dc_27 (by decide +kernel)
theorem dX8_test_198 : decode cX8_test 198 = .ok (.bipush 16, 2) := dc_16 (a := 16) (v := 16) (by decide +kernel)
theorem dX8_test_200 : decode cX8_test 200 = .ok (.if_icmp .ne 7, 3) := dc_160 (a := 0) (b := 7) (v := 7) (by decide +kernel)
theorem dX8_test_203 : decode cX8_test 203 = .ok (.iconst 1, 1) := dc_4 (by decide +kernel)
theorem dX8_test_204 : decode cX8_test 204 = .ok (.goto 4, 3) := dc_167 (a := 0) (b := 4) (v := 4) (by decide +kernel)
theorem dX8_test_207 : decode cX8_test 207 = .ok (.iconst 0, 1) := dc_3 (by decide +kernel)
theorem dX8_test_208 : decode cX8_test 208 = .ok (.ireturn, 1) := dc_172 (by decide +kernel)
theorem GX8_561 {w : eW} {d : Nat} {Y : eY} {pc : Nat} {ls : eL} {st : List Value} {h : eH} {Q : eO → eH → Prop} {a : Nat} {x : Int32} (hf : g_I 7 h a 11 = some x) (hd : decode Y.2.1 pc = .ok (.getfield 561, 3)) (hY : Y.1.cls = RX8) (kk : wp w d Y (pc + 3) ls (.int x :: st) h Q) : wp w d Y pc ls (.ref a :: st) h Q := x_gI (ci := 7) (k := 11) hf hd rfl (by decide) (by rw [hY]; exact q848) kk
def fX8_test_b78 (N : Nat) (rE : Nat → Int32 → eH → Option ((Unit ⊕ Nat) × eH)) (rN : Nat → eH → Option ((Int32 ⊕ Nat) × eH)) (s0 : Int32) (h : eH) : Option ((Int32 ⊕ Nat) × eH) :=
  z_r s0 (.inl s0, h)
theorem pX8_test_b78 {w : eW} {d : Nat} {dr : Nat} (hd : dr + 19 ≤ d + 1) (hdr : 12 ≤ dr) {N : Nat} {rE : Nat → Int32 → eH → Option ((Unit ⊕ Nat) × eH)} {rN : Nat → eH → Option ((Int32 ⊕ Nat) × eH)} (hrE : ∀ a t0 h q, rE a t0 h = some q → wm w dr YX8_expand [.ref a, .int t0] h (e_is (e_rt c_V q))) (hrN : ∀ a h q, rN a h = some q → wm w dr YX8_number [.ref a] h (e_is (e_rt c_I q))) {s0 : Int32} {h : eH} {q} (hf : fX8_test_b78 N rE rN s0 h = some q) : wp w (d + 1) YX8_test 78 [none, none, none, none, none] [.int s0] h (e_is (e_rt c_I q)) := by
  unfold fX8_test_b78 at hf
  obtain ⟨b1, rfl⟩ := z_r_some hf
  exact w_iret dX8_test_78 rfl b1 rfl
def fX8_test_b105 (N : Nat) (rE : Nat → Int32 → eH → Option ((Unit ⊕ Nat) × eH)) (rN : Nat → eH → Option ((Int32 ⊕ Nat) × eH)) (s0 : Int32) (h : eH) : Option ((Int32 ⊕ Nat) × eH) :=
  z_r s0 (.inl s0, h)
theorem pX8_test_b105 {w : eW} {d : Nat} {dr : Nat} (hd : dr + 19 ≤ d + 1) (hdr : 12 ≤ dr) {N : Nat} {rE : Nat → Int32 → eH → Option ((Unit ⊕ Nat) × eH)} {rN : Nat → eH → Option ((Int32 ⊕ Nat) × eH)} (hrE : ∀ a t0 h q, rE a t0 h = some q → wm w dr YX8_expand [.ref a, .int t0] h (e_is (e_rt c_V q))) (hrN : ∀ a h q, rN a h = some q → wm w dr YX8_number [.ref a] h (e_is (e_rt c_I q))) {s0 : Int32} {h : eH} {q} (hf : fX8_test_b105 N rE rN s0 h = some q) : wp w (d + 1) YX8_test 105 [none, none, none, none, none] [.int s0] h (e_is (e_rt c_I q)) := by
  unfold fX8_test_b105 at hf
  obtain ⟨b1, rfl⟩ := z_r_some hf
  exact w_iret dX8_test_105 rfl b1 rfl
def fX8_test_b152 (N : Nat) (rE : Nat → Int32 → eH → Option ((Unit ⊕ Nat) × eH)) (rN : Nat → eH → Option ((Int32 ⊕ Nat) × eH)) (s0 : Int32) (h : eH) : Option ((Int32 ⊕ Nat) × eH) :=
  z_r s0 (.inl s0, h)
theorem pX8_test_b152 {w : eW} {d : Nat} {dr : Nat} (hd : dr + 19 ≤ d + 1) (hdr : 12 ≤ dr) {N : Nat} {rE : Nat → Int32 → eH → Option ((Unit ⊕ Nat) × eH)} {rN : Nat → eH → Option ((Int32 ⊕ Nat) × eH)} (hrE : ∀ a t0 h q, rE a t0 h = some q → wm w dr YX8_expand [.ref a, .int t0] h (e_is (e_rt c_V q))) (hrN : ∀ a h q, rN a h = some q → wm w dr YX8_number [.ref a] h (e_is (e_rt c_I q))) {s0 : Int32} {h : eH} {q} (hf : fX8_test_b152 N rE rN s0 h = some q) : wp w (d + 1) YX8_test 152 [none, none, none, none, none] [.int s0] h (e_is (e_rt c_I q)) := by
  unfold fX8_test_b152 at hf
  obtain ⟨b1, rfl⟩ := z_r_some hf
  exact w_iret dX8_test_152 rfl b1 rfl
def fX8_test_b181 (N : Nat) (rE : Nat → Int32 → eH → Option ((Unit ⊕ Nat) × eH)) (rN : Nat → eH → Option ((Int32 ⊕ Nat) × eH)) (s0 : Int32) (h : eH) : Option ((Int32 ⊕ Nat) × eH) :=
  z_r s0 (.inl s0, h)
theorem pX8_test_b181 {w : eW} {d : Nat} {dr : Nat} (hd : dr + 19 ≤ d + 1) (hdr : 12 ≤ dr) {N : Nat} {rE : Nat → Int32 → eH → Option ((Unit ⊕ Nat) × eH)} {rN : Nat → eH → Option ((Int32 ⊕ Nat) × eH)} (hrE : ∀ a t0 h q, rE a t0 h = some q → wm w dr YX8_expand [.ref a, .int t0] h (e_is (e_rt c_V q))) (hrN : ∀ a h q, rN a h = some q → wm w dr YX8_number [.ref a] h (e_is (e_rt c_I q))) {s0 : Int32} {h : eH} {q} (hf : fX8_test_b181 N rE rN s0 h = some q) : wp w (d + 1) YX8_test 181 [none, none, none, none, none] [.int s0] h (e_is (e_rt c_I q)) := by
  unfold fX8_test_b181 at hf
  obtain ⟨b1, rfl⟩ := z_r_some hf
  exact w_iret dX8_test_181 rfl b1 rfl
def fX8_test_b196 (N : Nat) (rE : Nat → Int32 → eH → Option ((Unit ⊕ Nat) × eH)) (rN : Nat → eH → Option ((Int32 ⊕ Nat) × eH)) (s0 : Int32) (h : eH) : Option ((Int32 ⊕ Nat) × eH) :=
  z_r s0 (.inl s0, h)
theorem pX8_test_b196 {w : eW} {d : Nat} {dr : Nat} (hd : dr + 19 ≤ d + 1) (hdr : 12 ≤ dr) {N : Nat} {rE : Nat → Int32 → eH → Option ((Unit ⊕ Nat) × eH)} {rN : Nat → eH → Option ((Int32 ⊕ Nat) × eH)} (hrE : ∀ a t0 h q, rE a t0 h = some q → wm w dr YX8_expand [.ref a, .int t0] h (e_is (e_rt c_V q))) (hrN : ∀ a h q, rN a h = some q → wm w dr YX8_number [.ref a] h (e_is (e_rt c_I q))) {s0 : Int32} {h : eH} {q} (hf : fX8_test_b196 N rE rN s0 h = some q) : wp w (d + 1) YX8_test 196 [none, none, none, none, none] [.int s0] h (e_is (e_rt c_I q)) := by
  unfold fX8_test_b196 at hf
  obtain ⟨b1, rfl⟩ := z_r_some hf
  exact w_iret dX8_test_196 rfl b1 rfl
def fX8_test_b208 (N : Nat) (rE : Nat → Int32 → eH → Option ((Unit ⊕ Nat) × eH)) (rN : Nat → eH → Option ((Int32 ⊕ Nat) × eH)) (s0 : Int32) (h : eH) : Option ((Int32 ⊕ Nat) × eH) :=
  z_r s0 (.inl s0, h)
theorem pX8_test_b208 {w : eW} {d : Nat} {dr : Nat} (hd : dr + 19 ≤ d + 1) (hdr : 12 ≤ dr) {N : Nat} {rE : Nat → Int32 → eH → Option ((Unit ⊕ Nat) × eH)} {rN : Nat → eH → Option ((Int32 ⊕ Nat) × eH)} (hrE : ∀ a t0 h q, rE a t0 h = some q → wm w dr YX8_expand [.ref a, .int t0] h (e_is (e_rt c_V q))) (hrN : ∀ a h q, rN a h = some q → wm w dr YX8_number [.ref a] h (e_is (e_rt c_I q))) {s0 : Int32} {h : eH} {q} (hf : fX8_test_b208 N rE rN s0 h = some q) : wp w (d + 1) YX8_test 208 [none, none, none, none, none] [.int s0] h (e_is (e_rt c_I q)) := by
  unfold fX8_test_b208 at hf
  obtain ⟨b1, rfl⟩ := z_r_some hf
  exact w_iret dX8_test_208 rfl b1 rfl
def fX8_test (N : Nat) (rE : Nat → Int32 → eH → Option ((Unit ⊕ Nat) × eH)) (rN : Nat → eH → Option ((Int32 ⊕ Nat) × eH)) (this : Nat) (p0 : Int32) (h : eH) : Option ((Int32 ⊕ Nat) × eH) :=
  if p0 = (7 : Int32) then
    (k_ok 7 h this).bind fun _ =>
    t_B (fX8_needExpanded N rE this h) fun x3 h4 =>
    (k_ok 7 h4 this).bind fun _ =>
    (fX8_codeOf this x3 h4).bind fun q6 =>
    (k_ok 7 q6.2 this).bind fun _ =>
    t_B (fX8_needExpanded N rE this q6.2) fun x8 h9 =>
    (k_ok 7 h9 this).bind fun _ =>
    (fX8_codeOf this x8 h9).bind fun q11 =>
    if ¬ q6.1 = q11.1 then
      fX8_test_b78 N rE rN (0 : Int32) q11.2
    else
      fX8_test_b78 N rE rN (1 : Int32) q11.2
  else
  if p0 = (8 : Int32) then
    (k_ok 7 h this).bind fun _ =>
    t_B (fX8_needExpanded N rE this h) fun x15 h16 =>
    (k_ok 7 h16 this).bind fun _ =>
    (fX8_categoryOf this x15 h16).bind fun q18 =>
    (k_ok 7 q18.2 this).bind fun _ =>
    t_B (fX8_needExpanded N rE this q18.2) fun x20 h21 =>
    (k_ok 7 h21 this).bind fun _ =>
    (fX8_categoryOf this x20 h21).bind fun q23 =>
    if ¬ q18.1 = q23.1 then
      fX8_test_b105 N rE rN (0 : Int32) q23.2
    else
      fX8_test_b105 N rE rN (1 : Int32) q23.2
  else
  if p0 = (9 : Int32) then
    (k_ok 7 h this).bind fun _ =>
    t_B (fX8_need N this h) fun x27 h28 =>
    (k_ok 7 h28 this).bind fun _ =>
    t_B (fX8_need N this h28) fun x30 h31 =>
    (k_ok 7 h31 this).bind fun _ =>
    (fX8_areAlike N this x27 x30 h31).bind fun q33 =>
    z_r q33.1 (.inl q33.1, q33.2)
  else
  if p0 = (10 : Int32) then
    (k_ok 7 h this).bind fun _ =>
    t_B (fX8_compare N rE rN this (0 : Int32) h) fun x37 h38 =>
    z_r x37 (.inl x37, h38)
  else
  if p0 = (11 : Int32) then
    (k_ok 7 h this).bind fun _ =>
    t_B (fX8_compare N rE rN this (1 : Int32) h) fun x42 h43 =>
    z_r x42 (.inl x42, h43)
  else
  if p0 = (12 : Int32) then
    (k_ok 7 h this).bind fun _ =>
    t_B (rN this h) fun x47 h48 =>
    if (x47 - x47 / (2 : Int32) * (2 : Int32)) = 0 then
      fX8_test_b196 N rE rN (0 : Int32) h48
    else
      fX8_test_b196 N rE rN (1 : Int32) h48
  else
  if p0 = (13 : Int32) then
    (g_I 7 h this 11).bind fun x51 =>
    z_r x51 (.inl x51, h)
  else
  if p0 = (14 : Int32) then
    (g_I 7 h this 11).bind fun x55 =>
    if ¬ x55 = 0 then
      fX8_test_b152 N rE rN (0 : Int32) h
    else
      fX8_test_b152 N rE rN (1 : Int32) h
  else
  if p0 = (15 : Int32) then
    (g_A 7 h this 4).bind fun a59 =>
    (g_A 8 h a59 3).bind fun a61 =>
    (k_ok 7 h this).bind fun _ =>
    t_B (fX8_within rN this (255 : Int32) h) fun x64 h65 =>
    (r_I 100 h65 a61 ((1583 : Int32) + x64)).bind fun x66 =>
    if ¬ x66 = (-1 : Int32) then
      fX8_test_b181 N rE rN (0 : Int32) h65
    else
      fX8_test_b181 N rE rN (1 : Int32) h65
  else
  if ¬ p0 = (16 : Int32) then
    fX8_test_b208 N rE rN (0 : Int32) h
  else
    fX8_test_b208 N rE rN (1 : Int32) h
theorem pX8_test {w : eW} {d : Nat} {dr : Nat} (hd : dr + 19 ≤ d) (hdr : 12 ≤ dr) {N : Nat} {rE : Nat → Int32 → eH → Option ((Unit ⊕ Nat) × eH)} {rN : Nat → eH → Option ((Int32 ⊕ Nat) × eH)} (hrE : ∀ a t0 h q, rE a t0 h = some q → wm w dr YX8_expand [.ref a, .int t0] h (e_is (e_rt c_V q))) (hrN : ∀ a h q, rN a h = some q → wm w dr YX8_number [.ref a] h (e_is (e_rt c_I q))) {this : Nat} {p0 : Int32} {h : eH} {q} (hf : fX8_test N rE rN this p0 h = some q) : wm w d YX8_test [.ref this, .int p0] h (e_is (e_rt c_I q)) := by
  obtain ⟨d, rfl⟩ : ∃ e, d = e + 1 := ⟨d - 1, by omega⟩
  show wp w (d + 1) YX8_test 0 [some (.ref this), some (.int p0), none, none, none] [] h _
  unfold fX8_test at hf
  refine w_iload_n dX8_test_0 rfl rfl ?_
  by_cases c1 : p0 = (7 : Int32)
  · replace hf := (if_pos c1).symm.trans hf
    refine w_tableIn 52 dX8_test_1 (by rw [c1]; decide) (by rw [c1]; decide) (by rw [c1]; rfl) (by decide) ?_
    refine w_aload_n dX8_test_52 rfl rfl ?_
    refine w_aload_n dX8_test_53 rfl rfl ?_
    obtain ⟨_, b2, hf⟩ := Option.bind_eq_some_iff.mp hf
    refine x_ctI hf (e_stV (Yc := YX8_needExpanded) (ci := 7) (av := []) (st := [.ref this]) dX8_test_54 q2563 mX8_needExpanded rfl (k_ok_some b2).1 (k_ok_some b2).2) mX8_needExpanded.2.2.1 mX8_needExpanded.2.2.2.2.1 (Nat.le_of_ble_eq_true rfl) (Nat.le_of_ble_eq_true rfl) rfl (fun q hq => pX8_needExpanded (by omega) hdr hrE hq) (fun x3 h4 hf => ?_)
    obtain ⟨_, b5, hf⟩ := Option.bind_eq_some_iff.mp hf
    refine x_cnI hf (e_stV (Yc := YX8_codeOf) (ci := 7) (av := [.int x3]) (st := []) dX8_test_57 q2689 mX8_codeOf rfl (k_ok_some b5).1 (k_ok_some b5).2) mX8_codeOf.2.2.1 mX8_codeOf.2.2.2.2.1 (Nat.le_of_ble_eq_true rfl) (Nat.le_of_ble_eq_true rfl) (fun q hq => pX8_codeOf (by omega) hq) (fun q6 hf => ?_)
    refine w_istore_n dX8_test_60 rfl (by decide) (ls' := [some (.ref this), some (.int p0), some (.int q6.1), none, none]) rfl ?_
    refine w_iload_n dX8_test_61 rfl rfl ?_
    refine w_aload_n dX8_test_62 rfl rfl ?_
    refine w_aload_n dX8_test_63 rfl rfl ?_
    obtain ⟨_, b7, hf⟩ := Option.bind_eq_some_iff.mp hf
    refine x_ctI hf (e_stV (Yc := YX8_needExpanded) (ci := 7) (av := []) (st := [.ref this, .int q6.1]) dX8_test_64 q2563 mX8_needExpanded rfl (k_ok_some b7).1 (k_ok_some b7).2) mX8_needExpanded.2.2.1 mX8_needExpanded.2.2.2.2.1 (Nat.le_of_ble_eq_true rfl) (Nat.le_of_ble_eq_true rfl) rfl (fun q hq => pX8_needExpanded (by omega) hdr hrE hq) (fun x8 h9 hf => ?_)
    obtain ⟨_, b10, hf⟩ := Option.bind_eq_some_iff.mp hf
    refine x_cnI hf (e_stV (Yc := YX8_codeOf) (ci := 7) (av := [.int x8]) (st := [.int q6.1]) dX8_test_67 q2689 mX8_codeOf rfl (k_ok_some b10).1 (k_ok_some b10).2) mX8_codeOf.2.2.1 mX8_codeOf.2.2.2.2.1 (Nat.le_of_ble_eq_true rfl) (Nat.le_of_ble_eq_true rfl) (fun q hq => pX8_codeOf (by omega) hq) (fun q11 hf => ?_)
    refine w_icmp_ne 77 dX8_test_70 (by decide) (fun c12 => ?_) (fun c12 => ?_)
    · replace hf := (if_pos (show ¬ q6.1 = q11.1 from c12)).symm.trans hf
      refine w_iconst dX8_test_77 (v := 0) (by decide) ?_
      exact (pX8_test_b78 hd hdr hrE hrN hf).to trivial
    · replace hf := (if_neg (show ¬ (¬ q6.1 = q11.1) from (fun z => z c12))).symm.trans hf
      refine w_iconst dX8_test_73 (v := 1) (by decide) ?_
      refine w_goto 78 dX8_test_74 (by decide) ?_
      exact (pX8_test_b78 hd hdr hrE hrN hf).to trivial
  replace hf := (if_neg c1).symm.trans hf
  by_cases c13 : p0 = (8 : Int32)
  · replace hf := (if_pos c13).symm.trans hf
    refine w_tableIn 79 dX8_test_1 (by rw [c13]; decide) (by rw [c13]; decide) (by rw [c13]; rfl) (by decide) ?_
    refine w_aload_n dX8_test_79 rfl rfl ?_
    refine w_aload_n dX8_test_80 rfl rfl ?_
    obtain ⟨_, b14, hf⟩ := Option.bind_eq_some_iff.mp hf
    refine x_ctI hf (e_stV (Yc := YX8_needExpanded) (ci := 7) (av := []) (st := [.ref this]) dX8_test_81 q2563 mX8_needExpanded rfl (k_ok_some b14).1 (k_ok_some b14).2) mX8_needExpanded.2.2.1 mX8_needExpanded.2.2.2.2.1 (Nat.le_of_ble_eq_true rfl) (Nat.le_of_ble_eq_true rfl) rfl (fun q hq => pX8_needExpanded (by omega) hdr hrE hq) (fun x15 h16 hf => ?_)
    obtain ⟨_, b17, hf⟩ := Option.bind_eq_some_iff.mp hf
    refine x_cnI hf (e_stV (Yc := YX8_categoryOf) (ci := 7) (av := [.int x15]) (st := []) dX8_test_84 q2693 mX8_categoryOf rfl (k_ok_some b17).1 (k_ok_some b17).2) mX8_categoryOf.2.2.1 mX8_categoryOf.2.2.2.2.1 (Nat.le_of_ble_eq_true rfl) (Nat.le_of_ble_eq_true rfl) (fun q hq => pX8_categoryOf (by omega) hq) (fun q18 hf => ?_)
    refine w_istore_n dX8_test_87 rfl (by decide) (ls' := [some (.ref this), some (.int p0), none, some (.int q18.1), none]) rfl ?_
    refine w_iload_n dX8_test_88 rfl rfl ?_
    refine w_aload_n dX8_test_89 rfl rfl ?_
    refine w_aload_n dX8_test_90 rfl rfl ?_
    obtain ⟨_, b19, hf⟩ := Option.bind_eq_some_iff.mp hf
    refine x_ctI hf (e_stV (Yc := YX8_needExpanded) (ci := 7) (av := []) (st := [.ref this, .int q18.1]) dX8_test_91 q2563 mX8_needExpanded rfl (k_ok_some b19).1 (k_ok_some b19).2) mX8_needExpanded.2.2.1 mX8_needExpanded.2.2.2.2.1 (Nat.le_of_ble_eq_true rfl) (Nat.le_of_ble_eq_true rfl) rfl (fun q hq => pX8_needExpanded (by omega) hdr hrE hq) (fun x20 h21 hf => ?_)
    obtain ⟨_, b22, hf⟩ := Option.bind_eq_some_iff.mp hf
    refine x_cnI hf (e_stV (Yc := YX8_categoryOf) (ci := 7) (av := [.int x20]) (st := [.int q18.1]) dX8_test_94 q2693 mX8_categoryOf rfl (k_ok_some b22).1 (k_ok_some b22).2) mX8_categoryOf.2.2.1 mX8_categoryOf.2.2.2.2.1 (Nat.le_of_ble_eq_true rfl) (Nat.le_of_ble_eq_true rfl) (fun q hq => pX8_categoryOf (by omega) hq) (fun q23 hf => ?_)
    refine w_icmp_ne 104 dX8_test_97 (by decide) (fun c24 => ?_) (fun c24 => ?_)
    · replace hf := (if_pos (show ¬ q18.1 = q23.1 from c24)).symm.trans hf
      refine w_iconst dX8_test_104 (v := 0) (by decide) ?_
      exact (pX8_test_b105 hd hdr hrE hrN hf).to trivial
    · replace hf := (if_neg (show ¬ (¬ q18.1 = q23.1) from (fun z => z c24))).symm.trans hf
      refine w_iconst dX8_test_100 (v := 1) (by decide) ?_
      refine w_goto 105 dX8_test_101 (by decide) ?_
      exact (pX8_test_b105 hd hdr hrE hrN hf).to trivial
  replace hf := (if_neg c13).symm.trans hf
  by_cases c25 : p0 = (9 : Int32)
  · replace hf := (if_pos c25).symm.trans hf
    refine w_tableIn 106 dX8_test_1 (by rw [c25]; decide) (by rw [c25]; decide) (by rw [c25]; rfl) (by decide) ?_
    refine w_aload_n dX8_test_106 rfl rfl ?_
    obtain ⟨_, b26, hf⟩ := Option.bind_eq_some_iff.mp hf
    refine x_ctI hf (e_stV (Yc := YX8_need) (ci := 7) (av := []) (st := []) dX8_test_107 q2506 mX8_need rfl (k_ok_some b26).1 (k_ok_some b26).2) mX8_need.2.2.1 mX8_need.2.2.2.2.1 (Nat.le_of_ble_eq_true rfl) (Nat.le_of_ble_eq_true rfl) rfl (fun q hq => pX8_need (by omega) hq) (fun x27 h28 hf => ?_)
    refine w_istore dX8_test_110 (by decide) (ls' := [some (.ref this), some (.int p0), none, none, some (.int x27)]) rfl ?_
    refine w_aload_n dX8_test_112 rfl rfl ?_
    refine w_iload dX8_test_113 rfl ?_
    refine w_aload_n dX8_test_115 rfl rfl ?_
    obtain ⟨_, b29, hf⟩ := Option.bind_eq_some_iff.mp hf
    refine x_ctI hf (e_stV (Yc := YX8_need) (ci := 7) (av := []) (st := [.int x27, .ref this]) dX8_test_116 q2506 mX8_need rfl (k_ok_some b29).1 (k_ok_some b29).2) mX8_need.2.2.1 mX8_need.2.2.2.2.1 (Nat.le_of_ble_eq_true rfl) (Nat.le_of_ble_eq_true rfl) rfl (fun q hq => pX8_need (by omega) hq) (fun x30 h31 hf => ?_)
    obtain ⟨_, b32, hf⟩ := Option.bind_eq_some_iff.mp hf
    refine x_cnI hf (e_stV (Yc := YX8_areAlike) (ci := 7) (av := [.int x27, .int x30]) (st := []) dX8_test_119 q2698 mX8_areAlike rfl (k_ok_some b32).1 (k_ok_some b32).2) mX8_areAlike.2.2.1 mX8_areAlike.2.2.2.2.1 (Nat.le_of_ble_eq_true rfl) (Nat.le_of_ble_eq_true rfl) (fun q hq => pX8_areAlike (by omega) hq) (fun q33 hf => ?_)
    obtain ⟨b34, rfl⟩ := z_r_some hf
    exact w_iret dX8_test_122 rfl b34 rfl
  replace hf := (if_neg c25).symm.trans hf
  by_cases c35 : p0 = (10 : Int32)
  · replace hf := (if_pos c35).symm.trans hf
    refine w_tableIn 123 dX8_test_1 (by rw [c35]; decide) (by rw [c35]; decide) (by rw [c35]; rfl) (by decide) ?_
    refine w_aload_n dX8_test_123 rfl rfl ?_
    refine w_iconst dX8_test_124 (v := 0) (by decide) ?_
    obtain ⟨_, b36, hf⟩ := Option.bind_eq_some_iff.mp hf
    refine x_ctI hf (e_stV (Yc := YX8_compare) (ci := 7) (av := [.int (0 : Int32)]) (st := []) dX8_test_125 q2706 mX8_compare rfl (k_ok_some b36).1 (k_ok_some b36).2) mX8_compare.2.2.1 mX8_compare.2.2.2.2.1 (Nat.le_of_ble_eq_true rfl) (Nat.le_of_ble_eq_true rfl) rfl (fun q hq => pX8_compare (by omega) hdr hrE hrN hq) (fun x37 h38 hf => ?_)
    obtain ⟨b39, rfl⟩ := z_r_some hf
    exact w_iret dX8_test_128 rfl b39 rfl
  replace hf := (if_neg c35).symm.trans hf
  by_cases c40 : p0 = (11 : Int32)
  · replace hf := (if_pos c40).symm.trans hf
    refine w_tableIn 129 dX8_test_1 (by rw [c40]; decide) (by rw [c40]; decide) (by rw [c40]; rfl) (by decide) ?_
    refine w_aload_n dX8_test_129 rfl rfl ?_
    refine w_iconst dX8_test_130 (v := 1) (by decide) ?_
    obtain ⟨_, b41, hf⟩ := Option.bind_eq_some_iff.mp hf
    refine x_ctI hf (e_stV (Yc := YX8_compare) (ci := 7) (av := [.int (1 : Int32)]) (st := []) dX8_test_131 q2706 mX8_compare rfl (k_ok_some b41).1 (k_ok_some b41).2) mX8_compare.2.2.1 mX8_compare.2.2.2.2.1 (Nat.le_of_ble_eq_true rfl) (Nat.le_of_ble_eq_true rfl) rfl (fun q hq => pX8_compare (by omega) hdr hrE hrN hq) (fun x42 h43 hf => ?_)
    obtain ⟨b44, rfl⟩ := z_r_some hf
    exact w_iret dX8_test_134 rfl b44 rfl
  replace hf := (if_neg c40).symm.trans hf
  by_cases c45 : p0 = (12 : Int32)
  · replace hf := (if_pos c45).symm.trans hf
    refine w_tableIn 182 dX8_test_1 (by rw [c45]; decide) (by rw [c45]; decide) (by rw [c45]; rfl) (by decide) ?_
    refine w_aload_n dX8_test_182 rfl rfl ?_
    obtain ⟨_, b46, hf⟩ := Option.bind_eq_some_iff.mp hf
    refine x_ctI hf (e_stV (Yc := YX8_number) (ci := 7) (av := []) (st := []) dX8_test_183 q2590 mX8_number rfl (k_ok_some b46).1 (k_ok_some b46).2) mX8_number.2.2.1 mX8_number.2.2.2.2.1 (Nat.le_of_ble_eq_true rfl) (Nat.le_of_ble_eq_true rfl) rfl (fun q hq => (hrN _ _ _ hq).up (by omega)) (fun x47 h48 hf => ?_)
    refine w_iconst dX8_test_186 (v := 2) (by decide) ?_
    refine w_irem dX8_test_187 (by decide) ?_
    refine w_if_eq 195 dX8_test_188 (by decide) (fun c49 => ?_) (fun c49 => ?_)
    · replace hf := (if_pos (show (x47 - x47 / (2 : Int32) * (2 : Int32)) = 0 from c49)).symm.trans hf
      refine w_iconst dX8_test_195 (v := 0) (by decide) ?_
      exact (pX8_test_b196 hd hdr hrE hrN hf).to trivial
    · replace hf := (if_neg (show ¬ ((x47 - x47 / (2 : Int32) * (2 : Int32)) = 0) from c49)).symm.trans hf
      refine w_iconst dX8_test_191 (v := 1) (by decide) ?_
      refine w_goto 196 dX8_test_192 (by decide) ?_
      exact (pX8_test_b196 hd hdr hrE hrN hf).to trivial
  replace hf := (if_neg c45).symm.trans hf
  by_cases c50 : p0 = (13 : Int32)
  · replace hf := (if_pos c50).symm.trans hf
    refine w_tableIn 135 dX8_test_1 (by rw [c50]; decide) (by rw [c50]; decide) (by rw [c50]; rfl) (by decide) ?_
    refine w_aload_n dX8_test_135 rfl rfl ?_
    obtain ⟨x51, b52, hf⟩ := Option.bind_eq_some_iff.mp hf
    refine GX8_561 b52 dX8_test_136 rfl ?_
    obtain ⟨b53, rfl⟩ := z_r_some hf
    exact w_iret dX8_test_139 rfl b53 rfl
  replace hf := (if_neg c50).symm.trans hf
  by_cases c54 : p0 = (14 : Int32)
  · replace hf := (if_pos c54).symm.trans hf
    refine w_tableIn 140 dX8_test_1 (by rw [c54]; decide) (by rw [c54]; decide) (by rw [c54]; rfl) (by decide) ?_
    refine w_aload_n dX8_test_140 rfl rfl ?_
    obtain ⟨x55, b56, hf⟩ := Option.bind_eq_some_iff.mp hf
    refine GX8_561 b56 dX8_test_141 rfl ?_
    refine w_if_ne 151 dX8_test_144 (by decide) (fun c57 => ?_) (fun c57 => ?_)
    · replace hf := (if_pos (show ¬ x55 = 0 from c57)).symm.trans hf
      refine w_iconst dX8_test_151 (v := 0) (by decide) ?_
      exact (pX8_test_b152 hd hdr hrE hrN hf).to trivial
    · replace hf := (if_neg (show ¬ (¬ x55 = 0) from (fun z => z c57))).symm.trans hf
      refine w_iconst dX8_test_147 (v := 1) (by decide) ?_
      refine w_goto 152 dX8_test_148 (by decide) ?_
      exact (pX8_test_b152 hd hdr hrE hrN hf).to trivial
  replace hf := (if_neg c54).symm.trans hf
  by_cases c58 : p0 = (15 : Int32)
  · replace hf := (if_pos c58).symm.trans hf
    refine w_tableIn 153 dX8_test_1 (by rw [c58]; decide) (by rw [c58]; decide) (by rw [c58]; rfl) (by decide) ?_
    refine w_aload_n dX8_test_153 rfl rfl ?_
    obtain ⟨a59, b60, hf⟩ := Option.bind_eq_some_iff.mp hf
    refine GX8_12 b60 dX8_test_154 rfl ?_
    obtain ⟨a61, b62, hf⟩ := Option.bind_eq_some_iff.mp hf
    refine GX8_357 b62 dX8_test_157 rfl ?_
    refine w_sipush dX8_test_160 (v := 1583) (by decide) ?_
    refine w_aload_n dX8_test_163 rfl rfl ?_
    refine w_sipush dX8_test_164 (v := 255) (by decide) ?_
    obtain ⟨_, b63, hf⟩ := Option.bind_eq_some_iff.mp hf
    refine x_ctI hf (e_stV (Yc := YX8_within) (ci := 7) (av := [.int (255 : Int32)]) (st := [.int (1583 : Int32), .ref a61]) dX8_test_167 q2633 mX8_within rfl (k_ok_some b63).1 (k_ok_some b63).2) mX8_within.2.2.1 mX8_within.2.2.2.2.1 (Nat.le_of_ble_eq_true rfl) (Nat.le_of_ble_eq_true rfl) rfl (fun q hq => pX8_within (by omega) hdr hrN hq) (fun x64 h65 hf => ?_)
    refine w_iadd dX8_test_170 ?_
    obtain ⟨x66, b67, hf⟩ := Option.bind_eq_some_iff.mp hf
    refine x_rI b67 dX8_test_171 ?_
    refine w_iconst dX8_test_172 (v := -1) (by decide) ?_
    refine w_icmp_ne 180 dX8_test_173 (by decide) (fun c68 => ?_) (fun c68 => ?_)
    · replace hf := (if_pos (show ¬ x66 = (-1 : Int32) from c68)).symm.trans hf
      refine w_iconst dX8_test_180 (v := 0) (by decide) ?_
      exact (pX8_test_b181 hd hdr hrE hrN hf).to trivial
    · replace hf := (if_neg (show ¬ (¬ x66 = (-1 : Int32)) from (fun z => z c68))).symm.trans hf
      refine w_iconst dX8_test_176 (v := 1) (by decide) ?_
      refine w_goto 181 dX8_test_177 (by decide) ?_
      exact (pX8_test_b181 hd hdr hrE hrN hf).to trivial
  replace hf := (if_neg c58).symm.trans hf
  refine w_tableOut 197 dX8_test_1 (by have n0 := sw_ne c1 (by decide : (7 : Int32).toInt = 7); have n1 := sw_ne c13 (by decide : (8 : Int32).toInt = 8); have n2 := sw_ne c25 (by decide : (9 : Int32).toInt = 9); have n3 := sw_ne c35 (by decide : (10 : Int32).toInt = 10); have n4 := sw_ne c40 (by decide : (11 : Int32).toInt = 11); have n5 := sw_ne c45 (by decide : (12 : Int32).toInt = 12); have n6 := sw_ne c50 (by decide : (13 : Int32).toInt = 13); have n7 := sw_ne c54 (by decide : (14 : Int32).toInt = 14); have n8 := sw_ne c58 (by decide : (15 : Int32).toInt = 15); omega) (by decide) ?_
  refine w_iload_n dX8_test_197 rfl rfl ?_
  refine w_bipush dX8_test_198 (v := 16) (by decide) ?_
  refine w_icmp_ne 207 dX8_test_200 (by decide) (fun c69 => ?_) (fun c69 => ?_)
  · replace hf := (if_pos (show ¬ p0 = (16 : Int32) from c69)).symm.trans hf
    refine w_iconst dX8_test_207 (v := 0) (by decide) ?_
    exact (pX8_test_b208 hd hdr hrE hrN hf).to trivial
  · replace hf := (if_neg (show ¬ (¬ p0 = (16 : Int32)) from (fun z => z c69))).symm.trans hf
    refine w_iconst dX8_test_203 (v := 1) (by decide) ?_
    refine w_goto 208 dX8_test_204 (by decide) ?_
    exact (pX8_test_b208 hd hdr hrE hrN hf).to trivial
