set_option maxRecDepth 100000
set_option maxHeartbeats 4000000
theorem q474 : (Jvm.Cond.initialized "java/lang/IllegalArgumentException") ∈ lw_all := lw_g (lw_at lw_m1 49 rfl) rfl
theorem q520 : (Jvm.Cond.fieldLink "TypeHouse$Trouble" (7 : Nat) "TypeHouse$Trouble" "fault" "I") ∈ lw_all := lw_g (lw_at lw_m1 95 rfl) rfl
theorem q742 : (Jvm.Cond.fieldLink "TypeHouse$SourceLines" (41 : Nat) "TypeHouse$SourceLines" "size" "I") ∈ lw_all := lw_g (lw_at lw_m2 77 rfl) rfl
theorem q747 : (Jvm.Cond.fieldLink "TypeHouse$SourceLines" (44 : Nat) "TypeHouse$SourceLines" "state" "I") ∈ lw_all := lw_g (lw_at lw_m2 82 rfl) rfl
theorem q976 : (Jvm.Cond.fieldLinkNest "TypeHouse$Hyphenator" (94 : Nat) "TypeHouse$Trie" "letters" "I" "TypeHouse") ∈ lw_tbl := lw_at lw_m3 71 rfl
theorem q978 : (Jvm.Cond.fieldLink "TypeHouse$Trie" (105 : Nat) "TypeHouse$Trie" "sinceCount" "I") ∈ lw_all := lw_g (lw_at lw_m3 73 rfl) rfl
theorem q979 : (Jvm.Cond.fieldLink "TypeHouse$Trie" (108 : Nat) "TypeHouse$Trie" "oldNodes" "I") ∈ lw_all := lw_g (lw_at lw_m3 74 rfl) rfl
theorem q980 : (Jvm.Cond.fieldLink "TypeHouse$Trie" (111 : Nat) "TypeHouse$Trie" "oldLinks" "I") ∈ lw_all := lw_g (lw_at lw_m3 75 rfl) rfl
theorem q981 : (Jvm.Cond.fieldLink "TypeHouse$Trie" (114 : Nat) "TypeHouse$Trie" "oldPatterns" "I") ∈ lw_all := lw_g (lw_at lw_m3 76 rfl) rfl
theorem q982 : (Jvm.Cond.fieldLink "TypeHouse$Trie" (117 : Nat) "TypeHouse$Trie" "oldLetters" "I") ∈ lw_all := lw_g (lw_at lw_m3 77 rfl) rfl
theorem q983 : (Jvm.Cond.fieldLink "TypeHouse$Trie" (120 : Nat) "TypeHouse$Trie" "wasPacked" "Z") ∈ lw_all := lw_g (lw_at lw_m3 78 rfl) rfl
theorem q1050 : (Jvm.Cond.fieldLinkNest "TypeHouse$Hyphenator" (110 : Nat) "TypeHouse$ToldWords" "used" "I" "TypeHouse") ∈ lw_tbl := lw_at lw_m3 145 rfl
theorem q1051 : (Jvm.Cond.fieldLink "TypeHouse$ToldWords" (69 : Nat) "TypeHouse$ToldWords" "oldCount" "I") ∈ lw_all := lw_g (lw_at lw_m3 146 rfl) rfl
theorem q1052 : (Jvm.Cond.fieldLink "TypeHouse$ToldWords" (72 : Nat) "TypeHouse$ToldWords" "oldUsed" "I") ∈ lw_all := lw_g (lw_at lw_m3 147 rfl) rfl
theorem q1055 : (Jvm.Cond.fieldLink "TypeHouse$ToldWords" (63 : Nat) "TypeHouse$ToldWords" "changes" "I") ∈ lw_all := lw_g (lw_at lw_m3 150 rfl) rfl
theorem q1089 : (Jvm.Cond.fieldLinkNest "TypeHouse$ToldWords" (48 : Nat) "TypeHouse$Letters" "letters" "[B" "TypeHouse") ∈ lw_tbl := lw_at lw_m3 184 rfl
theorem q1090 : (Jvm.Cond.fieldLinkNest "TypeHouse$Trie" (92 : Nat) "TypeHouse$Letters" "letters" "[B" "TypeHouse") ∈ lw_tbl := lw_at lw_m3 185 rfl
theorem q1092 : (Jvm.Cond.fieldLinkNest "TypeHouse$ToldWords" (66 : Nat) "TypeHouse$Letters" "numbers" "[B" "TypeHouse") ∈ lw_tbl := lw_at lw_m3 187 rfl
theorem q1093 : (Jvm.Cond.fieldLinkNest "TypeHouse$Hyphenator" (57 : Nat) "TypeHouse$Letters" "numbers" "[B" "TypeHouse") ∈ lw_tbl := lw_at lw_m3 188 rfl
theorem q1094 : (Jvm.Cond.fieldLinkNest "TypeHouse$Trie" (98 : Nat) "TypeHouse$Letters" "numbers" "[B" "TypeHouse") ∈ lw_tbl := lw_at lw_m3 189 rfl
theorem q1095 : (Jvm.Cond.fieldLink "TypeHouse$Letters" (18 : Nat) "TypeHouse$Letters" "size" "I") ∈ lw_all := lw_g (lw_at lw_m3 190 rfl) rfl
theorem q1096 : (Jvm.Cond.fieldLinkNest "TypeHouse$ToldWords" (43 : Nat) "TypeHouse$Letters" "size" "I" "TypeHouse") ∈ lw_tbl := lw_at lw_m3 191 rfl
theorem q1097 : (Jvm.Cond.fieldLinkNest "TypeHouse$Trie" (87 : Nat) "TypeHouse$Letters" "size" "I" "TypeHouse") ∈ lw_tbl := lw_at lw_m3 192 rfl
theorem q1098 : (Jvm.Cond.fieldLinkNest "TypeHouse$Hyphenator" (60 : Nat) "TypeHouse$Letters" "size" "I" "TypeHouse") ∈ lw_tbl := lw_at lw_m3 193 rfl
theorem q1110 : (Jvm.Cond.fieldLink "TypeHouse$Hyphenator" (42 : Nat) "TypeHouse$Hyphenator" "text" "[B") ∈ lw_all := lw_g (lw_at lw_m3 205 rfl) rfl
theorem q1111 : (Jvm.Cond.fieldLink "TypeHouse$Hyphenator" (39 : Nat) "TypeHouse$Hyphenator" "size" "I") ∈ lw_all := lw_g (lw_at lw_m3 206 rfl) rfl
theorem q1112 : (Jvm.Cond.fieldLink "TypeHouse$Hyphenator" (35 : Nat) "TypeHouse$Hyphenator" "at" "I") ∈ lw_all := lw_g (lw_at lw_m3 207 rfl) rfl
theorem q1113 : (Jvm.Cond.fieldLink "TypeHouse$Hyphenator" (47 : Nat) "TypeHouse$Hyphenator" "fault" "I") ∈ lw_all := lw_g (lw_at lw_m3 208 rfl) rfl
theorem q2174 : (Jvm.Cond.instantiable "java/lang/IllegalArgumentException" (6 : Nat)) ∈ lw_all := lw_g (lw_at lw_m8 69 rfl) rfl
theorem q2205 : (Jvm.Cond.instanceMethod ({ cls := "TypeHouse$FontTable", name := "load", desc := "(ILTypeHouse$FontFile;)I" } : Jvm.MethodName)) ∈ lw_all := lw_g (lw_at lw_m8 100 rfl) rfl
theorem q2206 : (Jvm.Cond.selects "TypeHouse$FontTable" ({ cls := "TypeHouse$FontTable", name := "load", desc := "(ILTypeHouse$FontFile;)I" } : Jvm.MethodName) ({ cls := "TypeHouse$FontTable", name := "load", desc := "(ILTypeHouse$FontFile;)I" } : Jvm.MethodName)) ∈ lw_all := lw_g (lw_at lw_m8 101 rfl) rfl
theorem q2207 : (Jvm.Cond.code ({ cls := "TypeHouse$FontTable", name := "load", desc := "(ILTypeHouse$FontFile;)I" } : Jvm.MethodName) prog_9_method_3_code (4 : Nat) (Option.some Jvm.ClassFile.FieldType.int)) ∈ lw_all := lw_g (lw_at lw_m8 102 rfl) rfl
theorem q2208 : (Jvm.Cond.methodLinkNest "TypeHouse$FontTable" (52 : Nat) ({ cls := "TypeHouse$Font", name := "check", desc := "(LTypeHouse$FontFile;)I" } : Jvm.MethodName) "TypeHouse") ∈ lw_tbl := lw_at lw_m8 103 rfl
theorem q2298 : (Jvm.Cond.methodLinkNest "TypeHouse$FontTable" (56 : Nat) ({ cls := "TypeHouse$FontFile", name := "<init>", desc := "()V" } : Jvm.MethodName) "TypeHouse") ∈ lw_tbl := lw_at lw_m8 193 rfl
theorem q2299 : (Jvm.Cond.methodLink "TypeHouse$FontTable" (57 : Nat) ({ cls := "TypeHouse$FontFile", name := "become", desc := "(LTypeHouse$FontFile;)V" } : Jvm.MethodName)) ∈ lw_all := lw_g (lw_at lw_m8 194 rfl) rfl
theorem q2300 : (Jvm.Cond.instanceMethod ({ cls := "TypeHouse$FontFile", name := "become", desc := "(LTypeHouse$FontFile;)V" } : Jvm.MethodName)) ∈ lw_all := lw_g (lw_at lw_m8 195 rfl) rfl
theorem q2301 : (Jvm.Cond.selects "TypeHouse$FontFile" ({ cls := "TypeHouse$FontFile", name := "become", desc := "(LTypeHouse$FontFile;)V" } : Jvm.MethodName) ({ cls := "TypeHouse$FontFile", name := "become", desc := "(LTypeHouse$FontFile;)V" } : Jvm.MethodName)) ∈ lw_all := lw_g (lw_at lw_m8 196 rfl) rfl
theorem q2302 : (Jvm.Cond.code ({ cls := "TypeHouse$FontFile", name := "become", desc := "(LTypeHouse$FontFile;)V" } : Jvm.MethodName) prog_8_method_3_code (2 : Nat) (Option.none : Option Jvm.ClassFile.FieldType)) ∈ lw_all := lw_g (lw_at lw_m8 197 rfl) rfl
theorem q2304 : (Jvm.Cond.instanceMethod ({ cls := "TypeHouse$Hyphenator", name := "read", desc := "([BIZ)I" } : Jvm.MethodName)) ∈ lw_all := lw_g (lw_at lw_m8 199 rfl) rfl
theorem q2305 : (Jvm.Cond.selects "TypeHouse$Hyphenator" ({ cls := "TypeHouse$Hyphenator", name := "read", desc := "([BIZ)I" } : Jvm.MethodName) ({ cls := "TypeHouse$Hyphenator", name := "read", desc := "([BIZ)I" } : Jvm.MethodName)) ∈ lw_all := lw_g (lw_at lw_m8 200 rfl) rfl
theorem q2306 : (Jvm.Cond.codeWith ({ cls := "TypeHouse$Hyphenator", name := "read", desc := "([BIZ)I" } : Jvm.MethodName) prog_10_method_12_code (6 : Nat) (Option.some Jvm.ClassFile.FieldType.int) [((32 : Nat), (72 : Nat), (75 : Nat), (50 : Nat))]) ∈ lw_all := lw_g (lw_at lw_m8 201 rfl) rfl
theorem q2307 : (Jvm.Cond.classLink "TypeHouse$Hyphenator" (50 : Nat) "java/lang/IllegalArgumentException") ∈ lw_all := lw_g (lw_at lw_m8 202 rfl) rfl
theorem q2308 : (Jvm.Cond.methodLink "TypeHouse$Hyphenator" (114 : Nat) ({ cls := "TypeHouse$Trie", name := "mark", desc := "()V" } : Jvm.MethodName)) ∈ lw_all := lw_g (lw_at lw_m8 203 rfl) rfl
theorem q2309 : (Jvm.Cond.instanceMethod ({ cls := "TypeHouse$Trie", name := "mark", desc := "()V" } : Jvm.MethodName)) ∈ lw_all := lw_g (lw_at lw_m8 204 rfl) rfl
theorem q2310 : (Jvm.Cond.selects "TypeHouse$Trie" ({ cls := "TypeHouse$Trie", name := "mark", desc := "()V" } : Jvm.MethodName) ({ cls := "TypeHouse$Trie", name := "mark", desc := "()V" } : Jvm.MethodName)) ∈ lw_all := lw_g (lw_at lw_m8 205 rfl) rfl
theorem q2311 : (Jvm.Cond.code ({ cls := "TypeHouse$Trie", name := "mark", desc := "()V" } : Jvm.MethodName) prog_33_method_8_code (1 : Nat) (Option.none : Option Jvm.ClassFile.FieldType)) ∈ lw_all := lw_g (lw_at lw_m8 206 rfl) rfl
theorem q2312 : (Jvm.Cond.methodLink "TypeHouse$Hyphenator" (117 : Nat) ({ cls := "TypeHouse$ToldWords", name := "mark", desc := "()V" } : Jvm.MethodName)) ∈ lw_all := lw_g (lw_at lw_m8 207 rfl) rfl
theorem q2313 : (Jvm.Cond.instanceMethod ({ cls := "TypeHouse$ToldWords", name := "mark", desc := "()V" } : Jvm.MethodName)) ∈ lw_all := lw_g (lw_at lw_m8 208 rfl) rfl
theorem q2314 : (Jvm.Cond.selects "TypeHouse$ToldWords" ({ cls := "TypeHouse$ToldWords", name := "mark", desc := "()V" } : Jvm.MethodName) ({ cls := "TypeHouse$ToldWords", name := "mark", desc := "()V" } : Jvm.MethodName)) ∈ lw_all := lw_g (lw_at lw_m8 209 rfl) rfl
theorem q2315 : (Jvm.Cond.code ({ cls := "TypeHouse$ToldWords", name := "mark", desc := "()V" } : Jvm.MethodName) prog_32_method_7_code (1 : Nat) (Option.none : Option Jvm.ClassFile.FieldType)) ∈ lw_all := lw_g (lw_at lw_m8 210 rfl) rfl
theorem q2316 : (Jvm.Cond.methodLink "TypeHouse$Hyphenator" (118 : Nat) ({ cls := "TypeHouse$Hyphenator", name := "spaces", desc := "()V" } : Jvm.MethodName)) ∈ lw_all := lw_g (lw_at lw_m8 211 rfl) rfl
theorem q2318 : (Jvm.Cond.instanceMethod ({ cls := "TypeHouse$Hyphenator", name := "spaces", desc := "()V" } : Jvm.MethodName)) ∈ lw_all := lw_g (lw_at lw_m8 213 rfl) rfl
theorem q2319 : (Jvm.Cond.code ({ cls := "TypeHouse$Hyphenator", name := "spaces", desc := "()V" } : Jvm.MethodName) prog_10_method_6_code (1 : Nat) (Option.none : Option Jvm.ClassFile.FieldType)) ∈ lw_all := lw_g (lw_at lw_m8 214 rfl) rfl
theorem q2320 : (Jvm.Cond.methodLink "TypeHouse$Hyphenator" (53 : Nat) ({ cls := "TypeHouse$Hyphenator", name := "next", desc := "()I" } : Jvm.MethodName)) ∈ lw_all := lw_g (lw_at lw_m8 215 rfl) rfl
theorem q2322 : (Jvm.Cond.instanceMethod ({ cls := "TypeHouse$Hyphenator", name := "next", desc := "()I" } : Jvm.MethodName)) ∈ lw_all := lw_g (lw_at lw_m8 217 rfl) rfl
theorem q2323 : (Jvm.Cond.code ({ cls := "TypeHouse$Hyphenator", name := "next", desc := "()I" } : Jvm.MethodName) prog_10_method_4_code (1 : Nat) (Option.some Jvm.ClassFile.FieldType.int)) ∈ lw_all := lw_g (lw_at lw_m8 218 rfl) rfl
theorem q2324 : (Jvm.Cond.methodLink "TypeHouse$Hyphenator" (121 : Nat) ({ cls := "TypeHouse$Hyphenator", name := "readWord", desc := "()V" } : Jvm.MethodName)) ∈ lw_all := lw_g (lw_at lw_m8 219 rfl) rfl
theorem q2326 : (Jvm.Cond.instanceMethod ({ cls := "TypeHouse$Hyphenator", name := "readWord", desc := "()V" } : Jvm.MethodName)) ∈ lw_all := lw_g (lw_at lw_m8 221 rfl) rfl
theorem q2327 : (Jvm.Cond.code ({ cls := "TypeHouse$Hyphenator", name := "readWord", desc := "()V" } : Jvm.MethodName) prog_10_method_11_code (5 : Nat) (Option.none : Option Jvm.ClassFile.FieldType)) ∈ lw_all := lw_g (lw_at lw_m8 222 rfl) rfl
theorem q2328 : (Jvm.Cond.methodLink "TypeHouse$Hyphenator" (73 : Nat) ({ cls := "TypeHouse$Letters", name := "clear", desc := "()V" } : Jvm.MethodName)) ∈ lw_all := lw_g (lw_at lw_m8 223 rfl) rfl
theorem q2329 : (Jvm.Cond.instanceMethod ({ cls := "TypeHouse$Letters", name := "clear", desc := "()V" } : Jvm.MethodName)) ∈ lw_all := lw_g (lw_at lw_m8 224 rfl) rfl
theorem q2330 : (Jvm.Cond.selects "TypeHouse$Letters" ({ cls := "TypeHouse$Letters", name := "clear", desc := "()V" } : Jvm.MethodName) ({ cls := "TypeHouse$Letters", name := "clear", desc := "()V" } : Jvm.MethodName)) ∈ lw_all := lw_g (lw_at lw_m8 225 rfl) rfl
theorem q2331 : (Jvm.Cond.code ({ cls := "TypeHouse$Letters", name := "clear", desc := "()V" } : Jvm.MethodName) prog_12_method_2_code (1 : Nat) (Option.none : Option Jvm.ClassFile.FieldType)) ∈ lw_all := lw_g (lw_at lw_m8 226 rfl) rfl
theorem q2332 : (Jvm.Cond.methodLink "TypeHouse$Hyphenator" (87 : Nat) ({ cls := "TypeHouse$Hyphenator", name := "readLetter", desc := "(I)V" } : Jvm.MethodName)) ∈ lw_all := lw_g (lw_at lw_m8 227 rfl) rfl
theorem q2334 : (Jvm.Cond.instanceMethod ({ cls := "TypeHouse$Hyphenator", name := "readLetter", desc := "(I)V" } : Jvm.MethodName)) ∈ lw_all := lw_g (lw_at lw_m8 229 rfl) rfl
theorem q2335 : (Jvm.Cond.code ({ cls := "TypeHouse$Hyphenator", name := "readLetter", desc := "(I)V" } : Jvm.MethodName) prog_10_method_8_code (3 : Nat) (Option.none : Option Jvm.ClassFile.FieldType)) ∈ lw_all := lw_g (lw_at lw_m8 230 rfl) rfl
theorem q2336 : (Jvm.Cond.methodLink "TypeHouse$Hyphenator" (61 : Nat) ({ cls := "TypeHouse$Hyphenator", name := "letter", desc := "(I)I" } : Jvm.MethodName)) ∈ lw_all := lw_g (lw_at lw_m8 231 rfl) rfl
theorem q2337 : (Jvm.Cond.static ({ cls := "TypeHouse$Hyphenator", name := "letter", desc := "(I)I" } : Jvm.MethodName)) ∈ lw_all := lw_g (lw_at lw_m8 232 rfl) rfl
theorem q2338 : (Jvm.Cond.code ({ cls := "TypeHouse$Hyphenator", name := "letter", desc := "(I)I" } : Jvm.MethodName) prog_10_method_2_code (1 : Nat) (Option.some Jvm.ClassFile.FieldType.int)) ∈ lw_all := lw_g (lw_at lw_m8 233 rfl) rfl
theorem q2339 : (Jvm.Cond.methodLink "TypeHouse$Hyphenator" (65 : Nat) ({ cls := "TypeHouse$Hyphenator", name := "want", desc := "(ZII)V" } : Jvm.MethodName)) ∈ lw_all := lw_g (lw_at lw_m8 234 rfl) rfl
theorem q2341 : (Jvm.Cond.instanceMethod ({ cls := "TypeHouse$Hyphenator", name := "want", desc := "(ZII)V" } : Jvm.MethodName)) ∈ lw_all := lw_g (lw_at lw_m8 236 rfl) rfl
theorem q2342 : (Jvm.Cond.code ({ cls := "TypeHouse$Hyphenator", name := "want", desc := "(ZII)V" } : Jvm.MethodName) prog_10_method_5_code (4 : Nat) (Option.none : Option Jvm.ClassFile.FieldType)) ∈ lw_all := lw_g (lw_at lw_m8 237 rfl) rfl
theorem q2343 : (Jvm.Cond.constant "TypeHouse$Hyphenator" (46 : Nat) (-100000 : Int32)) ∈ lw_all := lw_g (lw_at lw_m8 238 rfl) rfl
theorem q2344 : (Jvm.Cond.methodLink "TypeHouse$Hyphenator" (52 : Nat) ({ cls := "java/lang/IllegalArgumentException", name := "<init>", desc := "()V" } : Jvm.MethodName)) ∈ lw_all := lw_g (lw_at lw_m8 239 rfl) rfl
theorem q2345 : (Jvm.Cond.methodLink "TypeHouse$Hyphenator" (69 : Nat) ({ cls := "TypeHouse$Letters", name := "add", desc := "(I)V" } : Jvm.MethodName)) ∈ lw_all := lw_g (lw_at lw_m9 0 rfl) rfl
theorem q2346 : (Jvm.Cond.instanceMethod ({ cls := "TypeHouse$Letters", name := "add", desc := "(I)V" } : Jvm.MethodName)) ∈ lw_all := lw_g (lw_at lw_m9 1 rfl) rfl
theorem q2347 : (Jvm.Cond.selects "TypeHouse$Letters" ({ cls := "TypeHouse$Letters", name := "add", desc := "(I)V" } : Jvm.MethodName) ({ cls := "TypeHouse$Letters", name := "add", desc := "(I)V" } : Jvm.MethodName)) ∈ lw_all := lw_g (lw_at lw_m9 2 rfl) rfl
theorem q2348 : (Jvm.Cond.code ({ cls := "TypeHouse$Letters", name := "add", desc := "(I)V" } : Jvm.MethodName) prog_12_method_3_code (2 : Nat) (Option.none : Option Jvm.ClassFile.FieldType)) ∈ lw_all := lw_g (lw_at lw_m9 3 rfl) rfl
theorem q2349 : (Jvm.Cond.methodLink "TypeHouse$Hyphenator" (83 : Nat) ({ cls := "TypeHouse$Hyphenator", name := "isOver", desc := "()Z" } : Jvm.MethodName)) ∈ lw_all := lw_g (lw_at lw_m9 4 rfl) rfl
theorem q2351 : (Jvm.Cond.instanceMethod ({ cls := "TypeHouse$Hyphenator", name := "isOver", desc := "()Z" } : Jvm.MethodName)) ∈ lw_all := lw_g (lw_at lw_m9 6 rfl) rfl
theorem q2352 : (Jvm.Cond.code ({ cls := "TypeHouse$Hyphenator", name := "isOver", desc := "()Z" } : Jvm.MethodName) prog_10_method_9_code (1 : Nat) (Option.some Jvm.ClassFile.FieldType.boolean)) ∈ lw_all := lw_g (lw_at lw_m9 7 rfl) rfl
theorem q2353 : (Jvm.Cond.methodLink "TypeHouse$Hyphenator" (103 : Nat) ({ cls := "TypeHouse$ToldWords", name := "find", desc := "(LTypeHouse$Letters;)I" } : Jvm.MethodName)) ∈ lw_all := lw_g (lw_at lw_m9 8 rfl) rfl
theorem q2354 : (Jvm.Cond.instanceMethod ({ cls := "TypeHouse$ToldWords", name := "find", desc := "(LTypeHouse$Letters;)I" } : Jvm.MethodName)) ∈ lw_all := lw_g (lw_at lw_m9 9 rfl) rfl
theorem q2355 : (Jvm.Cond.selects "TypeHouse$ToldWords" ({ cls := "TypeHouse$ToldWords", name := "find", desc := "(LTypeHouse$Letters;)I" } : Jvm.MethodName) ({ cls := "TypeHouse$ToldWords", name := "find", desc := "(LTypeHouse$Letters;)I" } : Jvm.MethodName)) ∈ lw_all := lw_g (lw_at lw_m9 10 rfl) rfl
theorem q2356 : (Jvm.Cond.code ({ cls := "TypeHouse$ToldWords", name := "find", desc := "(LTypeHouse$Letters;)I" } : Jvm.MethodName) prog_32_method_5_code (2 : Nat) (Option.some Jvm.ClassFile.FieldType.int)) ∈ lw_all := lw_g (lw_at lw_m9 11 rfl) rfl
theorem q2357 : (Jvm.Cond.methodLink "TypeHouse$ToldWords" (53 : Nat) ({ cls := "TypeHouse$ToldWords", name := "seek", desc := "(LTypeHouse$Letters;)I" } : Jvm.MethodName)) ∈ lw_all := lw_g (lw_at lw_m9 12 rfl) rfl
theorem q2359 : (Jvm.Cond.instanceMethod ({ cls := "TypeHouse$ToldWords", name := "seek", desc := "(LTypeHouse$Letters;)I" } : Jvm.MethodName)) ∈ lw_all := lw_g (lw_at lw_m9 14 rfl) rfl
theorem q2360 : (Jvm.Cond.code ({ cls := "TypeHouse$ToldWords", name := "seek", desc := "(LTypeHouse$Letters;)I" } : Jvm.MethodName) prog_32_method_4_code (4 : Nat) (Option.some Jvm.ClassFile.FieldType.int)) ∈ lw_all := lw_g (lw_at lw_m9 15 rfl) rfl
theorem q2361 : (Jvm.Cond.methodLink "TypeHouse$ToldWords" (49 : Nat) ({ cls := "TypeHouse$ToldWords", name := "is", desc := "(ILTypeHouse$Letters;)Z" } : Jvm.MethodName)) ∈ lw_all := lw_g (lw_at lw_m9 16 rfl) rfl
theorem q2363 : (Jvm.Cond.instanceMethod ({ cls := "TypeHouse$ToldWords", name := "is", desc := "(ILTypeHouse$Letters;)Z" } : Jvm.MethodName)) ∈ lw_all := lw_g (lw_at lw_m9 18 rfl) rfl
theorem q2364 : (Jvm.Cond.code ({ cls := "TypeHouse$ToldWords", name := "is", desc := "(ILTypeHouse$Letters;)Z" } : Jvm.MethodName) prog_32_method_3_code (5 : Nat) (Option.some Jvm.ClassFile.FieldType.boolean)) ∈ lw_all := lw_g (lw_at lw_m9 19 rfl) rfl
theorem q2365 : (Jvm.Cond.methodLink "TypeHouse$Hyphenator" (113 : Nat) ({ cls := "TypeHouse$ToldWords", name := "add", desc := "(LTypeHouse$Letters;)V" } : Jvm.MethodName)) ∈ lw_all := lw_g (lw_at lw_m9 20 rfl) rfl
theorem q2366 : (Jvm.Cond.instanceMethod ({ cls := "TypeHouse$ToldWords", name := "add", desc := "(LTypeHouse$Letters;)V" } : Jvm.MethodName)) ∈ lw_all := lw_g (lw_at lw_m9 21 rfl) rfl
theorem q2367 : (Jvm.Cond.selects "TypeHouse$ToldWords" ({ cls := "TypeHouse$ToldWords", name := "add", desc := "(LTypeHouse$Letters;)V" } : Jvm.MethodName) ({ cls := "TypeHouse$ToldWords", name := "add", desc := "(LTypeHouse$Letters;)V" } : Jvm.MethodName)) ∈ lw_all := lw_g (lw_at lw_m9 22 rfl) rfl
theorem q2368 : (Jvm.Cond.code ({ cls := "TypeHouse$ToldWords", name := "add", desc := "(LTypeHouse$Letters;)V" } : Jvm.MethodName) prog_32_method_6_code (7 : Nat) (Option.none : Option Jvm.ClassFile.FieldType)) ∈ lw_all := lw_g (lw_at lw_m9 23 rfl) rfl
theorem q2369 : (Jvm.Cond.methodLink "TypeHouse$ToldWords" (57 : Nat) ({ cls := "java/lang/System", name := "arraycopy", desc := "(Ljava/lang/Object;ILjava/lang/Object;II)V" } : Jvm.MethodName)) ∈ lw_all := lw_g (lw_at lw_m9 24 rfl) rfl
theorem q2370 : (Jvm.Cond.methodLink "TypeHouse$Hyphenator" (124 : Nat) ({ cls := "TypeHouse$Hyphenator", name := "readPattern", desc := "()V" } : Jvm.MethodName)) ∈ lw_all := lw_g (lw_at lw_m9 25 rfl) rfl
theorem q2372 : (Jvm.Cond.instanceMethod ({ cls := "TypeHouse$Hyphenator", name := "readPattern", desc := "()V" } : Jvm.MethodName)) ∈ lw_all := lw_g (lw_at lw_m9 27 rfl) rfl
theorem q2373 : (Jvm.Cond.code ({ cls := "TypeHouse$Hyphenator", name := "readPattern", desc := "()V" } : Jvm.MethodName) prog_10_method_10_code (4 : Nat) (Option.none : Option Jvm.ClassFile.FieldType)) ∈ lw_all := lw_g (lw_at lw_m9 28 rfl) rfl
theorem q2374 : (Jvm.Cond.methodLink "TypeHouse$Hyphenator" (76 : Nat) ({ cls := "TypeHouse$Hyphenator", name := "isDigit", desc := "(I)Z" } : Jvm.MethodName)) ∈ lw_all := lw_g (lw_at lw_m9 29 rfl) rfl
theorem q2375 : (Jvm.Cond.static ({ cls := "TypeHouse$Hyphenator", name := "isDigit", desc := "(I)Z" } : Jvm.MethodName)) ∈ lw_all := lw_g (lw_at lw_m9 30 rfl) rfl
theorem q2376 : (Jvm.Cond.code ({ cls := "TypeHouse$Hyphenator", name := "isDigit", desc := "(I)Z" } : Jvm.MethodName) prog_10_method_3_code (1 : Nat) (Option.some Jvm.ClassFile.FieldType.boolean)) ∈ lw_all := lw_g (lw_at lw_m9 31 rfl) rfl
theorem q2377 : (Jvm.Cond.methodLink "TypeHouse$Hyphenator" (80 : Nat) ({ cls := "TypeHouse$Hyphenator", name := "number", desc := "()V" } : Jvm.MethodName)) ∈ lw_all := lw_g (lw_at lw_m9 32 rfl) rfl
theorem q2379 : (Jvm.Cond.instanceMethod ({ cls := "TypeHouse$Hyphenator", name := "number", desc := "()V" } : Jvm.MethodName)) ∈ lw_all := lw_g (lw_at lw_m9 34 rfl) rfl
theorem q2380 : (Jvm.Cond.code ({ cls := "TypeHouse$Hyphenator", name := "number", desc := "()V" } : Jvm.MethodName) prog_10_method_7_code (1 : Nat) (Option.none : Option Jvm.ClassFile.FieldType)) ∈ lw_all := lw_g (lw_at lw_m9 35 rfl) rfl
theorem q2381 : (Jvm.Cond.methodLink "TypeHouse$Hyphenator" (90 : Nat) ({ cls := "TypeHouse$Trie", name := "has", desc := "(LTypeHouse$Letters;)Z" } : Jvm.MethodName)) ∈ lw_all := lw_g (lw_at lw_m9 36 rfl) rfl
theorem q2382 : (Jvm.Cond.instanceMethod ({ cls := "TypeHouse$Trie", name := "has", desc := "(LTypeHouse$Letters;)Z" } : Jvm.MethodName)) ∈ lw_all := lw_g (lw_at lw_m9 37 rfl) rfl
theorem q2383 : (Jvm.Cond.selects "TypeHouse$Trie" ({ cls := "TypeHouse$Trie", name := "has", desc := "(LTypeHouse$Letters;)Z" } : Jvm.MethodName) ({ cls := "TypeHouse$Trie", name := "has", desc := "(LTypeHouse$Letters;)Z" } : Jvm.MethodName)) ∈ lw_all := lw_g (lw_at lw_m9 38 rfl) rfl
theorem q2384 : (Jvm.Cond.code ({ cls := "TypeHouse$Trie", name := "has", desc := "(LTypeHouse$Letters;)Z" } : Jvm.MethodName) prog_33_method_5_code (4 : Nat) (Option.some Jvm.ClassFile.FieldType.boolean)) ∈ lw_all := lw_g (lw_at lw_m9 39 rfl) rfl
theorem q2385 : (Jvm.Cond.methodLink "TypeHouse$Trie" (94 : Nat) ({ cls := "TypeHouse$Trie", name := "child", desc := "(II)I" } : Jvm.MethodName)) ∈ lw_all := lw_g (lw_at lw_m9 40 rfl) rfl
theorem q2387 : (Jvm.Cond.instanceMethod ({ cls := "TypeHouse$Trie", name := "child", desc := "(II)I" } : Jvm.MethodName)) ∈ lw_all := lw_g (lw_at lw_m9 42 rfl) rfl
theorem q2388 : (Jvm.Cond.code ({ cls := "TypeHouse$Trie", name := "child", desc := "(II)I" } : Jvm.MethodName) prog_33_method_4_code (4 : Nat) (Option.some Jvm.ClassFile.FieldType.int)) ∈ lw_all := lw_g (lw_at lw_m9 43 rfl) rfl
theorem q2389 : (Jvm.Cond.methodLink "TypeHouse$Hyphenator" (100 : Nat) ({ cls := "TypeHouse$Trie", name := "add", desc := "(LTypeHouse$Letters;)V" } : Jvm.MethodName)) ∈ lw_all := lw_g (lw_at lw_m9 44 rfl) rfl
theorem q2390 : (Jvm.Cond.instanceMethod ({ cls := "TypeHouse$Trie", name := "add", desc := "(LTypeHouse$Letters;)V" } : Jvm.MethodName)) ∈ lw_all := lw_g (lw_at lw_m9 45 rfl) rfl
theorem q2391 : (Jvm.Cond.selects "TypeHouse$Trie" ({ cls := "TypeHouse$Trie", name := "add", desc := "(LTypeHouse$Letters;)V" } : Jvm.MethodName) ({ cls := "TypeHouse$Trie", name := "add", desc := "(LTypeHouse$Letters;)V" } : Jvm.MethodName)) ∈ lw_all := lw_g (lw_at lw_m9 46 rfl) rfl
theorem q2392 : (Jvm.Cond.code ({ cls := "TypeHouse$Trie", name := "add", desc := "(LTypeHouse$Letters;)V" } : Jvm.MethodName) prog_33_method_7_code (5 : Nat) (Option.none : Option Jvm.ClassFile.FieldType)) ∈ lw_all := lw_g (lw_at lw_m9 47 rfl) rfl
theorem q2393 : (Jvm.Cond.methodLink "TypeHouse$Trie" (101 : Nat) ({ cls := "TypeHouse$Trie", name := "link", desc := "(III)I" } : Jvm.MethodName)) ∈ lw_all := lw_g (lw_at lw_m9 48 rfl) rfl
theorem q2395 : (Jvm.Cond.instanceMethod ({ cls := "TypeHouse$Trie", name := "link", desc := "(III)I" } : Jvm.MethodName)) ∈ lw_all := lw_g (lw_at lw_m9 50 rfl) rfl
theorem q2396 : (Jvm.Cond.code ({ cls := "TypeHouse$Trie", name := "link", desc := "(III)I" } : Jvm.MethodName) prog_33_method_6_code (5 : Nat) (Option.some Jvm.ClassFile.FieldType.int)) ∈ lw_all := lw_g (lw_at lw_m9 51 rfl) rfl
theorem q2397 : (Jvm.Cond.methodLink "TypeHouse$Hyphenator" (127 : Nat) ({ cls := "TypeHouse$Trie", name := "undo", desc := "()V" } : Jvm.MethodName)) ∈ lw_all := lw_g (lw_at lw_m9 52 rfl) rfl
theorem q2398 : (Jvm.Cond.instanceMethod ({ cls := "TypeHouse$Trie", name := "undo", desc := "()V" } : Jvm.MethodName)) ∈ lw_all := lw_g (lw_at lw_m9 53 rfl) rfl
theorem q2399 : (Jvm.Cond.selects "TypeHouse$Trie" ({ cls := "TypeHouse$Trie", name := "undo", desc := "()V" } : Jvm.MethodName) ({ cls := "TypeHouse$Trie", name := "undo", desc := "()V" } : Jvm.MethodName)) ∈ lw_all := lw_g (lw_at lw_m9 54 rfl) rfl
theorem q2400 : (Jvm.Cond.code ({ cls := "TypeHouse$Trie", name := "undo", desc := "()V" } : Jvm.MethodName) prog_33_method_9_code (2 : Nat) (Option.none : Option Jvm.ClassFile.FieldType)) ∈ lw_all := lw_g (lw_at lw_m9 55 rfl) rfl
theorem q2401 : (Jvm.Cond.methodLink "TypeHouse$Hyphenator" (130 : Nat) ({ cls := "TypeHouse$ToldWords", name := "undo", desc := "(LTypeHouse$Letters;)V" } : Jvm.MethodName)) ∈ lw_all := lw_g (lw_at lw_m9 56 rfl) rfl
theorem q2402 : (Jvm.Cond.instanceMethod ({ cls := "TypeHouse$ToldWords", name := "undo", desc := "(LTypeHouse$Letters;)V" } : Jvm.MethodName)) ∈ lw_all := lw_g (lw_at lw_m9 57 rfl) rfl
theorem q2403 : (Jvm.Cond.selects "TypeHouse$ToldWords" ({ cls := "TypeHouse$ToldWords", name := "undo", desc := "(LTypeHouse$Letters;)V" } : Jvm.MethodName) ({ cls := "TypeHouse$ToldWords", name := "undo", desc := "(LTypeHouse$Letters;)V" } : Jvm.MethodName)) ∈ lw_all := lw_g (lw_at lw_m9 58 rfl) rfl
theorem q2404 : (Jvm.Cond.code ({ cls := "TypeHouse$ToldWords", name := "undo", desc := "(LTypeHouse$Letters;)V" } : Jvm.MethodName) prog_32_method_8_code (3 : Nat) (Option.none : Option Jvm.ClassFile.FieldType)) ∈ lw_all := lw_g (lw_at lw_m9 59 rfl) rfl
theorem q2405 : (Jvm.Cond.methodLink "TypeHouse$ToldWords" (75 : Nat) ({ cls := "TypeHouse$Letters", name := "clear", desc := "()V" } : Jvm.MethodName)) ∈ lw_all := lw_g (lw_at lw_m9 60 rfl) rfl
theorem q2406 : (Jvm.Cond.methodLink "TypeHouse$ToldWords" (78 : Nat) ({ cls := "TypeHouse$Letters", name := "add", desc := "(I)V" } : Jvm.MethodName)) ∈ lw_all := lw_g (lw_at lw_m9 61 rfl) rfl
theorem q2422 : (Jvm.Cond.instanceMethod ({ cls := "TypeHouse$Tokens", name := "get", desc := "()I" } : Jvm.MethodName)) ∈ lw_all := lw_g (lw_at lw_m9 77 rfl) rfl
theorem q2423 : (Jvm.Cond.selects "TypeHouse$Tokens" ({ cls := "TypeHouse$Tokens", name := "get", desc := "()I" } : Jvm.MethodName) ({ cls := "TypeHouse$Tokens", name := "get", desc := "()I" } : Jvm.MethodName)) ∈ lw_all := lw_g (lw_at lw_m9 78 rfl) rfl
theorem q2424 : (Jvm.Cond.code ({ cls := "TypeHouse$Tokens", name := "get", desc := "()I" } : Jvm.MethodName) prog_31_method_7_code (1 : Nat) (Option.some Jvm.ClassFile.FieldType.int)) ∈ lw_all := lw_g (lw_at lw_m9 79 rfl) rfl
theorem q2425 : (Jvm.Cond.methodLink "TypeHouse$Tokens" (47 : Nat) ({ cls := "TypeHouse$SourceLines", name := "read", desc := "()I" } : Jvm.MethodName)) ∈ lw_all := lw_g (lw_at lw_m9 80 rfl) rfl
theorem q2426 : (Jvm.Cond.instanceMethod ({ cls := "TypeHouse$SourceLines", name := "read", desc := "()I" } : Jvm.MethodName)) ∈ lw_all := lw_g (lw_at lw_m9 81 rfl) rfl
theorem q2427 : (Jvm.Cond.selects "TypeHouse$SourceLines" ({ cls := "TypeHouse$SourceLines", name := "read", desc := "()I" } : Jvm.MethodName) ({ cls := "TypeHouse$SourceLines", name := "read", desc := "()I" } : Jvm.MethodName)) ∈ lw_all := lw_g (lw_at lw_m9 82 rfl) rfl
theorem q2428 : (Jvm.Cond.code ({ cls := "TypeHouse$SourceLines", name := "read", desc := "()I" } : Jvm.MethodName) prog_29_method_7_code (3 : Nat) (Option.some Jvm.ClassFile.FieldType.int)) ∈ lw_all := lw_g (lw_at lw_m9 83 rfl) rfl
theorem q2429 : (Jvm.Cond.methodLink "TypeHouse$SourceLines" (73 : Nat) ({ cls := "TypeHouse$SourceLines", name := "nextLine", desc := "()Z" } : Jvm.MethodName)) ∈ lw_all := lw_g (lw_at lw_m9 84 rfl) rfl
theorem q2431 : (Jvm.Cond.instanceMethod ({ cls := "TypeHouse$SourceLines", name := "nextLine", desc := "()Z" } : Jvm.MethodName)) ∈ lw_all := lw_g (lw_at lw_m9 86 rfl) rfl
theorem q2432 : (Jvm.Cond.code ({ cls := "TypeHouse$SourceLines", name := "nextLine", desc := "()Z" } : Jvm.MethodName) prog_29_method_3_code (1 : Nat) (Option.some Jvm.ClassFile.FieldType.boolean)) ∈ lw_all := lw_g (lw_at lw_m9 87 rfl) rfl
theorem q2433 : (Jvm.Cond.methodLink "TypeHouse$SourceLines" (47 : Nat) ({ cls := "TypeHouse$SourceLines", name := "character", desc := "(I)I" } : Jvm.MethodName)) ∈ lw_all := lw_g (lw_at lw_m9 88 rfl) rfl
theorem q2435 : (Jvm.Cond.instanceMethod ({ cls := "TypeHouse$SourceLines", name := "character", desc := "(I)I" } : Jvm.MethodName)) ∈ lw_all := lw_g (lw_at lw_m9 90 rfl) rfl
theorem q2436 : (Jvm.Cond.code ({ cls := "TypeHouse$SourceLines", name := "character", desc := "(I)I" } : Jvm.MethodName) prog_29_method_4_code (2 : Nat) (Option.some Jvm.ClassFile.FieldType.int)) ∈ lw_all := lw_g (lw_at lw_m9 91 rfl) rfl
theorem q2437 : (Jvm.Cond.methodLink "TypeHouse$SourceLines" (51 : Nat) ({ cls := "TypeHouse$Settings", name := "category", desc := "(I)I" } : Jvm.MethodName)) ∈ lw_all := lw_g (lw_at lw_m9 92 rfl) rfl
theorem q2438 : (Jvm.Cond.instanceMethod ({ cls := "TypeHouse$Settings", name := "category", desc := "(I)I" } : Jvm.MethodName)) ∈ lw_all := lw_g (lw_at lw_m9 93 rfl) rfl
theorem q2439 : (Jvm.Cond.selects "TypeHouse$Settings" ({ cls := "TypeHouse$Settings", name := "category", desc := "(I)I" } : Jvm.MethodName) ({ cls := "TypeHouse$Settings", name := "category", desc := "(I)I" } : Jvm.MethodName)) ∈ lw_all := lw_g (lw_at lw_m9 94 rfl) rfl
theorem q2440 : (Jvm.Cond.code ({ cls := "TypeHouse$Settings", name := "category", desc := "(I)I" } : Jvm.MethodName) prog_28_method_10_code (2 : Nat) (Option.some Jvm.ClassFile.FieldType.int)) ∈ lw_all := lw_g (lw_at lw_m9 95 rfl) rfl
theorem q2441 : (Jvm.Cond.methodLink "TypeHouse$SourceLines" (76 : Nat) ({ cls := "TypeHouse$SourceLines", name := "name", desc := "()I" } : Jvm.MethodName)) ∈ lw_all := lw_g (lw_at lw_m9 96 rfl) rfl
theorem q2443 : (Jvm.Cond.instanceMethod ({ cls := "TypeHouse$SourceLines", name := "name", desc := "()I" } : Jvm.MethodName)) ∈ lw_all := lw_g (lw_at lw_m9 98 rfl) rfl
theorem q2444 : (Jvm.Cond.code ({ cls := "TypeHouse$SourceLines", name := "name", desc := "()I" } : Jvm.MethodName) prog_29_method_6_code (1 : Nat) (Option.some Jvm.ClassFile.FieldType.int)) ∈ lw_all := lw_g (lw_at lw_m9 99 rfl) rfl
theorem q2445 : (Jvm.Cond.methodLink "TypeHouse$SourceLines" (56 : Nat) ({ cls := "TypeHouse$Names", name := "open", desc := "()V" } : Jvm.MethodName)) ∈ lw_all := lw_g (lw_at lw_m9 100 rfl) rfl
theorem q2446 : (Jvm.Cond.methodLink "TypeHouse$SourceLines" (61 : Nat) ({ cls := "TypeHouse$SourceLines", name := "isLetter", desc := "()Z" } : Jvm.MethodName)) ∈ lw_all := lw_g (lw_at lw_m9 101 rfl) rfl
theorem q2448 : (Jvm.Cond.instanceMethod ({ cls := "TypeHouse$SourceLines", name := "isLetter", desc := "()Z" } : Jvm.MethodName)) ∈ lw_all := lw_g (lw_at lw_m9 103 rfl) rfl
theorem q2449 : (Jvm.Cond.code ({ cls := "TypeHouse$SourceLines", name := "isLetter", desc := "()Z" } : Jvm.MethodName) prog_29_method_5_code (1 : Nat) (Option.some Jvm.ClassFile.FieldType.boolean)) ∈ lw_all := lw_g (lw_at lw_m9 104 rfl) rfl
theorem q2450 : (Jvm.Cond.methodLink "TypeHouse$SourceLines" (65 : Nat) ({ cls := "TypeHouse$Names", name := "add", desc := "(I)V" } : Jvm.MethodName)) ∈ lw_all := lw_g (lw_at lw_m9 105 rfl) rfl
theorem q2451 : (Jvm.Cond.instanceMethod ({ cls := "TypeHouse$Names", name := "add", desc := "(I)V" } : Jvm.MethodName)) ∈ lw_all := lw_g (lw_at lw_m9 106 rfl) rfl
theorem q2452 : (Jvm.Cond.selects "TypeHouse$Names" ({ cls := "TypeHouse$Names", name := "add", desc := "(I)V" } : Jvm.MethodName) ({ cls := "TypeHouse$Names", name := "add", desc := "(I)V" } : Jvm.MethodName)) ∈ lw_all := lw_g (lw_at lw_m9 107 rfl) rfl
theorem q2453 : (Jvm.Cond.code ({ cls := "TypeHouse$Names", name := "add", desc := "(I)V" } : Jvm.MethodName) prog_17_method_4_code (2 : Nat) (Option.none : Option Jvm.ClassFile.FieldType)) ∈ lw_all := lw_g (lw_at lw_m9 108 rfl) rfl
theorem q2454 : (Jvm.Cond.methodLink "TypeHouse$Names" (42 : Nat) ({ cls := "TypeHouse$Trouble", name := "want", desc := "(ZI)V" } : Jvm.MethodName)) ∈ lw_all := lw_g (lw_at lw_m9 109 rfl) rfl
theorem q2455 : (Jvm.Cond.instanceMethod ({ cls := "TypeHouse$Trouble", name := "want", desc := "(ZI)V" } : Jvm.MethodName)) ∈ lw_all := lw_g (lw_at lw_m9 110 rfl) rfl
theorem q2456 : (Jvm.Cond.selects "TypeHouse$Trouble" ({ cls := "TypeHouse$Trouble", name := "want", desc := "(ZI)V" } : Jvm.MethodName) ({ cls := "TypeHouse$Trouble", name := "want", desc := "(ZI)V" } : Jvm.MethodName)) ∈ lw_all := lw_g (lw_at lw_m9 111 rfl) rfl
theorem q2457 : (Jvm.Cond.code ({ cls := "TypeHouse$Trouble", name := "want", desc := "(ZI)V" } : Jvm.MethodName) prog_34_method_3_code (3 : Nat) (Option.none : Option Jvm.ClassFile.FieldType)) ∈ lw_all := lw_g (lw_at lw_m9 112 rfl) rfl
theorem q2458 : (Jvm.Cond.methodLink "TypeHouse$Trouble" (16 : Nat) ({ cls := "TypeHouse$Trouble", name := "fail", desc := "(I)V" } : Jvm.MethodName)) ∈ lw_all := lw_g (lw_at lw_m9 113 rfl) rfl
theorem q2459 : (Jvm.Cond.instanceMethod ({ cls := "TypeHouse$Trouble", name := "fail", desc := "(I)V" } : Jvm.MethodName)) ∈ lw_all := lw_g (lw_at lw_m9 114 rfl) rfl
theorem q2460 : (Jvm.Cond.selects "TypeHouse$Trouble" ({ cls := "TypeHouse$Trouble", name := "fail", desc := "(I)V" } : Jvm.MethodName) ({ cls := "TypeHouse$Trouble", name := "fail", desc := "(I)V" } : Jvm.MethodName)) ∈ lw_all := lw_g (lw_at lw_m9 115 rfl) rfl
theorem q2461 : (Jvm.Cond.code ({ cls := "TypeHouse$Trouble", name := "fail", desc := "(I)V" } : Jvm.MethodName) prog_34_method_2_code (2 : Nat) (Option.none : Option Jvm.ClassFile.FieldType)) ∈ lw_all := lw_g (lw_at lw_m9 116 rfl) rfl
theorem q2462 : (Jvm.Cond.classLink "TypeHouse$Trouble" (13 : Nat) "java/lang/IllegalArgumentException") ∈ lw_all := lw_g (lw_at lw_m9 117 rfl) rfl
theorem q2463 : (Jvm.Cond.methodLink "TypeHouse$Trouble" (15 : Nat) ({ cls := "java/lang/IllegalArgumentException", name := "<init>", desc := "()V" } : Jvm.MethodName)) ∈ lw_all := lw_g (lw_at lw_m9 118 rfl) rfl
theorem q2464 : (Jvm.Cond.methodLink "TypeHouse$SourceLines" (69 : Nat) ({ cls := "TypeHouse$Names", name := "slot", desc := "()I" } : Jvm.MethodName)) ∈ lw_all := lw_g (lw_at lw_m9 119 rfl) rfl
theorem q2465 : (Jvm.Cond.instanceMethod ({ cls := "TypeHouse$Names", name := "slot", desc := "()I" } : Jvm.MethodName)) ∈ lw_all := lw_g (lw_at lw_m9 120 rfl) rfl
theorem q2466 : (Jvm.Cond.selects "TypeHouse$Names" ({ cls := "TypeHouse$Names", name := "slot", desc := "()I" } : Jvm.MethodName) ({ cls := "TypeHouse$Names", name := "slot", desc := "()I" } : Jvm.MethodName)) ∈ lw_all := lw_g (lw_at lw_m9 121 rfl) rfl
theorem q2467 : (Jvm.Cond.code ({ cls := "TypeHouse$Names", name := "slot", desc := "()I" } : Jvm.MethodName) prog_17_method_8_code (2 : Nat) (Option.some Jvm.ClassFile.FieldType.int)) ∈ lw_all := lw_g (lw_at lw_m9 122 rfl) rfl
theorem q2468 : (Jvm.Cond.methodLink "TypeHouse$SourceLines" (79 : Nat) ({ cls := "TypeHouse$Trouble", name := "fail", desc := "(I)V" } : Jvm.MethodName)) ∈ lw_all := lw_g (lw_at lw_m9 123 rfl) rfl
theorem q2470 : (Jvm.Cond.instanceMethod ({ cls := "TypeHouse$Settings", name := "reach", desc := "(I)V" } : Jvm.MethodName)) ∈ lw_all := lw_g (lw_at lw_m9 125 rfl) rfl
theorem q2471 : (Jvm.Cond.selects "TypeHouse$Settings" ({ cls := "TypeHouse$Settings", name := "reach", desc := "(I)V" } : Jvm.MethodName) ({ cls := "TypeHouse$Settings", name := "reach", desc := "(I)V" } : Jvm.MethodName)) ∈ lw_all := lw_g (lw_at lw_m9 126 rfl) rfl
theorem q2472 : (Jvm.Cond.code ({ cls := "TypeHouse$Settings", name := "reach", desc := "(I)V" } : Jvm.MethodName) prog_28_method_13_code (2 : Nat) (Option.none : Option Jvm.ClassFile.FieldType)) ∈ lw_all := lw_g (lw_at lw_m9 127 rfl) rfl
abbrev cX2_become : ByteArray := prog_8_method_3_code
def yX2_become : MethodName := ⟨RX2, "become", "(LTypeHouse$FontFile;)V"⟩
def YX2_become : eY := (yX2_become, cX2_become, 2, none, [])
theorem mX2_become : e_mv YX2_become RX2 1 := ⟨q2300, q2301, q2302, by decide, by decide +kernel, (e_sig (by decide +kernel))⟩
theorem dX2_become_0 : decode cX2_become 0 = .ok (.aload_n 1, 1) := dc_43 (by decide +kernel)
theorem dX2_become_1 : decode cX2_become 1 = .ok (.getfield 9, 3) := dc_180 (a := 0) (b := 9) (n := 9) (by decide +kernel)
theorem dX2_become_4 : decode cX2_become 4 = .ok (.iconst 0, 1) := dc_3 (by decide +kernel)
theorem dX2_become_5 : decode cX2_become 5 = .ok (.aload_n 0, 1) := dc_42 (by decide +kernel)
theorem dX2_become_6 : decode cX2_become 6 = .ok (.getfield 9, 3) := dc_180 (a := 0) (b := 9) (n := 9) (by decide +kernel)
theorem dX2_become_9 : decode cX2_become 9 = .ok (.iconst 0, 1) := dc_3 (by decide +kernel)
theorem dX2_become_10 : decode cX2_become 10 = .ok (.aload_n 1, 1) := dc_43 (by decide +kernel)
theorem dX2_become_11 : decode cX2_become 11 = .ok (.getfield 21, 3) := dc_180 (a := 0) (b := 21) (n := 21) (by decide +kernel)
theorem dX2_become_14 : decode cX2_become 14 = .ok (.invokestatic 15, 3) := dc_184 (a := 0) (b := 15) (n := 15) (by decide +kernel)
theorem dX2_become_17 : decode cX2_become 17 = .ok (.aload_n 0, 1) := dc_42 (by decide +kernel)
theorem dX2_become_18 : decode cX2_become 18 = .ok (.aload_n 1, 1) := dc_43 (by decide +kernel)
theorem dX2_become_19 : decode cX2_become 19 = .ok (.getfield 21, 3) := dc_180 (a := 0) (b := 21) (n := 21) (by decide +kernel)
theorem dX2_become_22 : decode cX2_become 22 = .ok (.putfield 21, 3) := dc_181 (a := 0) (b := 21) (n := 21) (by decide +kernel)
theorem dX2_become_25 : decode cX2_become 25 = .ok (.return_, 1) := dc_177 (by decide +kernel)
theorem GX2_21 {w : eW} {d : Nat} {Y : eY} {pc : Nat} {ls : eL} {st : List Value} {h : eH} {Q : eO → eH → Prop} {a : Nat} {x : Int32} (hf : g_I 1 h a 1 = some x) (hd : decode Y.2.1 pc = .ok (.getfield 21, 3)) (hY : Y.1.cls = RX2) (kk : wp w d Y (pc + 3) ls (.int x :: st) h Q) : wp w d Y pc ls (.ref a :: st) h Q := x_gI (ci := 1) (k := 1) hf hd rfl (by decide) (by rw [hY]; exact q500) kk
def fX2_become (this : Nat) (p0 : Nat) (h : eH) : Option (Unit × eH) :=
  (g_A 1 h p0 0).bind fun a1 =>
  (g_A 1 h this 0).bind fun a3 =>
  (g_I 1 h p0 1).bind fun x5 =>
  (a_cpy h a1 (0 : Int32) a3 (0 : Int32) x5).bind fun h7 =>
  (g_I 1 h7 p0 1).bind fun x9 =>
  (p_V 1 h7 this 1 (.int x9)).bind fun h11 =>
  some ((), h11)
theorem pX2_become {w : eW} {d : Nat} (hd : 1 ≤ d) {this : Nat} {p0 : Nat} {h : eH} {q} (hf : fX2_become this p0 h = some q) : wm w d YX2_become [.ref this, .ref p0] h (e_is (e_rn c_V q)) := by
  obtain ⟨d, rfl⟩ : ∃ e, d = e + 1 := ⟨d - 1, by omega⟩
  show wp w (d + 1) YX2_become 0 [some (.ref this), some (.ref p0)] [] h _
  unfold fX2_become at hf
  refine w_aload_n dX2_become_0 rfl rfl ?_
  obtain ⟨a1, b2, hf⟩ := Option.bind_eq_some_iff.mp hf
  refine GX2_9 b2 dX2_become_1 rfl ?_
  refine w_iconst dX2_become_4 (v := 0) (by decide) ?_
  refine w_aload_n dX2_become_5 rfl rfl ?_
  obtain ⟨a3, b4, hf⟩ := Option.bind_eq_some_iff.mp hf
  refine GX2_9 b4 dX2_become_6 rfl ?_
  refine w_iconst dX2_become_9 (v := 0) (by decide) ?_
  refine w_aload_n dX2_become_10 rfl rfl ?_
  obtain ⟨x5, b6, hf⟩ := Option.bind_eq_some_iff.mp hf
  refine GX2_21 b6 dX2_become_11 rfl ?_
  obtain ⟨h7, b8, hf⟩ := Option.bind_eq_some_iff.mp hf
  refine x_cpy b8 dX2_become_14 q2203 q955 q954 q441 (Nat.le_of_ble_eq_true rfl) ?_
  refine w_aload_n dX2_become_17 rfl rfl ?_
  refine w_aload_n dX2_become_18 rfl rfl ?_
  obtain ⟨x9, b10, hf⟩ := Option.bind_eq_some_iff.mp hf
  refine GX2_21 b10 dX2_become_19 rfl ?_
  obtain ⟨h11, b12, hf⟩ := Option.bind_eq_some_iff.mp hf
  refine SX2_21 b12 dX2_become_22 rfl ?_
  cases hf
  exact w_vret dX2_become_25 rfl rfl
abbrev cX5_load : ByteArray := prog_9_method_3_code
def yX5_load : MethodName := ⟨RX5, "load", "(ILTypeHouse$FontFile;)I"⟩
def YX5_load : eY := (yX5_load, cX5_load, 4, (Option.some FieldType.int), [])
theorem mX5_load : e_mv YX5_load RX5 2 := ⟨q2205, q2206, q2207, by decide, by decide +kernel, (e_sig (by decide +kernel))⟩
theorem dX5_load_0 : decode cX5_load 0 = .ok (.aload_n 0, 1) := dc_42 (by decide +kernel)
theorem dX5_load_1 : decode cX5_load 1 = .ok (.getfield 35, 3) := dc_180 (a := 0) (b := 35) (n := 35) (by decide +kernel)
theorem dX5_load_4 : decode cX5_load 4 = .ok (.aload_n 2, 1) := dc_44 (by decide +kernel)
theorem dX5_load_5 : decode cX5_load 5 = .ok (.invokevirtual 52, 3) := dc_182 (a := 0) (b := 52) (n := 52) (by decide +kernel)
theorem dX5_load_8 : decode cX5_load 8 = .ok (.istore_n 3, 1) := dc_62 (by decide +kernel)
theorem dX5_load_9 : decode cX5_load 9 = .ok (.iload_n 3, 1) := dc_29 (by decide +kernel)
theorem dX5_load_10 : decode cX5_load 10 = .ok (.ifCond .eq 5, 3) := dc_153 (a := 0) (b := 5) (v := 5) (by decide +kernel)
theorem dX5_load_13 : decode cX5_load 13 = .ok (.iload_n 3, 1) := dc_29 (by decide +kernel)
theorem dX5_load_14 : decode cX5_load 14 = .ok (.ireturn, 1) := dc_172 (by decide +kernel)
theorem dX5_load_15 : decode cX5_load 15 = .ok (.aload_n 0, 1) := dc_42 (by decide +kernel)
theorem dX5_load_16 : decode cX5_load 16 = .ok (.getfield 11, 3) := dc_180 (a := 0) (b := 11) (n := 11) (by decide +kernel)
theorem dX5_load_19 : decode cX5_load 19 = .ok (.iload_n 1, 1) := dc_27 (by decide +kernel)
theorem dX5_load_20 : decode cX5_load 20 = .ok (.aaload, 1) := dc_50 (by decide +kernel)
theorem dX5_load_21 : decode cX5_load 21 = .ok (.ifnonnull 16, 3) := dc_199 (a := 0) (b := 16) (v := 16) (by decide +kernel)
theorem dX5_load_24 : decode cX5_load 24 = .ok (.aload_n 0, 1) := dc_42 (by decide +kernel)
theorem dX5_load_25 : decode cX5_load 25 = .ok (.getfield 11, 3) := dc_180 (a := 0) (b := 11) (n := 11) (by decide +kernel)
theorem dX5_load_28 : decode cX5_load 28 = .ok (.iload_n 1, 1) := dc_27 (by decide +kernel)
theorem dX5_load_29 : decode cX5_load 29 = .ok (.new 9, 3) := dc_187 (a := 0) (b := 9) (n := 9) (by decide +kernel)
theorem dX5_load_32 : decode cX5_load 32 = .ok (.dup, 1) := dc_89 (by decide +kernel)
theorem dX5_load_33 : decode cX5_load 33 = .ok (.invokespecial 56, 3) := dc_183 (a := 0) (b := 56) (n := 56) (by decide +kernel)
theorem dX5_load_36 : decode cX5_load 36 = .ok (.aastore, 1) := dc_83 (by decide +kernel)
theorem dX5_load_37 : decode cX5_load 37 = .ok (.aload_n 0, 1) := dc_42 (by decide +kernel)
theorem dX5_load_38 : decode cX5_load 38 = .ok (.getfield 11, 3) := dc_180 (a := 0) (b := 11) (n := 11) (by decide +kernel)
theorem dX5_load_41 : decode cX5_load 41 = .ok (.iload_n 1, 1) := dc_27 (by decide +kernel)
theorem dX5_load_42 : decode cX5_load 42 = .ok (.aaload, 1) := dc_50 (by decide +kernel)
theorem dX5_load_43 : decode cX5_load 43 = .ok (.aload_n 2, 1) := dc_44 (by decide +kernel)
theorem dX5_load_44 : decode cX5_load 44 = .ok (.invokevirtual 57, 3) := dc_182 (a := 0) (b := 57) (n := 57) (by decide +kernel)
theorem dX5_load_47 : decode cX5_load 47 = .ok (.iconst 0, 1) := dc_3 (by decide +kernel)
theorem dX5_load_48 : decode cX5_load 48 = .ok (.ireturn, 1) := dc_172 (by decide +kernel)
theorem GX5_11 {w : eW} {d : Nat} {Y : eY} {pc : Nat} {ls : eL} {st : List Value} {h : eH} {Q : eO → eH → Prop} {a : Nat} {x : Nat} (hf : g_A 4 h a 0 = some x) (hd : decode Y.2.1 pc = .ok (.getfield 11, 3)) (hY : Y.1.cls = RX5) (kk : wp w d Y (pc + 3) ls (.ref x :: st) h Q) : wp w d Y pc ls (.ref a :: st) h Q := x_gA (ci := 4) (k := 0) hf hd rfl (by decide) (by rw [hY]; exact q584) kk
theorem GX5_35 {w : eW} {d : Nat} {Y : eY} {pc : Nat} {ls : eL} {st : List Value} {h : eH} {Q : eO → eH → Prop} {a : Nat} {x : Nat} (hf : g_A 4 h a 7 = some x) (hd : decode Y.2.1 pc = .ok (.getfield 35, 3)) (hY : Y.1.cls = RX5) (kk : wp w d Y (pc + 3) ls (.ref x :: st) h Q) : wp w d Y pc ls (.ref a :: st) h Q := x_gA (ci := 4) (k := 7) hf hd rfl (by decide) (by rw [hY]; exact q596) kk
def fX5_load_b37 (N : Nat) (l0 : Nat) (l1 : Int32) (l2 : Nat) (h : eH) : Option (Int32 × eH) :=
  (g_A 4 h l0 0).bind fun a1 =>
  (r_A 106 h a1 l1).bind fun a3 =>
  (k_ok 1 h a3).bind fun _ =>
  (fX2_become a3 l2 h).bind fun q6 =>
  some ((0 : Int32), q6.2)
theorem pX5_load_b37 {w : eW} {d : Nat} (hd : 5 ≤ d + 1) {N : Nat} {l0 : Nat} {l1 : Int32} {l2 : Nat} {h : eH} {q} (hf : fX5_load_b37 N l0 l1 l2 h = some q) : wp w (d + 1) YX5_load 37 [some (.ref l0), some (.int l1), some (.ref l2), none] [] h (e_is (e_rn c_I q)) := by
  unfold fX5_load_b37 at hf
  refine w_aload_n dX5_load_37 rfl rfl ?_
  obtain ⟨a1, b2, hf⟩ := Option.bind_eq_some_iff.mp hf
  refine GX5_11 b2 dX5_load_38 rfl ?_
  refine w_iload_n dX5_load_41 rfl rfl ?_
  obtain ⟨a3, b4, hf⟩ := Option.bind_eq_some_iff.mp hf
  refine x_rA (c := 106) (by decide) b4 dX5_load_42 ?_
  refine w_aload_n dX5_load_43 rfl rfl ?_
  obtain ⟨_, b5, hf⟩ := Option.bind_eq_some_iff.mp hf
  refine x_cnV hf (e_stV (Yc := YX2_become) (ci := 1) (av := [.ref l2]) (st := []) dX5_load_44 q2299 mX2_become rfl (k_ok_some b5).1 (k_ok_some b5).2) mX2_become.2.2.1 mX2_become.2.2.2.2.1 (Nat.le_of_ble_eq_true rfl) (Nat.le_of_ble_eq_true rfl) (fun q hq => pX2_become (by omega) hq) (fun q6 hf => ?_)
  refine w_iconst dX5_load_47 (v := 0) (by decide) ?_
  cases hf
  exact w_iret dX5_load_48 rfl rfl rfl
def fX5_load (N : Nat) (this : Nat) (p0 : Int32) (p1 : Nat) (h : eH) : Option (Int32 × eH) :=
  (g_A 4 h this 7).bind fun a1 =>
  (k_ok 5 h a1).bind fun _ =>
  (fX6_check N a1 p1 h).bind fun q4 =>
  if q4.1 = 0 then
    (g_A 4 q4.2 this 0).bind fun a6 =>
    (r_O 106 q4.2 a6 p0).bind fun a8 =>
    match a8 with
    | none =>
      (g_A 4 q4.2 this 0).bind fun a11 =>
      (n_obj 1 181 2 tyX2 q4.2).bind fun q13 =>
      (fX2_init q13.1 q13.2).bind fun q15 =>
      (q_A 106 1 q15.2 a11 p0 q13.1).bind fun h16 =>
      fX5_load_b37 N this p0 p1 h16
    | some a10 =>
      fX5_load_b37 N this p0 p1 q4.2
  else
    some (q4.1, q4.2)
theorem pX5_load {w : eW} {d : Nat} (hd : 5 ≤ d) {N : Nat} {this : Nat} {p0 : Int32} {p1 : Nat} {h : eH} {q} (hf : fX5_load N this p0 p1 h = some q) : wm w d YX5_load [.ref this, .int p0, .ref p1] h (e_is (e_rn c_I q)) := by
  obtain ⟨d, rfl⟩ : ∃ e, d = e + 1 := ⟨d - 1, by omega⟩
  show wp w (d + 1) YX5_load 0 [some (.ref this), some (.int p0), some (.ref p1), none] [] h _
  unfold fX5_load at hf
  refine w_aload_n dX5_load_0 rfl rfl ?_
  obtain ⟨a1, b2, hf⟩ := Option.bind_eq_some_iff.mp hf
  refine GX5_35 b2 dX5_load_1 rfl ?_
  refine w_aload_n dX5_load_4 rfl rfl ?_
  obtain ⟨_, b3, hf⟩ := Option.bind_eq_some_iff.mp hf
  refine x_cnI hf (e_stVN (Yc := YX6_check) (ci := 5) (av := [.ref p1]) (st := []) dX5_load_5 q2208 mX6_check rfl (k_ok_some b3).1 (k_ok_some b3).2) mX6_check.2.2.1 mX6_check.2.2.2.2.1 (Nat.le_of_ble_eq_true rfl) (Nat.le_of_ble_eq_true rfl) (fun q hq => pX6_check (by omega) hq) (fun q4 hf => ?_)
  refine w_istore_n dX5_load_8 rfl (by decide) (ls' := [some (.ref this), some (.int p0), some (.ref p1), some (.int q4.1)]) rfl ?_
  refine w_iload_n dX5_load_9 rfl rfl ?_
  refine w_if_eq 15 dX5_load_10 (by decide) (fun c5 => ?_) (fun c5 => ?_)
  · replace hf := (if_pos (show q4.1 = 0 from c5)).symm.trans hf
    refine w_aload_n dX5_load_15 rfl rfl ?_
    obtain ⟨a6, b7, hf⟩ := Option.bind_eq_some_iff.mp hf
    refine GX5_11 b7 dX5_load_16 rfl ?_
    refine w_iload_n dX5_load_19 rfl rfl ?_
    obtain ⟨a8, b9, hf⟩ := Option.bind_eq_some_iff.mp hf
    refine x_rO (c := 106) (by decide) b9 dX5_load_20 ?_
    cases a8 with
    | none =>
      refine w_ifnonnullN dX5_load_21 ?_
      refine w_aload_n dX5_load_24 rfl rfl ?_
      obtain ⟨a11, b12, hf⟩ := Option.bind_eq_some_iff.mp hf
      refine GX5_11 b12 dX5_load_25 rfl ?_
      refine w_iload_n dX5_load_28 rfl rfl ?_
      obtain ⟨q13, b14, hf⟩ := Option.bind_eq_some_iff.mp hf
      refine x_new (ci := 1) (g := 181) b14 dX5_load_29 rfl tyX2_ok q532 q494 q427 ?_
      refine w_dup dX5_load_32 rfl ?_
      refine x_cnV hf (e_stIN (Yc := YX2_init) (b := q13.1) (av := []) (st := [.ref q13.1, .int p0, .ref a11]) dX5_load_33 q2298 mX2_init) (e_mi.cd mX2_init) mX2_init.2.2.2.2.2.1 (Nat.le_of_ble_eq_true rfl) (Nat.le_of_ble_eq_true rfl) (fun q hq => pX2_init (by omega) hq) (fun q15 hf => ?_)
      obtain ⟨h16, b17, hf⟩ := Option.bind_eq_some_iff.mp hf
      refine x_qA (c := 106) (cb := 1) (by decide) rfl rfl b17 dX5_load_36 ?_
      exact (pX5_load_b37 hd hf).to ⟨rfl, rfl, rfl, trivial⟩
    | some a10 =>
      refine w_ifnonnull 37 dX5_load_21 (by decide) ?_
      exact (pX5_load_b37 hd hf).to ⟨rfl, rfl, rfl, trivial⟩
  · replace hf := (if_neg (show ¬ (q4.1 = 0) from c5)).symm.trans hf
    refine w_iload_n dX5_load_13 rfl rfl ?_
    cases hf
    exact w_iret dX5_load_14 rfl rfl rfl
abbrev cX15_mark : ByteArray := prog_33_method_8_code
def yX15_mark : MethodName := ⟨RX15, "mark", "()V"⟩
def YX15_mark : eY := (yX15_mark, cX15_mark, 1, none, [])
theorem mX15_mark : e_mv YX15_mark RX15 0 := ⟨q2309, q2310, q2311, by decide, by decide +kernel, (e_sig (by decide +kernel))⟩
theorem dX15_mark_0 : decode cX15_mark 0 = .ok (.aload_n 0, 1) := dc_42 (by decide +kernel)
theorem dX15_mark_1 : decode cX15_mark 1 = .ok (.iconst 0, 1) := dc_3 (by decide +kernel)
theorem dX15_mark_2 : decode cX15_mark 2 = .ok (.putfield 105, 3) := dc_181 (a := 0) (b := 105) (n := 105) (by decide +kernel)
theorem dX15_mark_5 : decode cX15_mark 5 = .ok (.aload_n 0, 1) := dc_42 (by decide +kernel)
theorem dX15_mark_6 : decode cX15_mark 6 = .ok (.aload_n 0, 1) := dc_42 (by decide +kernel)
theorem dX15_mark_7 : decode cX15_mark 7 = .ok (.getfield 56, 3) := dc_180 (a := 0) (b := 56) (n := 56) (by decide +kernel)
theorem dX15_mark_10 : decode cX15_mark 10 = .ok (.putfield 108, 3) := dc_181 (a := 0) (b := 108) (n := 108) (by decide +kernel)
theorem dX15_mark_13 : decode cX15_mark 13 = .ok (.aload_n 0, 1) := dc_42 (by decide +kernel)
theorem dX15_mark_14 : decode cX15_mark 14 = .ok (.aload_n 0, 1) := dc_42 (by decide +kernel)
theorem dX15_mark_15 : decode cX15_mark 15 = .ok (.getfield 60, 3) := dc_180 (a := 0) (b := 60) (n := 60) (by decide +kernel)
theorem dX15_mark_18 : decode cX15_mark 18 = .ok (.putfield 111, 3) := dc_181 (a := 0) (b := 111) (n := 111) (by decide +kernel)
theorem dX15_mark_21 : decode cX15_mark 21 = .ok (.aload_n 0, 1) := dc_42 (by decide +kernel)
theorem dX15_mark_22 : decode cX15_mark 22 = .ok (.aload_n 0, 1) := dc_42 (by decide +kernel)
theorem dX15_mark_23 : decode cX15_mark 23 = .ok (.getfield 63, 3) := dc_180 (a := 0) (b := 63) (n := 63) (by decide +kernel)
theorem dX15_mark_26 : decode cX15_mark 26 = .ok (.putfield 114, 3) := dc_181 (a := 0) (b := 114) (n := 114) (by decide +kernel)
theorem dX15_mark_29 : decode cX15_mark 29 = .ok (.aload_n 0, 1) := dc_42 (by decide +kernel)
theorem dX15_mark_30 : decode cX15_mark 30 = .ok (.aload_n 0, 1) := dc_42 (by decide +kernel)
theorem dX15_mark_31 : decode cX15_mark 31 = .ok (.getfield 66, 3) := dc_180 (a := 0) (b := 66) (n := 66) (by decide +kernel)
theorem dX15_mark_34 : decode cX15_mark 34 = .ok (.putfield 117, 3) := dc_181 (a := 0) (b := 117) (n := 117) (by decide +kernel)
theorem dX15_mark_37 : decode cX15_mark 37 = .ok (.aload_n 0, 1) := dc_42 (by decide +kernel)
theorem dX15_mark_38 : decode cX15_mark 38 = .ok (.aload_n 0, 1) := dc_42 (by decide +kernel)
theorem dX15_mark_39 : decode cX15_mark 39 = .ok (.getfield 73, 3) := dc_180 (a := 0) (b := 73) (n := 73) (by decide +kernel)
theorem dX15_mark_42 : decode cX15_mark 42 = .ok (.putfield 120, 3) := dc_181 (a := 0) (b := 120) (n := 120) (by decide +kernel)
theorem dX15_mark_45 : decode cX15_mark 45 = .ok (.return_, 1) := dc_177 (by decide +kernel)
theorem GX15_60 {w : eW} {d : Nat} {Y : eY} {pc : Nat} {ls : eL} {st : List Value} {h : eH} {Q : eO → eH → Prop} {a : Nat} {x : Int32} (hf : g_I 14 h a 9 = some x) (hd : decode Y.2.1 pc = .ok (.getfield 60, 3)) (hY : Y.1.cls = RX15) (kk : wp w d Y (pc + 3) ls (.int x :: st) h Q) : wp w d Y pc ls (.ref a :: st) h Q := x_gI (ci := 14) (k := 9) hf hd rfl (by decide) (by rw [hY]; exact q966) kk
theorem GX15_63 {w : eW} {d : Nat} {Y : eY} {pc : Nat} {ls : eL} {st : List Value} {h : eH} {Q : eO → eH → Prop} {a : Nat} {x : Int32} (hf : g_I 14 h a 16 = some x) (hd : decode Y.2.1 pc = .ok (.getfield 63, 3)) (hY : Y.1.cls = RX15) (kk : wp w d Y (pc + 3) ls (.int x :: st) h Q) : wp w d Y pc ls (.ref a :: st) h Q := x_gI (ci := 14) (k := 16) hf hd rfl (by decide) (by rw [hY]; exact q973) kk
theorem GX15_66 {w : eW} {d : Nat} {Y : eY} {pc : Nat} {ls : eL} {st : List Value} {h : eH} {Q : eO → eH → Prop} {a : Nat} {x : Int32} (hf : g_I 14 h a 17 = some x) (hd : decode Y.2.1 pc = .ok (.getfield 66, 3)) (hY : Y.1.cls = RX15) (kk : wp w d Y (pc + 3) ls (.int x :: st) h Q) : wp w d Y pc ls (.ref a :: st) h Q := x_gI (ci := 14) (k := 17) hf hd rfl (by decide) (by rw [hY]; exact q975) kk
theorem GX15_73 {w : eW} {d : Nat} {Y : eY} {pc : Nat} {ls : eL} {st : List Value} {h : eH} {Q : eO → eH → Prop} {a : Nat} {x : Int32} (hf : g_I 14 h a 15 = some x) (hd : decode Y.2.1 pc = .ok (.getfield 73, 3)) (hY : Y.1.cls = RX15) (kk : wp w d Y (pc + 3) ls (.int x :: st) h Q) : wp w d Y pc ls (.ref a :: st) h Q := x_gI (ci := 14) (k := 15) hf hd rfl (by decide) (by rw [hY]; exact q972) kk
theorem SX15_105 {w : eW} {d : Nat} {Y : eY} {pc : Nat} {ls : eL} {st : List Value} {h : eH} {Q : eO → eH → Prop} {a : Nat} {h' : eH} {x : Int32} (hf : p_V 14 h a 19 (.int x) = some h') (hd : decode Y.2.1 pc = .ok (.putfield 105, 3)) (hY : Y.1.cls = RX15) (kk : wp w d Y (pc + 3) ls st h' Q) : wp w d Y pc ls (.int x :: .ref a :: st) h Q := x_pI (ci := 14) (k := 19) hf hd rfl (by decide) (by rw [hY]; exact q978) rfl rfl kk
theorem SX15_108 {w : eW} {d : Nat} {Y : eY} {pc : Nat} {ls : eL} {st : List Value} {h : eH} {Q : eO → eH → Prop} {a : Nat} {h' : eH} {x : Int32} (hf : p_V 14 h a 20 (.int x) = some h') (hd : decode Y.2.1 pc = .ok (.putfield 108, 3)) (hY : Y.1.cls = RX15) (kk : wp w d Y (pc + 3) ls st h' Q) : wp w d Y pc ls (.int x :: .ref a :: st) h Q := x_pI (ci := 14) (k := 20) hf hd rfl (by decide) (by rw [hY]; exact q979) rfl rfl kk
theorem SX15_111 {w : eW} {d : Nat} {Y : eY} {pc : Nat} {ls : eL} {st : List Value} {h : eH} {Q : eO → eH → Prop} {a : Nat} {h' : eH} {x : Int32} (hf : p_V 14 h a 21 (.int x) = some h') (hd : decode Y.2.1 pc = .ok (.putfield 111, 3)) (hY : Y.1.cls = RX15) (kk : wp w d Y (pc + 3) ls st h' Q) : wp w d Y pc ls (.int x :: .ref a :: st) h Q := x_pI (ci := 14) (k := 21) hf hd rfl (by decide) (by rw [hY]; exact q980) rfl rfl kk
theorem SX15_114 {w : eW} {d : Nat} {Y : eY} {pc : Nat} {ls : eL} {st : List Value} {h : eH} {Q : eO → eH → Prop} {a : Nat} {h' : eH} {x : Int32} (hf : p_V 14 h a 22 (.int x) = some h') (hd : decode Y.2.1 pc = .ok (.putfield 114, 3)) (hY : Y.1.cls = RX15) (kk : wp w d Y (pc + 3) ls st h' Q) : wp w d Y pc ls (.int x :: .ref a :: st) h Q := x_pI (ci := 14) (k := 22) hf hd rfl (by decide) (by rw [hY]; exact q981) rfl rfl kk
theorem SX15_117 {w : eW} {d : Nat} {Y : eY} {pc : Nat} {ls : eL} {st : List Value} {h : eH} {Q : eO → eH → Prop} {a : Nat} {h' : eH} {x : Int32} (hf : p_V 14 h a 23 (.int x) = some h') (hd : decode Y.2.1 pc = .ok (.putfield 117, 3)) (hY : Y.1.cls = RX15) (kk : wp w d Y (pc + 3) ls st h' Q) : wp w d Y pc ls (.int x :: .ref a :: st) h Q := x_pI (ci := 14) (k := 23) hf hd rfl (by decide) (by rw [hY]; exact q982) rfl rfl kk
theorem SX15_120 {w : eW} {d : Nat} {Y : eY} {pc : Nat} {ls : eL} {st : List Value} {h : eH} {Q : eO → eH → Prop} {a : Nat} {h' : eH} {x : Int32} (hf : p_Z 14 h a 24 x = some h') (hd : decode Y.2.1 pc = .ok (.putfield 120, 3)) (hY : Y.1.cls = RX15) (kk : wp w d Y (pc + 3) ls st h' Q) : wp w d Y pc ls (.int x :: .ref a :: st) h Q := x_pZ (ci := 14) (k := 24) hf hd rfl (by decide) (by rw [hY]; exact q983) rfl rfl kk
def fX15_mark (this : Nat) (h : eH) : Option (Unit × eH) :=
  (p_V 14 h this 19 (.int (0 : Int32))).bind fun h1 =>
  (g_I 14 h1 this 5).bind fun x3 =>
  (p_V 14 h1 this 20 (.int x3)).bind fun h5 =>
  (g_I 14 h5 this 9).bind fun x7 =>
  (p_V 14 h5 this 21 (.int x7)).bind fun h9 =>
  (g_I 14 h9 this 16).bind fun x11 =>
  (p_V 14 h9 this 22 (.int x11)).bind fun h13 =>
  (g_I 14 h13 this 17).bind fun x15 =>
  (p_V 14 h13 this 23 (.int x15)).bind fun h17 =>
  (g_I 14 h17 this 15).bind fun x19 =>
  (p_Z 14 h17 this 24 x19).bind fun h21 =>
  some ((), h21)
theorem pX15_mark {w : eW} {d : Nat} (hd : 0 ≤ d) {this : Nat} {h : eH} {q} (hf : fX15_mark this h = some q) : wm w d YX15_mark [.ref this] h (e_is (e_rn c_V q)) := by
  show wp w d YX15_mark 0 [some (.ref this)] [] h _
  unfold fX15_mark at hf
  refine w_aload_n dX15_mark_0 rfl rfl ?_
  refine w_iconst dX15_mark_1 (v := 0) (by decide) ?_
  obtain ⟨h1, b2, hf⟩ := Option.bind_eq_some_iff.mp hf
  refine SX15_105 b2 dX15_mark_2 rfl ?_
  refine w_aload_n dX15_mark_5 rfl rfl ?_
  refine w_aload_n dX15_mark_6 rfl rfl ?_
  obtain ⟨x3, b4, hf⟩ := Option.bind_eq_some_iff.mp hf
  refine GX15_56 b4 dX15_mark_7 rfl ?_
  obtain ⟨h5, b6, hf⟩ := Option.bind_eq_some_iff.mp hf
  refine SX15_108 b6 dX15_mark_10 rfl ?_
  refine w_aload_n dX15_mark_13 rfl rfl ?_
  refine w_aload_n dX15_mark_14 rfl rfl ?_
  obtain ⟨x7, b8, hf⟩ := Option.bind_eq_some_iff.mp hf
  refine GX15_60 b8 dX15_mark_15 rfl ?_
  obtain ⟨h9, b10, hf⟩ := Option.bind_eq_some_iff.mp hf
  refine SX15_111 b10 dX15_mark_18 rfl ?_
  refine w_aload_n dX15_mark_21 rfl rfl ?_
  refine w_aload_n dX15_mark_22 rfl rfl ?_
  obtain ⟨x11, b12, hf⟩ := Option.bind_eq_some_iff.mp hf
  refine GX15_63 b12 dX15_mark_23 rfl ?_
  obtain ⟨h13, b14, hf⟩ := Option.bind_eq_some_iff.mp hf
  refine SX15_114 b14 dX15_mark_26 rfl ?_
  refine w_aload_n dX15_mark_29 rfl rfl ?_
  refine w_aload_n dX15_mark_30 rfl rfl ?_
  obtain ⟨x15, b16, hf⟩ := Option.bind_eq_some_iff.mp hf
  refine GX15_66 b16 dX15_mark_31 rfl ?_
  obtain ⟨h17, b18, hf⟩ := Option.bind_eq_some_iff.mp hf
  refine SX15_117 b18 dX15_mark_34 rfl ?_
  refine w_aload_n dX15_mark_37 rfl rfl ?_
  refine w_aload_n dX15_mark_38 rfl rfl ?_
  obtain ⟨x19, b20, hf⟩ := Option.bind_eq_some_iff.mp hf
  refine GX15_73 b20 dX15_mark_39 rfl ?_
  obtain ⟨h21, b22, hf⟩ := Option.bind_eq_some_iff.mp hf
  refine SX15_120 b22 dX15_mark_42 rfl ?_
  cases hf
  exact w_vret dX15_mark_45 rfl rfl
abbrev cX16_mark : ByteArray := prog_32_method_7_code
def yX16_mark : MethodName := ⟨RX16, "mark", "()V"⟩
def YX16_mark : eY := (yX16_mark, cX16_mark, 1, none, [])
theorem mX16_mark : e_mv YX16_mark RX16 0 := ⟨q2313, q2314, q2315, by decide, by decide +kernel, (e_sig (by decide +kernel))⟩
theorem dX16_mark_0 : decode cX16_mark 0 = .ok (.aload_n 0, 1) := dc_42 (by decide +kernel)
theorem dX16_mark_1 : decode cX16_mark 1 = .ok (.aload_n 0, 1) := dc_42 (by decide +kernel)
theorem dX16_mark_2 : decode cX16_mark 2 = .ok (.getfield 36, 3) := dc_180 (a := 0) (b := 36) (n := 36) (by decide +kernel)
theorem dX16_mark_5 : decode cX16_mark 5 = .ok (.putfield 69, 3) := dc_181 (a := 0) (b := 69) (n := 69) (by decide +kernel)
theorem dX16_mark_8 : decode cX16_mark 8 = .ok (.aload_n 0, 1) := dc_42 (by decide +kernel)
theorem dX16_mark_9 : decode cX16_mark 9 = .ok (.aload_n 0, 1) := dc_42 (by decide +kernel)
theorem dX16_mark_10 : decode cX16_mark 10 = .ok (.getfield 40, 3) := dc_180 (a := 0) (b := 40) (n := 40) (by decide +kernel)
theorem dX16_mark_13 : decode cX16_mark 13 = .ok (.putfield 72, 3) := dc_181 (a := 0) (b := 72) (n := 72) (by decide +kernel)
theorem dX16_mark_16 : decode cX16_mark 16 = .ok (.aload_n 0, 1) := dc_42 (by decide +kernel)
theorem dX16_mark_17 : decode cX16_mark 17 = .ok (.iconst 0, 1) := dc_3 (by decide +kernel)
theorem dX16_mark_18 : decode cX16_mark 18 = .ok (.putfield 63, 3) := dc_181 (a := 0) (b := 63) (n := 63) (by decide +kernel)
theorem dX16_mark_21 : decode cX16_mark 21 = .ok (.return_, 1) := dc_177 (by decide +kernel)
theorem GX16_36 {w : eW} {d : Nat} {Y : eY} {pc : Nat} {ls : eL} {st : List Value} {h : eH} {Q : eO → eH → Prop} {a : Nat} {x : Int32} (hf : g_I 15 h a 5 = some x) (hd : decode Y.2.1 pc = .ok (.getfield 36, 3)) (hY : Y.1.cls = RX16) (kk : wp w d Y (pc + 3) ls (.int x :: st) h Q) : wp w d Y pc ls (.ref a :: st) h Q := x_gI (ci := 15) (k := 5) hf hd rfl (by decide) (by rw [hY]; exact q1047) kk
theorem GX16_40 {w : eW} {d : Nat} {Y : eY} {pc : Nat} {ls : eL} {st : List Value} {h : eH} {Q : eO → eH → Prop} {a : Nat} {x : Int32} (hf : g_I 15 h a 6 = some x) (hd : decode Y.2.1 pc = .ok (.getfield 40, 3)) (hY : Y.1.cls = RX16) (kk : wp w d Y (pc + 3) ls (.int x :: st) h Q) : wp w d Y pc ls (.ref a :: st) h Q := x_gI (ci := 15) (k := 6) hf hd rfl (by decide) (by rw [hY]; exact q1049) kk
theorem SX16_63 {w : eW} {d : Nat} {Y : eY} {pc : Nat} {ls : eL} {st : List Value} {h : eH} {Q : eO → eH → Prop} {a : Nat} {h' : eH} {x : Int32} (hf : p_V 15 h a 11 (.int x) = some h') (hd : decode Y.2.1 pc = .ok (.putfield 63, 3)) (hY : Y.1.cls = RX16) (kk : wp w d Y (pc + 3) ls st h' Q) : wp w d Y pc ls (.int x :: .ref a :: st) h Q := x_pI (ci := 15) (k := 11) hf hd rfl (by decide) (by rw [hY]; exact q1055) rfl rfl kk
theorem SX16_69 {w : eW} {d : Nat} {Y : eY} {pc : Nat} {ls : eL} {st : List Value} {h : eH} {Q : eO → eH → Prop} {a : Nat} {h' : eH} {x : Int32} (hf : p_V 15 h a 7 (.int x) = some h') (hd : decode Y.2.1 pc = .ok (.putfield 69, 3)) (hY : Y.1.cls = RX16) (kk : wp w d Y (pc + 3) ls st h' Q) : wp w d Y pc ls (.int x :: .ref a :: st) h Q := x_pI (ci := 15) (k := 7) hf hd rfl (by decide) (by rw [hY]; exact q1051) rfl rfl kk
theorem SX16_72 {w : eW} {d : Nat} {Y : eY} {pc : Nat} {ls : eL} {st : List Value} {h : eH} {Q : eO → eH → Prop} {a : Nat} {h' : eH} {x : Int32} (hf : p_V 15 h a 8 (.int x) = some h') (hd : decode Y.2.1 pc = .ok (.putfield 72, 3)) (hY : Y.1.cls = RX16) (kk : wp w d Y (pc + 3) ls st h' Q) : wp w d Y pc ls (.int x :: .ref a :: st) h Q := x_pI (ci := 15) (k := 8) hf hd rfl (by decide) (by rw [hY]; exact q1052) rfl rfl kk
def fX16_mark (this : Nat) (h : eH) : Option (Unit × eH) :=
  (g_I 15 h this 5).bind fun x1 =>
  (p_V 15 h this 7 (.int x1)).bind fun h3 =>
  (g_I 15 h3 this 6).bind fun x5 =>
  (p_V 15 h3 this 8 (.int x5)).bind fun h7 =>
  (p_V 15 h7 this 11 (.int (0 : Int32))).bind fun h9 =>
  some ((), h9)
theorem pX16_mark {w : eW} {d : Nat} (hd : 0 ≤ d) {this : Nat} {h : eH} {q} (hf : fX16_mark this h = some q) : wm w d YX16_mark [.ref this] h (e_is (e_rn c_V q)) := by
  show wp w d YX16_mark 0 [some (.ref this)] [] h _
  unfold fX16_mark at hf
  refine w_aload_n dX16_mark_0 rfl rfl ?_
  refine w_aload_n dX16_mark_1 rfl rfl ?_
  obtain ⟨x1, b2, hf⟩ := Option.bind_eq_some_iff.mp hf
  refine GX16_36 b2 dX16_mark_2 rfl ?_
  obtain ⟨h3, b4, hf⟩ := Option.bind_eq_some_iff.mp hf
  refine SX16_69 b4 dX16_mark_5 rfl ?_
  refine w_aload_n dX16_mark_8 rfl rfl ?_
  refine w_aload_n dX16_mark_9 rfl rfl ?_
  obtain ⟨x5, b6, hf⟩ := Option.bind_eq_some_iff.mp hf
  refine GX16_40 b6 dX16_mark_10 rfl ?_
  obtain ⟨h7, b8, hf⟩ := Option.bind_eq_some_iff.mp hf
  refine SX16_72 b8 dX16_mark_13 rfl ?_
  refine w_aload_n dX16_mark_16 rfl rfl ?_
  refine w_iconst dX16_mark_17 (v := 0) (by decide) ?_
  obtain ⟨h9, b10, hf⟩ := Option.bind_eq_some_iff.mp hf
  refine SX16_63 b10 dX16_mark_18 rfl ?_
  cases hf
  exact w_vret dX16_mark_21 rfl rfl
abbrev cX14_next : ByteArray := prog_10_method_4_code
def yX14_next : MethodName := ⟨RX14, "next", "()I"⟩
def YX14_next : eY := (yX14_next, cX14_next, 1, (Option.some FieldType.int), [])
theorem mX14_next : e_mv YX14_next RX14 0 := ⟨q2322, qs31, q2323, by decide, by decide +kernel, (e_sig (by decide +kernel))⟩
theorem dX14_next_0 : decode cX14_next 0 = .ok (.aload_n 0, 1) := dc_42 (by decide +kernel)
theorem dX14_next_1 : decode cX14_next 1 = .ok (.getfield 35, 3) := dc_180 (a := 0) (b := 35) (n := 35) (by decide +kernel)
theorem dX14_next_4 : decode cX14_next 4 = .ok (.aload_n 0, 1) := dc_42 (by decide +kernel)
theorem dX14_next_5 : decode cX14_next 5 = .ok (.getfield 39, 3) := dc_180 (a := 0) (b := 39) (n := 39) (by decide +kernel)
theorem dX14_next_8 : decode cX14_next 8 = .ok (.if_icmp .lt 5, 3) := dc_161 (a := 0) (b := 5) (v := 5) (by decide +kernel)
theorem dX14_next_11 : decode cX14_next 11 = .ok (.iconst 0, 1) := dc_3 (by decide +kernel)
theorem dX14_next_12 : decode cX14_next 12 = .ok (.ireturn, 1) := dc_172 (by decide +kernel)
theorem dX14_next_13 : decode cX14_next 13 = .ok (.aload_n 0, 1) := dc_42 (by decide +kernel)
theorem dX14_next_14 : decode cX14_next 14 = .ok (.getfield 42, 3) := dc_180 (a := 0) (b := 42) (n := 42) (by decide +kernel)
theorem dX14_next_17 : decode cX14_next 17 = .ok (.aload_n 0, 1) := dc_42 (by decide +kernel)
theorem dX14_next_18 : decode cX14_next 18 = .ok (.getfield 35, 3) := dc_180 (a := 0) (b := 35) (n := 35) (by decide +kernel)
theorem dX14_next_21 : decode cX14_next 21 = .ok (.baload, 1) := dc_51 (by decide +kernel)
theorem dX14_next_22 : decode cX14_next 22 = .ok (.ifCond .ne 9, 3) := dc_154 (a := 0) (b := 9) (v := 9) (by decide +kernel)
theorem dX14_next_25 : decode cX14_next 25 = .ok (.sipush 256, 3) := dc_17 (a := 1) (b := 0) (v := 256) (by decide +kernel)
theorem dX14_next_28 : decode cX14_next 28 = .ok (.goto 16, 3) := dc_167 (a := 0) (b := 16) (v := 16) (by decide +kernel)
theorem dX14_next_31 : decode cX14_next 31 = .ok (.aload_n 0, 1) := dc_42 (by decide +kernel)
theorem dX14_next_32 : decode cX14_next 32 = .ok (.getfield 42, 3) := dc_180 (a := 0) (b := 42) (n := 42) (by decide +kernel)
theorem dX14_next_35 : decode cX14_next 35 = .ok (.aload_n 0, 1) := dc_42 (by decide +kernel)
theorem dX14_next_36 : decode cX14_next 36 = .ok (.getfield 35, 3) := dc_180 (a := 0) (b := 35) (n := 35) (by decide +kernel)
theorem dX14_next_39 : decode cX14_next 39 = .ok (.baload, 1) := dc_51 (by decide +kernel)
theorem dX14_next_40 : decode cX14_next 40 = .ok (.sipush 255, 3) := dc_17 (a := 0) (b := 255) (v := 255) (by decide +kernel)
theorem dX14_next_43 : decode cX14_next 43 = .ok (.iand, 1) := dc_126 (by decide +kernel)
theorem dX14_next_44 : decode cX14_next 44 = .ok (.ireturn, 1) := dc_172 (by decide +kernel)
theorem GX14_35 {w : eW} {d : Nat} {Y : eY} {pc : Nat} {ls : eL} {st : List Value} {h : eH} {Q : eO → eH → Prop} {a : Nat} {x : Int32} (hf : g_I 13 h a 6 = some x) (hd : decode Y.2.1 pc = .ok (.getfield 35, 3)) (hY : Y.1.cls = RX14) (kk : wp w d Y (pc + 3) ls (.int x :: st) h Q) : wp w d Y pc ls (.ref a :: st) h Q := x_gI (ci := 13) (k := 6) hf hd rfl (by decide) (by rw [hY]; exact q1112) kk
theorem GX14_39 {w : eW} {d : Nat} {Y : eY} {pc : Nat} {ls : eL} {st : List Value} {h : eH} {Q : eO → eH → Prop} {a : Nat} {x : Int32} (hf : g_I 13 h a 5 = some x) (hd : decode Y.2.1 pc = .ok (.getfield 39, 3)) (hY : Y.1.cls = RX14) (kk : wp w d Y (pc + 3) ls (.int x :: st) h Q) : wp w d Y pc ls (.ref a :: st) h Q := x_gI (ci := 13) (k := 5) hf hd rfl (by decide) (by rw [hY]; exact q1111) kk
theorem GX14_42 {w : eW} {d : Nat} {Y : eY} {pc : Nat} {ls : eL} {st : List Value} {h : eH} {Q : eO → eH → Prop} {a : Nat} {x : Nat} (hf : g_A 13 h a 4 = some x) (hd : decode Y.2.1 pc = .ok (.getfield 42, 3)) (hY : Y.1.cls = RX14) (kk : wp w d Y (pc + 3) ls (.ref x :: st) h Q) : wp w d Y pc ls (.ref a :: st) h Q := x_gA (ci := 13) (k := 4) hf hd rfl (by decide) (by rw [hY]; exact q1110) kk
def fX14_next_b44 (s0 : Int32) (h : eH) : Option (Int32 × eH) :=
  some (s0, h)
theorem pX14_next_b44 {w : eW} {d : Nat} (hd : 0 ≤ d) {s0 : Int32} {h : eH} {q} (hf : fX14_next_b44 s0 h = some q) : wp w d YX14_next 44 [none] [.int s0] h (e_is (e_rn c_I q)) := by
  unfold fX14_next_b44 at hf
  cases hf
  exact w_iret dX14_next_44 rfl rfl rfl
def fX14_next (this : Nat) (h : eH) : Option (Int32 × eH) :=
  (g_I 13 h this 6).bind fun x1 =>
  (g_I 13 h this 5).bind fun x3 =>
  if x1 < x3 then
    (g_A 13 h this 4).bind fun a6 =>
    (g_I 13 h this 6).bind fun x8 =>
    (r_I 102 h a6 x8).bind fun x10 =>
    if ¬ x10 = 0 then
      (g_A 13 h this 4).bind fun a13 =>
      (g_I 13 h this 6).bind fun x15 =>
      (r_I 102 h a13 x15).bind fun x17 =>
      fX14_next_b44 (x17 &&& (255 : Int32)) h
    else
      fX14_next_b44 (256 : Int32) h
  else
    some ((0 : Int32), h)
theorem pX14_next {w : eW} {d : Nat} (hd : 0 ≤ d) {this : Nat} {h : eH} {q} (hf : fX14_next this h = some q) : wm w d YX14_next [.ref this] h (e_is (e_rn c_I q)) := by
  show wp w d YX14_next 0 [some (.ref this)] [] h _
  unfold fX14_next at hf
  refine w_aload_n dX14_next_0 rfl rfl ?_
  obtain ⟨x1, b2, hf⟩ := Option.bind_eq_some_iff.mp hf
  refine GX14_35 b2 dX14_next_1 rfl ?_
  refine w_aload_n dX14_next_4 rfl rfl ?_
  obtain ⟨x3, b4, hf⟩ := Option.bind_eq_some_iff.mp hf
  refine GX14_39 b4 dX14_next_5 rfl ?_
  refine w_icmp_lt 13 dX14_next_8 (by decide) (fun c5 => ?_) (fun c5 => ?_)
  · replace hf := (if_pos (show x1 < x3 from c5)).symm.trans hf
    refine w_aload_n dX14_next_13 rfl rfl ?_
    obtain ⟨a6, b7, hf⟩ := Option.bind_eq_some_iff.mp hf
    refine GX14_42 b7 dX14_next_14 rfl ?_
    refine w_aload_n dX14_next_17 rfl rfl ?_
    obtain ⟨x8, b9, hf⟩ := Option.bind_eq_some_iff.mp hf
    refine GX14_35 b9 dX14_next_18 rfl ?_
    obtain ⟨x10, b11, hf⟩ := Option.bind_eq_some_iff.mp hf
    refine x_rB b11 dX14_next_21 ?_
    refine w_if_ne 31 dX14_next_22 (by decide) (fun c12 => ?_) (fun c12 => ?_)
    · replace hf := (if_pos (show ¬ x10 = 0 from c12)).symm.trans hf
      refine w_aload_n dX14_next_31 rfl rfl ?_
      obtain ⟨a13, b14, hf⟩ := Option.bind_eq_some_iff.mp hf
      refine GX14_42 b14 dX14_next_32 rfl ?_
      refine w_aload_n dX14_next_35 rfl rfl ?_
      obtain ⟨x15, b16, hf⟩ := Option.bind_eq_some_iff.mp hf
      refine GX14_35 b16 dX14_next_36 rfl ?_
      obtain ⟨x17, b18, hf⟩ := Option.bind_eq_some_iff.mp hf
      refine x_rB b18 dX14_next_39 ?_
      refine w_sipush dX14_next_40 (v := 255) (by decide) ?_
      refine w_iand dX14_next_43 ?_
      exact (pX14_next_b44 hd hf).to trivial
    · replace hf := (if_neg (show ¬ (¬ x10 = 0) from (fun z => z c12))).symm.trans hf
      refine w_sipush dX14_next_25 (v := 256) (by decide) ?_
      refine w_goto 44 dX14_next_28 (by decide) ?_
      exact (pX14_next_b44 hd hf).to trivial
  · replace hf := (if_neg (show ¬ (x1 < x3) from c5)).symm.trans hf
    refine w_iconst dX14_next_11 (v := 0) (by decide) ?_
    cases hf
    exact w_iret dX14_next_12 rfl rfl rfl
abbrev cX14_spaces : ByteArray := prog_10_method_6_code
def yX14_spaces : MethodName := ⟨RX14, "spaces", "()V"⟩
def YX14_spaces : eY := (yX14_spaces, cX14_spaces, 1, none, [])
theorem mX14_spaces : e_mv YX14_spaces RX14 0 := ⟨q2318, qs30, q2319, by decide, by decide +kernel, (e_sig (by decide +kernel))⟩
theorem dX14_spaces_0 : decode cX14_spaces 0 = .ok (.aload_n 0, 1) := dc_42 (by decide +kernel)
theorem dX14_spaces_1 : decode cX14_spaces 1 = .ok (.invokevirtual 53, 3) := dc_182 (a := 0) (b := 53) (n := 53) (by decide +kernel)
theorem dX14_spaces_4 : decode cX14_spaces 4 = .ok (.bipush 32, 2) := dc_16 (a := 32) (v := 32) (by decide +kernel)
theorem dX14_spaces_6 : decode cX14_spaces 6 = .ok (.if_icmp .ne 16, 3) := dc_160 (a := 0) (b := 16) (v := 16) (by decide +kernel)
theorem dX14_spaces_9 : decode cX14_spaces 9 = .ok (.aload_n 0, 1) := dc_42 (by decide +kernel)
theorem dX14_spaces_10 : decode cX14_spaces 10 = .ok (.dup, 1) := dc_89 (by decide +kernel)
theorem dX14_spaces_11 : decode cX14_spaces 11 = .ok (.getfield 35, 3) := dc_180 (a := 0) (b := 35) (n := 35) (by decide +kernel)
theorem dX14_spaces_14 : decode cX14_spaces 14 = .ok (.iconst 1, 1) := dc_4 (by decide +kernel)
theorem dX14_spaces_15 : decode cX14_spaces 15 = .ok (.iadd, 1) := dc_96 (by decide +kernel)
theorem dX14_spaces_16 : decode cX14_spaces 16 = .ok (.putfield 35, 3) := dc_181 (a := 0) (b := 35) (n := 35) (by decide +kernel)
theorem dX14_spaces_19 : decode cX14_spaces 19 = .ok (.goto (-19), 3) := dc_167 (a := 255) (b := 237) (v := -19) (by decide +kernel)
theorem dX14_spaces_22 : decode cX14_spaces 22 = .ok (.return_, 1) := dc_177 (by decide +kernel)
theorem SX14_35 {w : eW} {d : Nat} {Y : eY} {pc : Nat} {ls : eL} {st : List Value} {h : eH} {Q : eO → eH → Prop} {a : Nat} {h' : eH} {x : Int32} (hf : p_V 13 h a 6 (.int x) = some h') (hd : decode Y.2.1 pc = .ok (.putfield 35, 3)) (hY : Y.1.cls = RX14) (kk : wp w d Y (pc + 3) ls st h' Q) : wp w d Y pc ls (.int x :: .ref a :: st) h Q := x_pI (ci := 13) (k := 6) hf hd rfl (by decide) (by rw [hY]; exact q1112) rfl rfl kk
def fX14_spaces_b0 (N : Nat) : Nat → Nat → eH → Option (Unit × eH)
  | 0, _, _ => none
  | n + 1, l0, h =>
    (k_ok 13 h l0).bind fun _ =>
    (fX14_next l0 h).bind fun q2 =>
    if ¬ q2.1 = (32 : Int32) then
      some ((), q2.2)
    else
      (g_I 13 q2.2 l0 6).bind fun x4 =>
      (p_V 13 q2.2 l0 6 (.int (x4 + (1 : Int32)))).bind fun h6 =>
      fX14_spaces_b0 N n l0 h6
theorem pX14_spaces_b0 {w : eW} {d : Nat} (hd : 1 ≤ d + 1) {N : Nat} : ∀ (n : Nat) l0 h q, fX14_spaces_b0 N n l0 h = some q → wp w (d + 1) YX14_spaces 0 [some (.ref l0)] [] h (e_is (e_rn c_V q)) := by
  intro n
  induction n with
  | zero => intro l0 h q hf; simp [fX14_spaces_b0] at hf
  | succ n ih =>
    intro l0 h q hf
    rw [fX14_spaces_b0] at hf
    refine w_aload_n dX14_spaces_0 rfl rfl ?_
    obtain ⟨_, b1, hf⟩ := Option.bind_eq_some_iff.mp hf
    refine x_cnI hf (e_stV (Yc := YX14_next) (ci := 13) (av := []) (st := []) dX14_spaces_1 q2320 mX14_next rfl (k_ok_some b1).1 (k_ok_some b1).2) mX14_next.2.2.1 mX14_next.2.2.2.2.1 (Nat.le_of_ble_eq_true rfl) (Nat.le_of_ble_eq_true rfl) (fun q hq => pX14_next (by omega) hq) (fun q2 hf => ?_)
    refine w_bipush dX14_spaces_4 (v := 32) (by decide) ?_
    refine w_icmp_ne 22 dX14_spaces_6 (by decide) (fun c3 => ?_) (fun c3 => ?_)
    · replace hf := (if_pos (show ¬ q2.1 = (32 : Int32) from c3)).symm.trans hf
      cases hf
      exact w_vret dX14_spaces_22 rfl rfl
    · replace hf := (if_neg (show ¬ (¬ q2.1 = (32 : Int32)) from (fun z => z c3))).symm.trans hf
      refine w_aload_n dX14_spaces_9 rfl rfl ?_
      refine w_dup dX14_spaces_10 rfl ?_
      obtain ⟨x4, b5, hf⟩ := Option.bind_eq_some_iff.mp hf
      refine GX14_35 b5 dX14_spaces_11 rfl ?_
      refine w_iconst dX14_spaces_14 (v := 1) (by decide) ?_
      refine w_iadd dX14_spaces_15 ?_
      obtain ⟨h6, b7, hf⟩ := Option.bind_eq_some_iff.mp hf
      refine SX14_35 b7 dX14_spaces_16 rfl ?_
      refine w_goto 0 dX14_spaces_19 (by decide) ?_
      exact (ih _ _ _ hf).to ⟨rfl, trivial⟩
def fX14_spaces (N : Nat) (this : Nat) (h : eH) : Option (Unit × eH) :=
  fX14_spaces_b0 N N this h
theorem pX14_spaces {w : eW} {d : Nat} (hd : 1 ≤ d) {N : Nat} {this : Nat} {h : eH} {q} (hf : fX14_spaces N this h = some q) : wm w d YX14_spaces [.ref this] h (e_is (e_rn c_V q)) := by
  obtain ⟨d, rfl⟩ : ∃ e, d = e + 1 := ⟨d - 1, by omega⟩
  show wp w (d + 1) YX14_spaces 0 [some (.ref this)] [] h _
  unfold fX14_spaces at hf
  exact (pX14_spaces_b0 hd N _ _ _ hf).to ⟨rfl, trivial⟩
abbrev cX17_clear : ByteArray := prog_12_method_2_code
def yX17_clear : MethodName := ⟨RX17, "clear", "()V"⟩
def YX17_clear : eY := (yX17_clear, cX17_clear, 1, none, [])
theorem mX17_clear : e_mv YX17_clear RX17 0 := ⟨q2329, q2330, q2331, by decide, by decide +kernel, (e_sig (by decide +kernel))⟩
theorem dX17_clear_0 : decode cX17_clear 0 = .ok (.aload_n 0, 1) := dc_42 (by decide +kernel)
theorem dX17_clear_1 : decode cX17_clear 1 = .ok (.iconst 0, 1) := dc_3 (by decide +kernel)
theorem dX17_clear_2 : decode cX17_clear 2 = .ok (.putfield 18, 3) := dc_181 (a := 0) (b := 18) (n := 18) (by decide +kernel)
theorem dX17_clear_5 : decode cX17_clear 5 = .ok (.aload_n 0, 1) := dc_42 (by decide +kernel)
theorem dX17_clear_6 : decode cX17_clear 6 = .ok (.getfield 15, 3) := dc_180 (a := 0) (b := 15) (n := 15) (by decide +kernel)
theorem dX17_clear_9 : decode cX17_clear 9 = .ok (.iconst 0, 1) := dc_3 (by decide +kernel)
theorem dX17_clear_10 : decode cX17_clear 10 = .ok (.iconst 0, 1) := dc_3 (by decide +kernel)
theorem dX17_clear_11 : decode cX17_clear 11 = .ok (.bastore, 1) := dc_84 (by decide +kernel)
theorem dX17_clear_12 : decode cX17_clear 12 = .ok (.return_, 1) := dc_177 (by decide +kernel)
theorem GX17_15 {w : eW} {d : Nat} {Y : eY} {pc : Nat} {ls : eL} {st : List Value} {h : eH} {Q : eO → eH → Prop} {a : Nat} {x : Nat} (hf : g_A 16 h a 1 = some x) (hd : decode Y.2.1 pc = .ok (.getfield 15, 3)) (hY : Y.1.cls = RX17) (kk : wp w d Y (pc + 3) ls (.ref x :: st) h Q) : wp w d Y pc ls (.ref a :: st) h Q := x_gA (ci := 16) (k := 1) hf hd rfl (by decide) (by rw [hY]; exact q1091) kk
theorem SX17_18 {w : eW} {d : Nat} {Y : eY} {pc : Nat} {ls : eL} {st : List Value} {h : eH} {Q : eO → eH → Prop} {a : Nat} {h' : eH} {x : Int32} (hf : p_V 16 h a 2 (.int x) = some h') (hd : decode Y.2.1 pc = .ok (.putfield 18, 3)) (hY : Y.1.cls = RX17) (kk : wp w d Y (pc + 3) ls st h' Q) : wp w d Y pc ls (.int x :: .ref a :: st) h Q := x_pI (ci := 16) (k := 2) hf hd rfl (by decide) (by rw [hY]; exact q1095) rfl rfl kk
def fX17_clear (this : Nat) (h : eH) : Option (Unit × eH) :=
  (p_V 16 h this 2 (.int (0 : Int32))).bind fun h1 =>
  (g_A 16 h1 this 1).bind fun a3 =>
  (q_V 102 h1 a3 (0 : Int32) (.int ((0 : Int32)).toInt8.toInt32)).bind fun h5 =>
  some ((), h5)
theorem pX17_clear {w : eW} {d : Nat} (hd : 0 ≤ d) {this : Nat} {h : eH} {q} (hf : fX17_clear this h = some q) : wm w d YX17_clear [.ref this] h (e_is (e_rn c_V q)) := by
  show wp w d YX17_clear 0 [some (.ref this)] [] h _
  unfold fX17_clear at hf
  refine w_aload_n dX17_clear_0 rfl rfl ?_
  refine w_iconst dX17_clear_1 (v := 0) (by decide) ?_
  obtain ⟨h1, b2, hf⟩ := Option.bind_eq_some_iff.mp hf
  refine SX17_18 b2 dX17_clear_2 rfl ?_
  refine w_aload_n dX17_clear_5 rfl rfl ?_
  obtain ⟨a3, b4, hf⟩ := Option.bind_eq_some_iff.mp hf
  refine GX17_15 b4 dX17_clear_6 rfl ?_
  refine w_iconst dX17_clear_9 (v := 0) (by decide) ?_
  refine w_iconst dX17_clear_10 (v := 0) (by decide) ?_
  obtain ⟨h5, b6, hf⟩ := Option.bind_eq_some_iff.mp hf
  refine x_qB b6 dX17_clear_11 ?_
  cases hf
  exact w_vret dX17_clear_12 rfl rfl
abbrev cX14_letter : ByteArray := prog_10_method_2_code
def yX14_letter : MethodName := ⟨RX14, "letter", "(I)I"⟩
def YX14_letter : eY := (yX14_letter, cX14_letter, 1, (Option.some FieldType.int), [])
theorem mX14_letter : e_ms YX14_letter 1 := ⟨q2337, q439, q2338, by decide, by decide +kernel, (e_sig (by decide +kernel))⟩
theorem dX14_letter_0 : decode cX14_letter 0 = .ok (.iload_n 0, 1) := dc_26 (by decide +kernel)
theorem dX14_letter_1 : decode cX14_letter 1 = .ok (.bipush 97, 2) := dc_16 (a := 97) (v := 97) (by decide +kernel)
theorem dX14_letter_3 : decode cX14_letter 3 = .ok (.if_icmp .lt 16, 3) := dc_161 (a := 0) (b := 16) (v := 16) (by decide +kernel)
theorem dX14_letter_6 : decode cX14_letter 6 = .ok (.iload_n 0, 1) := dc_26 (by decide +kernel)
theorem dX14_letter_7 : decode cX14_letter 7 = .ok (.bipush 122, 2) := dc_16 (a := 122) (v := 122) (by decide +kernel)
theorem dX14_letter_9 : decode cX14_letter 9 = .ok (.if_icmp .gt 10, 3) := dc_163 (a := 0) (b := 10) (v := 10) (by decide +kernel)
theorem dX14_letter_12 : decode cX14_letter 12 = .ok (.iload_n 0, 1) := dc_26 (by decide +kernel)
theorem dX14_letter_13 : decode cX14_letter 13 = .ok (.bipush 96, 2) := dc_16 (a := 96) (v := 96) (by decide +kernel)
theorem dX14_letter_15 : decode cX14_letter 15 = .ok (.isub, 1) := dc_100 (by decide +kernel)
theorem dX14_letter_16 : decode cX14_letter 16 = .ok (.goto 23, 3) := dc_167 (a := 0) (b := 23) (v := 23) (by decide +kernel)
theorem dX14_letter_19 : decode cX14_letter 19 = .ok (.iload_n 0, 1) := dc_26 (by decide +kernel)
theorem dX14_letter_20 : decode cX14_letter 20 = .ok (.bipush 65, 2) := dc_16 (a := 65) (v := 65) (by decide +kernel)
theorem dX14_letter_22 : decode cX14_letter 22 = .ok (.if_icmp .lt 16, 3) := dc_161 (a := 0) (b := 16) (v := 16) (by decide +kernel)
theorem dX14_letter_25 : decode cX14_letter 25 = .ok (.iload_n 0, 1) := dc_26 (by decide +kernel)
theorem dX14_letter_26 : decode cX14_letter 26 = .ok (.bipush 90, 2) := dc_16 (a := 90) (v := 90) (by decide +kernel)
theorem dX14_letter_28 : decode cX14_letter 28 = .ok (.if_icmp .gt 10, 3) := dc_163 (a := 0) (b := 10) (v := 10) (by decide +kernel)
theorem dX14_letter_31 : decode cX14_letter 31 = .ok (.iload_n 0, 1) := dc_26 (by decide +kernel)
theorem dX14_letter_32 : decode cX14_letter 32 = .ok (.bipush 64, 2) := dc_16 (a := 64) (v := 64) (by decide +kernel)
theorem dX14_letter_34 : decode cX14_letter 34 = .ok (.isub, 1) := dc_100 (by decide +kernel)
theorem dX14_letter_35 : decode cX14_letter 35 = .ok (.goto 4, 3) := dc_167 (a := 0) (b := 4) (v := 4) (by decide +kernel)
theorem dX14_letter_38 : decode cX14_letter 38 = .ok (.iconst 0, 1) := dc_3 (by decide +kernel)
theorem dX14_letter_39 : decode cX14_letter 39 = .ok (.ireturn, 1) := dc_172 (by decide +kernel)
def fX14_letter_b39 (s0 : Int32) (h : eH) : Option (Int32 × eH) :=
  some (s0, h)
theorem pX14_letter_b39 {w : eW} {d : Nat} (hd : 0 ≤ d) {s0 : Int32} {h : eH} {q} (hf : fX14_letter_b39 s0 h = some q) : wp w d YX14_letter 39 [none] [.int s0] h (e_is (e_rn c_I q)) := by
  unfold fX14_letter_b39 at hf
  cases hf
  exact w_iret dX14_letter_39 rfl rfl rfl
def fX14_letter_b38  (h : eH) : Option (Int32 × eH) :=
  fX14_letter_b39 (0 : Int32) h
theorem pX14_letter_b38 {w : eW} {d : Nat} (hd : 0 ≤ d)  {h : eH} {q} (hf : fX14_letter_b38  h = some q) : wp w d YX14_letter 38 [none] [] h (e_is (e_rn c_I q)) := by
  unfold fX14_letter_b38 at hf
  refine w_iconst dX14_letter_38 (v := 0) (by decide) ?_
  exact (pX14_letter_b39 hd hf).to trivial
def fX14_letter_b19 (l0 : Int32) (h : eH) : Option (Int32 × eH) :=
  if l0 < (65 : Int32) then
    fX14_letter_b38 h
  else
    if (90 : Int32) < l0 then
      fX14_letter_b38 h
    else
      fX14_letter_b39 (l0 - (64 : Int32)) h
theorem pX14_letter_b19 {w : eW} {d : Nat} (hd : 0 ≤ d) {l0 : Int32} {h : eH} {q} (hf : fX14_letter_b19 l0 h = some q) : wp w d YX14_letter 19 [some (.int l0)] [] h (e_is (e_rn c_I q)) := by
  unfold fX14_letter_b19 at hf
  refine w_iload_n dX14_letter_19 rfl rfl ?_
  refine w_bipush dX14_letter_20 (v := 65) (by decide) ?_
  refine w_icmp_lt 38 dX14_letter_22 (by decide) (fun c1 => ?_) (fun c1 => ?_)
  · replace hf := (if_pos (show l0 < (65 : Int32) from c1)).symm.trans hf
    exact (pX14_letter_b38 hd hf).to trivial
  · replace hf := (if_neg (show ¬ (l0 < (65 : Int32)) from c1)).symm.trans hf
    refine w_iload_n dX14_letter_25 rfl rfl ?_
    refine w_bipush dX14_letter_26 (v := 90) (by decide) ?_
    refine w_icmp_gt 38 dX14_letter_28 (by decide) (fun c2 => ?_) (fun c2 => ?_)
    · replace hf := (if_pos (show (90 : Int32) < l0 from c2)).symm.trans hf
      exact (pX14_letter_b38 hd hf).to trivial
    · replace hf := (if_neg (show ¬ ((90 : Int32) < l0) from c2)).symm.trans hf
      refine w_iload_n dX14_letter_31 rfl rfl ?_
      refine w_bipush dX14_letter_32 (v := 64) (by decide) ?_
      refine w_isub dX14_letter_34 ?_
      refine w_goto 39 dX14_letter_35 (by decide) ?_
      exact (pX14_letter_b39 hd hf).to trivial
def fX14_letter (p0 : Int32) (h : eH) : Option (Int32 × eH) :=
  if p0 < (97 : Int32) then
    fX14_letter_b19 p0 h
  else
    if (122 : Int32) < p0 then
      fX14_letter_b19 p0 h
    else
      fX14_letter_b39 (p0 - (96 : Int32)) h
theorem pX14_letter {w : eW} {d : Nat} (hd : 0 ≤ d) {p0 : Int32} {h : eH} {q} (hf : fX14_letter p0 h = some q) : wm w d YX14_letter [.int p0] h (e_is (e_rn c_I q)) := by
  show wp w d YX14_letter 0 [some (.int p0)] [] h _
  unfold fX14_letter at hf
  refine w_iload_n dX14_letter_0 rfl rfl ?_
  refine w_bipush dX14_letter_1 (v := 97) (by decide) ?_
  refine w_icmp_lt 19 dX14_letter_3 (by decide) (fun c1 => ?_) (fun c1 => ?_)
  · replace hf := (if_pos (show p0 < (97 : Int32) from c1)).symm.trans hf
    exact (pX14_letter_b19 hd hf).to ⟨rfl, trivial⟩
  · replace hf := (if_neg (show ¬ (p0 < (97 : Int32)) from c1)).symm.trans hf
    refine w_iload_n dX14_letter_6 rfl rfl ?_
    refine w_bipush dX14_letter_7 (v := 122) (by decide) ?_
    refine w_icmp_gt 19 dX14_letter_9 (by decide) (fun c2 => ?_) (fun c2 => ?_)
    · replace hf := (if_pos (show (122 : Int32) < p0 from c2)).symm.trans hf
      exact (pX14_letter_b19 hd hf).to ⟨rfl, trivial⟩
    · replace hf := (if_neg (show ¬ ((122 : Int32) < p0) from c2)).symm.trans hf
      refine w_iload_n dX14_letter_12 rfl rfl ?_
      refine w_bipush dX14_letter_13 (v := 96) (by decide) ?_
      refine w_isub dX14_letter_15 ?_
      refine w_goto 39 dX14_letter_16 (by decide) ?_
      exact (pX14_letter_b39 hd hf).to trivial
abbrev cX14_want : ByteArray := prog_10_method_5_code
def yX14_want : MethodName := ⟨RX14, "want", "(ZII)V"⟩
def YX14_want : eY := (yX14_want, cX14_want, 4, none, [])
theorem mX14_want : e_mv YX14_want RX14 3 := ⟨q2341, qs34, q2342, by decide, by decide +kernel, (e_sig (by decide +kernel))⟩
theorem dX14_want_0 : decode cX14_want 0 = .ok (.iload_n 1, 1) := dc_27 (by decide +kernel)
theorem dX14_want_1 : decode cX14_want 1 = .ok (.ifCond .eq 4, 3) := dc_153 (a := 0) (b := 4) (v := 4) (by decide +kernel)
theorem dX14_want_4 : decode cX14_want 4 = .ok (.return_, 1) := dc_177 (by decide +kernel)
theorem dX14_want_5 : decode cX14_want 5 = .ok (.aload_n 0, 1) := dc_42 (by decide +kernel)
theorem dX14_want_6 : decode cX14_want 6 = .ok (.ldc 46, 2) := dc_18 (a := 46) (by decide +kernel)
theorem dX14_want_8 : decode cX14_want 8 = .ok (.iload_n 2, 1) := dc_28 (by decide +kernel)
theorem dX14_want_9 : decode cX14_want 9 = .ok (.imul, 1) := dc_104 (by decide +kernel)
theorem dX14_want_10 : decode cX14_want 10 = .ok (.iload_n 3, 1) := dc_29 (by decide +kernel)
theorem dX14_want_11 : decode cX14_want 11 = .ok (.isub, 1) := dc_100 (by decide +kernel)
theorem dX14_want_12 : decode cX14_want 12 = .ok (.putfield 47, 3) := dc_181 (a := 0) (b := 47) (n := 47) (by decide +kernel)
theorem dX14_want_15 : decode cX14_want 15 = .ok (.new 50, 3) := dc_187 (a := 0) (b := 50) (n := 50) (by decide +kernel)
theorem dX14_want_18 : decode cX14_want 18 = .ok (.dup, 1) := dc_89 (by decide +kernel)
theorem dX14_want_19 : decode cX14_want 19 = .ok (.invokespecial 52, 3) := dc_183 (a := 0) (b := 52) (n := 52) (by decide +kernel)
theorem dX14_want_22 : decode cX14_want 22 = .ok (.athrow, 1) := dc_191 (by decide +kernel)
theorem SX14_47 {w : eW} {d : Nat} {Y : eY} {pc : Nat} {ls : eL} {st : List Value} {h : eH} {Q : eO → eH → Prop} {a : Nat} {h' : eH} {x : Int32} (hf : p_V 13 h a 7 (.int x) = some h') (hd : decode Y.2.1 pc = .ok (.putfield 47, 3)) (hY : Y.1.cls = RX14) (kk : wp w d Y (pc + 3) ls st h' Q) : wp w d Y pc ls (.int x :: .ref a :: st) h Q := x_pI (ci := 13) (k := 7) hf hd rfl (by decide) (by rw [hY]; exact q1113) rfl rfl kk
def fX14_want (this : Nat) (p0 : Int32) (p1 : Int32) (p2 : Int32) (h : eH) : Option ((Unit ⊕ Nat) × eH) :=
  if p0 = 0 then
    (p_V 13 h this 7 (.int (((-100000 : Int32) * p1) - p2))).bind fun h2 =>
    (n_exc 50 h2).bind fun q4 => some (.inr q4.1, q4.2)
  else
    some (.inl (), h)
theorem pX14_want {w : eW} {d : Nat} (hd : 6 ≤ d) {this : Nat} {p0 : Int32} {p1 : Int32} {p2 : Int32} {h : eH} {q} (hf : fX14_want this p0 p1 p2 h = some q) : wm w d YX14_want [.ref this, .int p0, .int p1, .int p2] h (e_is (e_rt c_V q)) := by
  obtain ⟨d, rfl⟩ : ∃ e, d = e + 1 := ⟨d - 1, by omega⟩
  show wp w (d + 1) YX14_want 0 [some (.ref this), some (.int p0), some (.int p1), some (.int p2)] [] h _
  unfold fX14_want at hf
  refine w_iload_n dX14_want_0 rfl rfl ?_
  refine w_if_eq 5 dX14_want_1 (by decide) (fun c1 => ?_) (fun c1 => ?_)
  · replace hf := (if_pos (show p0 = 0 from c1)).symm.trans hf
    refine w_aload_n dX14_want_5 rfl rfl ?_
    refine w_ldc dX14_want_6 q2343 ?_
    refine w_iload_n dX14_want_8 rfl rfl ?_
    refine w_imul dX14_want_9 ?_
    refine w_iload_n dX14_want_10 rfl rfl ?_
    refine w_isub dX14_want_11 ?_
    obtain ⟨h2, b3, hf⟩ := Option.bind_eq_some_iff.mp hf
    refine SX14_47 b3 dX14_want_12 rfl ?_
    obtain ⟨q4, b5, hf⟩ := Option.bind_eq_some_iff.mp hf
    cases hf
    exact x_thr (ci := 50) b5 (Nat.le_of_ble_eq_true rfl) (Nat.le_of_ble_eq_true rfl) dX14_want_15 dX14_want_18 dX14_want_19 dX14_want_22 rfl q2307 q2174 q474 q2344 (Nat.le_of_ble_eq_true rfl) rfl (by omega)
  · replace hf := (if_neg (show ¬ (p0 = 0) from c1)).symm.trans hf
    cases hf
    exact w_vret dX14_want_4 rfl rfl
abbrev cX17_add : ByteArray := prog_12_method_3_code
def yX17_add : MethodName := ⟨RX17, "add", "(I)V"⟩
def YX17_add : eY := (yX17_add, cX17_add, 2, none, [])
theorem mX17_add : e_mv YX17_add RX17 1 := ⟨q2346, q2347, q2348, by decide, by decide +kernel, (e_sig (by decide +kernel))⟩
theorem dX17_add_0 : decode cX17_add 0 = .ok (.aload_n 0, 1) := dc_42 (by decide +kernel)
theorem dX17_add_1 : decode cX17_add 1 = .ok (.getfield 9, 3) := dc_180 (a := 0) (b := 9) (n := 9) (by decide +kernel)
theorem dX17_add_4 : decode cX17_add 4 = .ok (.aload_n 0, 1) := dc_42 (by decide +kernel)
theorem dX17_add_5 : decode cX17_add 5 = .ok (.dup, 1) := dc_89 (by decide +kernel)
theorem dX17_add_6 : decode cX17_add 6 = .ok (.getfield 18, 3) := dc_180 (a := 0) (b := 18) (n := 18) (by decide +kernel)
theorem dX17_add_9 : decode cX17_add 9 = .ok (.dup_x1, 1) := dc_90 (by decide +kernel)
theorem dX17_add_10 : decode cX17_add 10 = .ok (.iconst 1, 1) := dc_4 (by decide +kernel)
theorem dX17_add_11 : decode cX17_add 11 = .ok (.iadd, 1) := dc_96 (by decide +kernel)
theorem dX17_add_12 : decode cX17_add 12 = .ok (.putfield 18, 3) := dc_181 (a := 0) (b := 18) (n := 18) (by decide +kernel)
theorem dX17_add_15 : decode cX17_add 15 = .ok (.iload_n 1, 1) := dc_27 (by decide +kernel)
theorem dX17_add_16 : decode cX17_add 16 = .ok (.i2b, 1) := dc_145 (by decide +kernel)
theorem dX17_add_17 : decode cX17_add 17 = .ok (.bastore, 1) := dc_84 (by decide +kernel)
theorem dX17_add_18 : decode cX17_add 18 = .ok (.aload_n 0, 1) := dc_42 (by decide +kernel)
theorem dX17_add_19 : decode cX17_add 19 = .ok (.getfield 15, 3) := dc_180 (a := 0) (b := 15) (n := 15) (by decide +kernel)
theorem dX17_add_22 : decode cX17_add 22 = .ok (.aload_n 0, 1) := dc_42 (by decide +kernel)
theorem dX17_add_23 : decode cX17_add 23 = .ok (.getfield 18, 3) := dc_180 (a := 0) (b := 18) (n := 18) (by decide +kernel)
theorem dX17_add_26 : decode cX17_add 26 = .ok (.iconst 0, 1) := dc_3 (by decide +kernel)
theorem dX17_add_27 : decode cX17_add 27 = .ok (.bastore, 1) := dc_84 (by decide +kernel)
theorem dX17_add_28 : decode cX17_add 28 = .ok (.return_, 1) := dc_177 (by decide +kernel)
theorem GX17_18 {w : eW} {d : Nat} {Y : eY} {pc : Nat} {ls : eL} {st : List Value} {h : eH} {Q : eO → eH → Prop} {a : Nat} {x : Int32} (hf : g_I 16 h a 2 = some x) (hd : decode Y.2.1 pc = .ok (.getfield 18, 3)) (hY : Y.1.cls = RX17) (kk : wp w d Y (pc + 3) ls (.int x :: st) h Q) : wp w d Y pc ls (.ref a :: st) h Q := x_gI (ci := 16) (k := 2) hf hd rfl (by decide) (by rw [hY]; exact q1095) kk
theorem GX17_9 {w : eW} {d : Nat} {Y : eY} {pc : Nat} {ls : eL} {st : List Value} {h : eH} {Q : eO → eH → Prop} {a : Nat} {x : Nat} (hf : g_A 16 h a 0 = some x) (hd : decode Y.2.1 pc = .ok (.getfield 9, 3)) (hY : Y.1.cls = RX17) (kk : wp w d Y (pc + 3) ls (.ref x :: st) h Q) : wp w d Y pc ls (.ref a :: st) h Q := x_gA (ci := 16) (k := 0) hf hd rfl (by decide) (by rw [hY]; exact q1088) kk
def fX17_add (this : Nat) (p0 : Int32) (h : eH) : Option (Unit × eH) :=
  (g_A 16 h this 0).bind fun a1 =>
  (g_I 16 h this 2).bind fun x3 =>
  (p_V 16 h this 2 (.int (x3 + (1 : Int32)))).bind fun h5 =>
  (q_V 102 h5 a1 x3 (.int ((p0).toInt8.toInt32).toInt8.toInt32)).bind fun h7 =>
  (g_A 16 h7 this 1).bind fun a9 =>
  (g_I 16 h7 this 2).bind fun x11 =>
  (q_V 102 h7 a9 x11 (.int ((0 : Int32)).toInt8.toInt32)).bind fun h13 =>
  some ((), h13)
theorem pX17_add {w : eW} {d : Nat} (hd : 0 ≤ d) {this : Nat} {p0 : Int32} {h : eH} {q} (hf : fX17_add this p0 h = some q) : wm w d YX17_add [.ref this, .int p0] h (e_is (e_rn c_V q)) := by
  show wp w d YX17_add 0 [some (.ref this), some (.int p0)] [] h _
  unfold fX17_add at hf
  refine w_aload_n dX17_add_0 rfl rfl ?_
  obtain ⟨a1, b2, hf⟩ := Option.bind_eq_some_iff.mp hf
  refine GX17_9 b2 dX17_add_1 rfl ?_
  refine w_aload_n dX17_add_4 rfl rfl ?_
  refine w_dup dX17_add_5 rfl ?_
  obtain ⟨x3, b4, hf⟩ := Option.bind_eq_some_iff.mp hf
  refine GX17_18 b4 dX17_add_6 rfl ?_
  refine w_dup_x1 dX17_add_9 rfl rfl ?_
  refine w_iconst dX17_add_10 (v := 1) (by decide) ?_
  refine w_iadd dX17_add_11 ?_
  obtain ⟨h5, b6, hf⟩ := Option.bind_eq_some_iff.mp hf
  refine SX17_18 b6 dX17_add_12 rfl ?_
  refine w_iload_n dX17_add_15 rfl rfl ?_
  refine w_i2b dX17_add_16 ?_
  obtain ⟨h7, b8, hf⟩ := Option.bind_eq_some_iff.mp hf
  refine x_qB b8 dX17_add_17 ?_
  refine w_aload_n dX17_add_18 rfl rfl ?_
  obtain ⟨a9, b10, hf⟩ := Option.bind_eq_some_iff.mp hf
  refine GX17_15 b10 dX17_add_19 rfl ?_
  refine w_aload_n dX17_add_22 rfl rfl ?_
  obtain ⟨x11, b12, hf⟩ := Option.bind_eq_some_iff.mp hf
  refine GX17_18 b12 dX17_add_23 rfl ?_
  refine w_iconst dX17_add_26 (v := 0) (by decide) ?_
  obtain ⟨h13, b14, hf⟩ := Option.bind_eq_some_iff.mp hf
  refine x_qB b14 dX17_add_27 ?_
  cases hf
  exact w_vret dX17_add_28 rfl rfl
abbrev cX14_readLetter : ByteArray := prog_10_method_8_code
def yX14_readLetter : MethodName := ⟨RX14, "readLetter", "(I)V"⟩
def YX14_readLetter : eY := (yX14_readLetter, cX14_readLetter, 3, none, [])
theorem mX14_readLetter : e_mv YX14_readLetter RX14 1 := ⟨q2334, qs33, q2335, by decide, by decide +kernel, (e_sig (by decide +kernel))⟩
theorem dX14_readLetter_0 : decode cX14_readLetter 0 = .ok (.aload_n 0, 1) := dc_42 (by decide +kernel)
theorem dX14_readLetter_1 : decode cX14_readLetter 1 = .ok (.invokevirtual 53, 3) := dc_182 (a := 0) (b := 53) (n := 53) (by decide +kernel)
theorem dX14_readLetter_4 : decode cX14_readLetter 4 = .ok (.invokestatic 61, 3) := dc_184 (a := 0) (b := 61) (n := 61) (by decide +kernel)
theorem dX14_readLetter_7 : decode cX14_readLetter 7 = .ok (.istore_n 2, 1) := dc_61 (by decide +kernel)
theorem dX14_readLetter_8 : decode cX14_readLetter 8 = .ok (.aload_n 0, 1) := dc_42 (by decide +kernel)
theorem dX14_readLetter_9 : decode cX14_readLetter 9 = .ok (.iload_n 2, 1) := dc_28 (by decide +kernel)
theorem dX14_readLetter_10 : decode cX14_readLetter 10 = .ok (.ifCond .le 7, 3) := dc_158 (a := 0) (b := 7) (v := 7) (by decide +kernel)
theorem dX14_readLetter_13 : decode cX14_readLetter 13 = .ok (.iconst 1, 1) := dc_4 (by decide +kernel)
theorem dX14_readLetter_14 : decode cX14_readLetter 14 = .ok (.goto 4, 3) := dc_167 (a := 0) (b := 4) (v := 4) (by decide +kernel)
theorem dX14_readLetter_17 : decode cX14_readLetter 17 = .ok (.iconst 0, 1) := dc_3 (by decide +kernel)
theorem dX14_readLetter_18 : decode cX14_readLetter 18 = .ok (.iconst 1, 1) := dc_4 (by decide +kernel)
theorem dX14_readLetter_19 : decode cX14_readLetter 19 = .ok (.aload_n 0, 1) := dc_42 (by decide +kernel)
theorem dX14_readLetter_20 : decode cX14_readLetter 20 = .ok (.getfield 35, 3) := dc_180 (a := 0) (b := 35) (n := 35) (by decide +kernel)
theorem dX14_readLetter_23 : decode cX14_readLetter 23 = .ok (.invokevirtual 65, 3) := dc_182 (a := 0) (b := 65) (n := 65) (by decide +kernel)
theorem dX14_readLetter_26 : decode cX14_readLetter 26 = .ok (.aload_n 0, 1) := dc_42 (by decide +kernel)
theorem dX14_readLetter_27 : decode cX14_readLetter 27 = .ok (.dup, 1) := dc_89 (by decide +kernel)
theorem dX14_readLetter_28 : decode cX14_readLetter 28 = .ok (.getfield 35, 3) := dc_180 (a := 0) (b := 35) (n := 35) (by decide +kernel)
theorem dX14_readLetter_31 : decode cX14_readLetter 31 = .ok (.iconst 1, 1) := dc_4 (by decide +kernel)
theorem dX14_readLetter_32 : decode cX14_readLetter 32 = .ok (.iadd, 1) := dc_96 (by decide +kernel)
theorem dX14_readLetter_33 : decode cX14_readLetter 33 = .ok (.putfield 35, 3) := dc_181 (a := 0) (b := 35) (n := 35) (by decide +kernel)
theorem dX14_readLetter_36 : decode cX14_readLetter 36 = .ok (.iload_n 1, 1) := dc_27 (by decide +kernel)
theorem dX14_readLetter_37 : decode cX14_readLetter 37 = .ok (.bipush 63, 2) := dc_16 (a := 63) (v := 63) (by decide +kernel)
theorem dX14_readLetter_39 : decode cX14_readLetter 39 = .ok (.if_icmp .gt 11, 3) := dc_163 (a := 0) (b := 11) (v := 11) (by decide +kernel)
theorem dX14_readLetter_42 : decode cX14_readLetter 42 = .ok (.aload_n 0, 1) := dc_42 (by decide +kernel)
theorem dX14_readLetter_43 : decode cX14_readLetter 43 = .ok (.getfield 28, 3) := dc_180 (a := 0) (b := 28) (n := 28) (by decide +kernel)
theorem dX14_readLetter_46 : decode cX14_readLetter 46 = .ok (.iload_n 2, 1) := dc_28 (by decide +kernel)
theorem dX14_readLetter_47 : decode cX14_readLetter 47 = .ok (.invokevirtual 69, 3) := dc_182 (a := 0) (b := 69) (n := 69) (by decide +kernel)
theorem dX14_readLetter_50 : decode cX14_readLetter 50 = .ok (.return_, 1) := dc_177 (by decide +kernel)
theorem GX14_28 {w : eW} {d : Nat} {Y : eY} {pc : Nat} {ls : eL} {st : List Value} {h : eH} {Q : eO → eH → Prop} {a : Nat} {x : Nat} (hf : g_A 13 h a 2 = some x) (hd : decode Y.2.1 pc = .ok (.getfield 28, 3)) (hY : Y.1.cls = RX14) (kk : wp w d Y (pc + 3) ls (.ref x :: st) h Q) : wp w d Y pc ls (.ref a :: st) h Q := x_gA (ci := 13) (k := 2) hf hd rfl (by decide) (by rw [hY]; exact q1108) kk
def fX14_readLetter_b50  (h : eH) : Option ((Unit ⊕ Nat) × eH) :=
  some (.inl (), h)
theorem pX14_readLetter_b50 {w : eW} {d : Nat} (hd : 7 ≤ d + 1)  {h : eH} {q} (hf : fX14_readLetter_b50  h = some q) : wp w (d + 1) YX14_readLetter 50 [none, none, none] [] h (e_is (e_rt c_V q)) := by
  unfold fX14_readLetter_b50 at hf
  cases hf
  exact w_vret dX14_readLetter_50 rfl rfl
def fX14_readLetter_b18 (l0 : Nat) (l1 : Int32) (l2 : Int32) (s0 : Nat) (s1 : Int32) (h : eH) : Option ((Unit ⊕ Nat) × eH) :=
  (g_I 13 h l0 6).bind fun x1 =>
  (k_ok 13 h s0).bind fun _ =>
  t_B (fX14_want s0 s1 (1 : Int32) x1 h) fun x4 h5 =>
  (g_I 13 h5 l0 6).bind fun x6 =>
  (p_V 13 h5 l0 6 (.int (x6 + (1 : Int32)))).bind fun h8 =>
  if (63 : Int32) < l1 then
    fX14_readLetter_b50 h8
  else
    (g_A 13 h8 l0 2).bind fun a11 =>
    (k_ok 16 h8 a11).bind fun _ =>
    (fX17_add a11 l2 h8).bind fun q14 =>
    fX14_readLetter_b50 q14.2
theorem pX14_readLetter_b18 {w : eW} {d : Nat} (hd : 7 ≤ d + 1) {l0 : Nat} {l1 : Int32} {l2 : Int32} {s0 : Nat} {s1 : Int32} {h : eH} {q} (hf : fX14_readLetter_b18 l0 l1 l2 s0 s1 h = some q) : wp w (d + 1) YX14_readLetter 18 [some (.ref l0), some (.int l1), some (.int l2)] [.int s1, .ref s0] h (e_is (e_rt c_V q)) := by
  unfold fX14_readLetter_b18 at hf
  refine w_iconst dX14_readLetter_18 (v := 1) (by decide) ?_
  refine w_aload_n dX14_readLetter_19 rfl rfl ?_
  obtain ⟨x1, b2, hf⟩ := Option.bind_eq_some_iff.mp hf
  refine GX14_35 b2 dX14_readLetter_20 rfl ?_
  obtain ⟨_, b3, hf⟩ := Option.bind_eq_some_iff.mp hf
  refine x_ctV hf (e_stV (Yc := YX14_want) (ci := 13) (av := [.int s1, .int (1 : Int32), .int x1]) (st := []) dX14_readLetter_23 q2339 mX14_want rfl (k_ok_some b3).1 (k_ok_some b3).2) mX14_want.2.2.1 mX14_want.2.2.2.2.1 (Nat.le_of_ble_eq_true rfl) (Nat.le_of_ble_eq_true rfl) rfl (fun q hq => pX14_want (by omega) hq) (fun x4 h5 hf => ?_)
  refine w_aload_n dX14_readLetter_26 rfl rfl ?_
  refine w_dup dX14_readLetter_27 rfl ?_
  obtain ⟨x6, b7, hf⟩ := Option.bind_eq_some_iff.mp hf
  refine GX14_35 b7 dX14_readLetter_28 rfl ?_
  refine w_iconst dX14_readLetter_31 (v := 1) (by decide) ?_
  refine w_iadd dX14_readLetter_32 ?_
  obtain ⟨h8, b9, hf⟩ := Option.bind_eq_some_iff.mp hf
  refine SX14_35 b9 dX14_readLetter_33 rfl ?_
  refine w_iload_n dX14_readLetter_36 rfl rfl ?_
  refine w_bipush dX14_readLetter_37 (v := 63) (by decide) ?_
  refine w_icmp_gt 50 dX14_readLetter_39 (by decide) (fun c10 => ?_) (fun c10 => ?_)
  · replace hf := (if_pos (show (63 : Int32) < l1 from c10)).symm.trans hf
    exact (pX14_readLetter_b50 hd hf).to trivial
  · replace hf := (if_neg (show ¬ ((63 : Int32) < l1) from c10)).symm.trans hf
    refine w_aload_n dX14_readLetter_42 rfl rfl ?_
    obtain ⟨a11, b12, hf⟩ := Option.bind_eq_some_iff.mp hf
    refine GX14_28 b12 dX14_readLetter_43 rfl ?_
    refine w_iload_n dX14_readLetter_46 rfl rfl ?_
    obtain ⟨_, b13, hf⟩ := Option.bind_eq_some_iff.mp hf
    refine x_cnV hf (e_stV (Yc := YX17_add) (ci := 16) (av := [.int l2]) (st := []) dX14_readLetter_47 q2345 mX17_add rfl (k_ok_some b13).1 (k_ok_some b13).2) mX17_add.2.2.1 mX17_add.2.2.2.2.1 (Nat.le_of_ble_eq_true rfl) (Nat.le_of_ble_eq_true rfl) (fun q hq => pX17_add (by omega) hq) (fun q14 hf => ?_)
    exact (pX14_readLetter_b50 hd hf).to trivial
def fX14_readLetter (this : Nat) (p0 : Int32) (h : eH) : Option ((Unit ⊕ Nat) × eH) :=
  (k_ok 13 h this).bind fun _ =>
  (fX14_next this h).bind fun q2 =>
  (fX14_letter q2.1 q2.2).bind fun q3 =>
  if q3.1 ≤ 0 then
    fX14_readLetter_b18 this p0 q3.1 this (0 : Int32) q3.2
  else
    fX14_readLetter_b18 this p0 q3.1 this (1 : Int32) q3.2
theorem pX14_readLetter {w : eW} {d : Nat} (hd : 7 ≤ d) {this : Nat} {p0 : Int32} {h : eH} {q} (hf : fX14_readLetter this p0 h = some q) : wm w d YX14_readLetter [.ref this, .int p0] h (e_is (e_rt c_V q)) := by
  obtain ⟨d, rfl⟩ : ∃ e, d = e + 1 := ⟨d - 1, by omega⟩
  show wp w (d + 1) YX14_readLetter 0 [some (.ref this), some (.int p0), none] [] h _
  unfold fX14_readLetter at hf
  refine w_aload_n dX14_readLetter_0 rfl rfl ?_
  obtain ⟨_, b1, hf⟩ := Option.bind_eq_some_iff.mp hf
  refine x_cnI hf (e_stV (Yc := YX14_next) (ci := 13) (av := []) (st := []) dX14_readLetter_1 q2320 mX14_next rfl (k_ok_some b1).1 (k_ok_some b1).2) mX14_next.2.2.1 mX14_next.2.2.2.2.1 (Nat.le_of_ble_eq_true rfl) (Nat.le_of_ble_eq_true rfl) (fun q hq => pX14_next (by omega) hq) (fun q2 hf => ?_)
  refine x_cnI hf (e_stS (Yc := YX14_letter) (av := [.int q2.1]) (st := []) dX14_readLetter_4 q2336 mX14_letter) mX14_letter.2.2.1 mX14_letter.2.2.2.2.1 (Nat.le_of_ble_eq_true rfl) (Nat.le_of_ble_eq_true rfl) (fun q hq => pX14_letter (by omega) hq) (fun q3 hf => ?_)
  refine w_istore_n dX14_readLetter_7 rfl (by decide) (ls' := [some (.ref this), some (.int p0), some (.int q3.1)]) rfl ?_
  refine w_aload_n dX14_readLetter_8 rfl rfl ?_
  refine w_iload_n dX14_readLetter_9 rfl rfl ?_
  refine w_if_le 17 dX14_readLetter_10 (by decide) (fun c4 => ?_) (fun c4 => ?_)
  · replace hf := (if_pos (show q3.1 ≤ 0 from c4)).symm.trans hf
    refine w_iconst dX14_readLetter_17 (v := 0) (by decide) ?_
    exact (pX14_readLetter_b18 hd hf).to ⟨rfl, rfl, rfl, trivial⟩
  · replace hf := (if_neg (show ¬ (q3.1 ≤ 0) from c4)).symm.trans hf
    refine w_iconst dX14_readLetter_13 (v := 1) (by decide) ?_
    refine w_goto 18 dX14_readLetter_14 (by decide) ?_
    exact (pX14_readLetter_b18 hd hf).to ⟨rfl, rfl, rfl, trivial⟩
abbrev cX14_isOver : ByteArray := prog_10_method_9_code
def yX14_isOver : MethodName := ⟨RX14, "isOver", "()Z"⟩
def YX14_isOver : eY := (yX14_isOver, cX14_isOver, 1, (Option.some FieldType.boolean), [])
theorem mX14_isOver : e_mv YX14_isOver RX14 0 := ⟨q2351, qs35, q2352, by decide, by decide +kernel, (e_sig (by decide +kernel))⟩
theorem dX14_isOver_0 : decode cX14_isOver 0 = .ok (.aload_n 0, 1) := dc_42 (by decide +kernel)
theorem dX14_isOver_1 : decode cX14_isOver 1 = .ok (.invokevirtual 53, 3) := dc_182 (a := 0) (b := 53) (n := 53) (by decide +kernel)
theorem dX14_isOver_4 : decode cX14_isOver 4 = .ok (.ifCond .eq 12, 3) := dc_153 (a := 0) (b := 12) (v := 12) (by decide +kernel)
theorem dX14_isOver_7 : decode cX14_isOver 7 = .ok (.aload_n 0, 1) := dc_42 (by decide +kernel)
theorem dX14_isOver_8 : decode cX14_isOver 8 = .ok (.invokevirtual 53, 3) := dc_182 (a := 0) (b := 53) (n := 53) (by decide +kernel)
theorem dX14_isOver_11 : decode cX14_isOver 11 = .ok (.bipush 32, 2) := dc_16 (a := 32) (v := 32) (by decide +kernel)
theorem dX14_isOver_13 : decode cX14_isOver 13 = .ok (.if_icmp .ne 7, 3) := dc_160 (a := 0) (b := 7) (v := 7) (by decide +kernel)
theorem dX14_isOver_16 : decode cX14_isOver 16 = .ok (.iconst 1, 1) := dc_4 (by decide +kernel)
theorem dX14_isOver_17 : decode cX14_isOver 17 = .ok (.goto 4, 3) := dc_167 (a := 0) (b := 4) (v := 4) (by decide +kernel)
theorem dX14_isOver_20 : decode cX14_isOver 20 = .ok (.iconst 0, 1) := dc_3 (by decide +kernel)
theorem dX14_isOver_21 : decode cX14_isOver 21 = .ok (.ireturn, 1) := dc_172 (by decide +kernel)
def fX14_isOver_b21 (s0 : Int32) (h : eH) : Option (Int32 × eH) :=
  z_r s0 (s0, h)
theorem pX14_isOver_b21 {w : eW} {d : Nat} (hd : 1 ≤ d + 1) {s0 : Int32} {h : eH} {q} (hf : fX14_isOver_b21 s0 h = some q) : wp w (d + 1) YX14_isOver 21 [none] [.int s0] h (e_is (e_rn c_I q)) := by
  unfold fX14_isOver_b21 at hf
  obtain ⟨b1, rfl⟩ := z_r_some hf
  exact w_iret dX14_isOver_21 rfl b1 rfl
def fX14_isOver_b16  (h : eH) : Option (Int32 × eH) :=
  fX14_isOver_b21 (1 : Int32) h
theorem pX14_isOver_b16 {w : eW} {d : Nat} (hd : 1 ≤ d + 1)  {h : eH} {q} (hf : fX14_isOver_b16  h = some q) : wp w (d + 1) YX14_isOver 16 [none] [] h (e_is (e_rn c_I q)) := by
  unfold fX14_isOver_b16 at hf
  refine w_iconst dX14_isOver_16 (v := 1) (by decide) ?_
  refine w_goto 21 dX14_isOver_17 (by decide) ?_
  exact (pX14_isOver_b21 hd hf).to trivial
def fX14_isOver (this : Nat) (h : eH) : Option (Int32 × eH) :=
  (k_ok 13 h this).bind fun _ =>
  (fX14_next this h).bind fun q2 =>
  if q2.1 = 0 then
    fX14_isOver_b16 q2.2
  else
    (k_ok 13 q2.2 this).bind fun _ =>
    (fX14_next this q2.2).bind fun q5 =>
    if ¬ q5.1 = (32 : Int32) then
      fX14_isOver_b21 (0 : Int32) q5.2
    else
      fX14_isOver_b16 q5.2
theorem pX14_isOver {w : eW} {d : Nat} (hd : 1 ≤ d) {this : Nat} {h : eH} {q} (hf : fX14_isOver this h = some q) : wm w d YX14_isOver [.ref this] h (e_is (e_rn c_I q)) := by
  obtain ⟨d, rfl⟩ : ∃ e, d = e + 1 := ⟨d - 1, by omega⟩
  show wp w (d + 1) YX14_isOver 0 [some (.ref this)] [] h _
  unfold fX14_isOver at hf
  refine w_aload_n dX14_isOver_0 rfl rfl ?_
  obtain ⟨_, b1, hf⟩ := Option.bind_eq_some_iff.mp hf
  refine x_cnI hf (e_stV (Yc := YX14_next) (ci := 13) (av := []) (st := []) dX14_isOver_1 q2320 mX14_next rfl (k_ok_some b1).1 (k_ok_some b1).2) mX14_next.2.2.1 mX14_next.2.2.2.2.1 (Nat.le_of_ble_eq_true rfl) (Nat.le_of_ble_eq_true rfl) (fun q hq => pX14_next (by omega) hq) (fun q2 hf => ?_)
  refine w_if_eq 16 dX14_isOver_4 (by decide) (fun c3 => ?_) (fun c3 => ?_)
  · replace hf := (if_pos (show q2.1 = 0 from c3)).symm.trans hf
    exact (pX14_isOver_b16 hd hf).to trivial
  · replace hf := (if_neg (show ¬ (q2.1 = 0) from c3)).symm.trans hf
    refine w_aload_n dX14_isOver_7 rfl rfl ?_
    obtain ⟨_, b4, hf⟩ := Option.bind_eq_some_iff.mp hf
    refine x_cnI hf (e_stV (Yc := YX14_next) (ci := 13) (av := []) (st := []) dX14_isOver_8 q2320 mX14_next rfl (k_ok_some b4).1 (k_ok_some b4).2) mX14_next.2.2.1 mX14_next.2.2.2.2.1 (Nat.le_of_ble_eq_true rfl) (Nat.le_of_ble_eq_true rfl) (fun q hq => pX14_next (by omega) hq) (fun q5 hf => ?_)
    refine w_bipush dX14_isOver_11 (v := 32) (by decide) ?_
    refine w_icmp_ne 20 dX14_isOver_13 (by decide) (fun c6 => ?_) (fun c6 => ?_)
    · replace hf := (if_pos (show ¬ q5.1 = (32 : Int32) from c6)).symm.trans hf
      refine w_iconst dX14_isOver_20 (v := 0) (by decide) ?_
      exact (pX14_isOver_b21 hd hf).to trivial
    · replace hf := (if_neg (show ¬ (¬ q5.1 = (32 : Int32)) from (fun z => z c6))).symm.trans hf
      exact (pX14_isOver_b16 hd hf).to trivial
abbrev cX16_is : ByteArray := prog_32_method_3_code
def yX16_is : MethodName := ⟨RX16, "is", "(ILTypeHouse$Letters;)Z"⟩
def YX16_is : eY := (yX16_is, cX16_is, 5, (Option.some FieldType.boolean), [])
theorem mX16_is : e_mv YX16_is RX16 2 := ⟨q2363, qs37, q2364, by decide, by decide +kernel, (e_sig (by decide +kernel))⟩
theorem dX16_is_0 : decode cX16_is 0 = .ok (.aload_n 0, 1) := dc_42 (by decide +kernel)
theorem dX16_is_1 : decode cX16_is 1 = .ok (.getfield 18, 3) := dc_180 (a := 0) (b := 18) (n := 18) (by decide +kernel)
theorem dX16_is_4 : decode cX16_is 4 = .ok (.iload_n 1, 1) := dc_27 (by decide +kernel)
theorem dX16_is_5 : decode cX16_is 5 = .ok (.iaload, 1) := dc_46 (by decide +kernel)
theorem dX16_is_6 : decode cX16_is 6 = .ok (.aload_n 2, 1) := dc_44 (by decide +kernel)
theorem dX16_is_7 : decode cX16_is 7 = .ok (.getfield 43, 3) := dc_180 (a := 0) (b := 43) (n := 43) (by decide +kernel)
theorem dX16_is_10 : decode cX16_is 10 = .ok (.if_icmp .ne 7, 3) := dc_160 (a := 0) (b := 7) (v := 7) (by decide +kernel)
theorem dX16_is_13 : decode cX16_is 13 = .ok (.iconst 1, 1) := dc_4 (by decide +kernel)
theorem dX16_is_14 : decode cX16_is 14 = .ok (.goto 4, 3) := dc_167 (a := 0) (b := 4) (v := 4) (by decide +kernel)
theorem dX16_is_17 : decode cX16_is 17 = .ok (.iconst 0, 1) := dc_3 (by decide +kernel)
theorem dX16_is_18 : decode cX16_is 18 = .ok (.istore_n 3, 1) := dc_62 (by decide +kernel)
theorem dX16_is_19 : decode cX16_is 19 = .ok (.iconst 0, 1) := dc_3 (by decide +kernel)
theorem dX16_is_20 : decode cX16_is 20 = .ok (.istore 4, 2) := dc_54 (a := 4) (by decide +kernel)
theorem dX16_is_22 : decode cX16_is 22 = .ok (.iload_n 3, 1) := dc_29 (by decide +kernel)
theorem dX16_is_23 : decode cX16_is 23 = .ok (.ifCond .eq 48, 3) := dc_153 (a := 0) (b := 48) (v := 48) (by decide +kernel)
theorem dX16_is_26 : decode cX16_is 26 = .ok (.iload 4, 2) := dc_21 (a := 4) (by decide +kernel)
theorem dX16_is_28 : decode cX16_is 28 = .ok (.aload_n 2, 1) := dc_44 (by decide +kernel)
theorem dX16_is_29 : decode cX16_is 29 = .ok (.getfield 43, 3) := dc_180 (a := 0) (b := 43) (n := 43) (by decide +kernel)
theorem dX16_is_32 : decode cX16_is 32 = .ok (.if_icmp .ge 39, 3) := dc_162 (a := 0) (b := 39) (v := 39) (by decide +kernel)
theorem dX16_is_35 : decode cX16_is 35 = .ok (.aload_n 0, 1) := dc_42 (by decide +kernel)
theorem dX16_is_36 : decode cX16_is 36 = .ok (.getfield 25, 3) := dc_180 (a := 0) (b := 25) (n := 25) (by decide +kernel)
theorem dX16_is_39 : decode cX16_is 39 = .ok (.aload_n 0, 1) := dc_42 (by decide +kernel)
theorem dX16_is_40 : decode cX16_is 40 = .ok (.getfield 15, 3) := dc_180 (a := 0) (b := 15) (n := 15) (by decide +kernel)
theorem dX16_is_43 : decode cX16_is 43 = .ok (.iload_n 1, 1) := dc_27 (by decide +kernel)
theorem dX16_is_44 : decode cX16_is 44 = .ok (.iaload, 1) := dc_46 (by decide +kernel)
theorem dX16_is_45 : decode cX16_is 45 = .ok (.iload 4, 2) := dc_21 (a := 4) (by decide +kernel)
theorem dX16_is_47 : decode cX16_is 47 = .ok (.iadd, 1) := dc_96 (by decide +kernel)
theorem dX16_is_48 : decode cX16_is 48 = .ok (.baload, 1) := dc_51 (by decide +kernel)
theorem dX16_is_49 : decode cX16_is 49 = .ok (.aload_n 2, 1) := dc_44 (by decide +kernel)
theorem dX16_is_50 : decode cX16_is 50 = .ok (.getfield 48, 3) := dc_180 (a := 0) (b := 48) (n := 48) (by decide +kernel)
theorem dX16_is_53 : decode cX16_is 53 = .ok (.iload 4, 2) := dc_21 (a := 4) (by decide +kernel)
theorem dX16_is_55 : decode cX16_is 55 = .ok (.baload, 1) := dc_51 (by decide +kernel)
theorem dX16_is_56 : decode cX16_is 56 = .ok (.if_icmp .ne 7, 3) := dc_160 (a := 0) (b := 7) (v := 7) (by decide +kernel)
theorem dX16_is_59 : decode cX16_is 59 = .ok (.iconst 1, 1) := dc_4 (by decide +kernel)
theorem dX16_is_60 : decode cX16_is 60 = .ok (.goto 4, 3) := dc_167 (a := 0) (b := 4) (v := 4) (by decide +kernel)
theorem dX16_is_63 : decode cX16_is 63 = .ok (.iconst 0, 1) := dc_3 (by decide +kernel)
theorem dX16_is_64 : decode cX16_is 64 = .ok (.istore_n 3, 1) := dc_62 (by decide +kernel)
theorem dX16_is_65 : decode cX16_is 65 = .ok (.iinc 4 1, 3) := dc_132 (a := 4) (b := 1) (v := 1) (by decide +kernel)
theorem dX16_is_68 : decode cX16_is 68 = .ok (.goto (-46), 3) := dc_167 (a := 255) (b := 210) (v := -46) (by decide +kernel)
theorem dX16_is_71 : decode cX16_is 71 = .ok (.iload_n 3, 1) := dc_29 (by decide +kernel)
theorem dX16_is_72 : decode cX16_is 72 = .ok (.ireturn, 1) := dc_172 (by decide +kernel)
theorem GX16_15 {w : eW} {d : Nat} {Y : eY} {pc : Nat} {ls : eL} {st : List Value} {h : eH} {Q : eO → eH → Prop} {a : Nat} {x : Nat} (hf : g_A 15 h a 1 = some x) (hd : decode Y.2.1 pc = .ok (.getfield 15, 3)) (hY : Y.1.cls = RX16) (kk : wp w d Y (pc + 3) ls (.ref x :: st) h Q) : wp w d Y pc ls (.ref a :: st) h Q := x_gA (ci := 15) (k := 1) hf hd rfl (by decide) (by rw [hY]; exact q1043) kk
theorem GX16_18 {w : eW} {d : Nat} {Y : eY} {pc : Nat} {ls : eL} {st : List Value} {h : eH} {Q : eO → eH → Prop} {a : Nat} {x : Nat} (hf : g_A 15 h a 2 = some x) (hd : decode Y.2.1 pc = .ok (.getfield 18, 3)) (hY : Y.1.cls = RX16) (kk : wp w d Y (pc + 3) ls (.ref x :: st) h Q) : wp w d Y pc ls (.ref a :: st) h Q := x_gA (ci := 15) (k := 2) hf hd rfl (by decide) (by rw [hY]; exact q1044) kk
theorem GX16_25 {w : eW} {d : Nat} {Y : eY} {pc : Nat} {ls : eL} {st : List Value} {h : eH} {Q : eO → eH → Prop} {a : Nat} {x : Nat} (hf : g_A 15 h a 4 = some x) (hd : decode Y.2.1 pc = .ok (.getfield 25, 3)) (hY : Y.1.cls = RX16) (kk : wp w d Y (pc + 3) ls (.ref x :: st) h Q) : wp w d Y pc ls (.ref a :: st) h Q := x_gA (ci := 15) (k := 4) hf hd rfl (by decide) (by rw [hY]; exact q1046) kk
theorem GX16_43 {w : eW} {d : Nat} {Y : eY} {pc : Nat} {ls : eL} {st : List Value} {h : eH} {Q : eO → eH → Prop} {a : Nat} {x : Int32} (hf : g_I 16 h a 2 = some x) (hd : decode Y.2.1 pc = .ok (.getfield 43, 3)) (hY : Y.1.cls = RX16) (kk : wp w d Y (pc + 3) ls (.int x :: st) h Q) : wp w d Y pc ls (.ref a :: st) h Q := x_gIN (ci := 16) (k := 2) hf hd rfl (by decide) (by rw [hY]; exact q1096) kk
theorem GX16_48 {w : eW} {d : Nat} {Y : eY} {pc : Nat} {ls : eL} {st : List Value} {h : eH} {Q : eO → eH → Prop} {a : Nat} {x : Nat} (hf : g_A 16 h a 0 = some x) (hd : decode Y.2.1 pc = .ok (.getfield 48, 3)) (hY : Y.1.cls = RX16) (kk : wp w d Y (pc + 3) ls (.ref x :: st) h Q) : wp w d Y pc ls (.ref a :: st) h Q := x_gAN (ci := 16) (k := 0) hf hd rfl (by decide) (by rw [hY]; exact q1089) kk
def fX16_is_b64 (N : Nat) (k22 : Nat → Int32 → Nat → Int32 → Int32 → eH → Option (Int32 × eH)) (l0 : Nat) (l1 : Int32) (l2 : Nat) (l4 : Int32) (s0 : Int32) (h : eH) : Option (Int32 × eH) :=
  k22 l0 l1 l2 s0 (l4 + (1 : Int32)) h
theorem pX16_is_b64 {w : eW} {d : Nat} (hd : 0 ≤ d) {N : Nat} {k22 : Nat → Int32 → Nat → Int32 → Int32 → eH → Option (Int32 × eH)} (hk22 : ∀ l0 l1 l2 l3 l4 h q, k22 l0 l1 l2 l3 l4 h = some q → wp w d YX16_is 22 [some (.ref l0), some (.int l1), some (.ref l2), some (.int l3), some (.int l4)] [] h (e_is (e_rn c_I q))) {l0 : Nat} {l1 : Int32} {l2 : Nat} {l4 : Int32} {s0 : Int32} {h : eH} {q} (hf : fX16_is_b64 N k22 l0 l1 l2 l4 s0 h = some q) : wp w d YX16_is 64 [some (.ref l0), some (.int l1), some (.ref l2), none, some (.int l4)] [.int s0] h (e_is (e_rn c_I q)) := by
  unfold fX16_is_b64 at hf
  refine w_istore_n dX16_is_64 rfl (by decide) (ls' := [some (.ref l0), some (.int l1), some (.ref l2), some (.int s0), some (.int l4)]) rfl ?_
  refine w_iinc dX16_is_65 (v := (l4 + (1 : Int32))) rfl rfl (by decide) (ls' := [some (.ref l0), some (.int l1), some (.ref l2), some (.int s0), some (.int (l4 + (1 : Int32)))]) rfl ?_
  refine w_goto 22 dX16_is_68 (by decide) ?_
  exact (hk22 _ _ _ _ _ _ _ hf).to ⟨rfl, rfl, rfl, rfl, rfl, trivial⟩
def fX16_is_b71 (N : Nat) (l3 : Int32) (h : eH) : Option (Int32 × eH) :=
  z_r l3 (l3, h)
theorem pX16_is_b71 {w : eW} {d : Nat} (hd : 0 ≤ d) {N : Nat} {l3 : Int32} {h : eH} {q} (hf : fX16_is_b71 N l3 h = some q) : wp w d YX16_is 71 [none, none, none, some (.int l3), none] [] h (e_is (e_rn c_I q)) := by
  unfold fX16_is_b71 at hf
  refine w_iload_n dX16_is_71 rfl rfl ?_
  obtain ⟨b1, rfl⟩ := z_r_some hf
  exact w_iret dX16_is_72 rfl b1 rfl
def fX16_is_b22 (N : Nat) : Nat → Nat → Int32 → Nat → Int32 → Int32 → eH → Option (Int32 × eH)
  | 0, _, _, _, _, _, _ => none
  | n + 1, l0, l1, l2, l3, l4, h =>
    if l3 = 0 then
      fX16_is_b71 N l3 h
    else
      (g_I 16 h l2 2).bind fun x2 =>
      if x2 ≤ l4 then
        fX16_is_b71 N l3 h
      else
        (g_A 15 h l0 4).bind fun a5 =>
        (g_A 15 h l0 1).bind fun a7 =>
        (r_I 100 h a7 l1).bind fun x9 =>
        (r_I 102 h a5 (x9 + l4)).bind fun x11 =>
        (g_A 16 h l2 0).bind fun a13 =>
        (r_I 102 h a13 l4).bind fun x15 =>
        if ¬ x11 = x15 then
          fX16_is_b64 N (fX16_is_b22 N n) l0 l1 l2 l4 (0 : Int32) h
        else
          fX16_is_b64 N (fX16_is_b22 N n) l0 l1 l2 l4 (1 : Int32) h
theorem pX16_is_b22 {w : eW} {d : Nat} (hd : 0 ≤ d) {N : Nat} : ∀ (n : Nat) l0 l1 l2 l3 l4 h q, fX16_is_b22 N n l0 l1 l2 l3 l4 h = some q → wp w d YX16_is 22 [some (.ref l0), some (.int l1), some (.ref l2), some (.int l3), some (.int l4)] [] h (e_is (e_rn c_I q)) := by
  intro n
  induction n with
  | zero => intro l0 l1 l2 l3 l4 h q hf; simp [fX16_is_b22] at hf
  | succ n ih =>
    intro l0 l1 l2 l3 l4 h q hf
    rw [fX16_is_b22] at hf
    refine w_iload_n dX16_is_22 rfl rfl ?_
    refine w_if_eq 71 dX16_is_23 (by decide) (fun c1 => ?_) (fun c1 => ?_)
    · replace hf := (if_pos (show l3 = 0 from c1)).symm.trans hf
      exact (pX16_is_b71 hd hf).to ⟨rfl, trivial⟩
    · replace hf := (if_neg (show ¬ (l3 = 0) from c1)).symm.trans hf
      refine w_iload dX16_is_26 rfl ?_
      refine w_aload_n dX16_is_28 rfl rfl ?_
      obtain ⟨x2, b3, hf⟩ := Option.bind_eq_some_iff.mp hf
      refine GX16_43 b3 dX16_is_29 rfl ?_
      refine w_icmp_ge 71 dX16_is_32 (by decide) (fun c4 => ?_) (fun c4 => ?_)
      · replace hf := (if_pos (show x2 ≤ l4 from c4)).symm.trans hf
        exact (pX16_is_b71 hd hf).to ⟨rfl, trivial⟩
      · replace hf := (if_neg (show ¬ (x2 ≤ l4) from c4)).symm.trans hf
        refine w_aload_n dX16_is_35 rfl rfl ?_
        obtain ⟨a5, b6, hf⟩ := Option.bind_eq_some_iff.mp hf
        refine GX16_25 b6 dX16_is_36 rfl ?_
        refine w_aload_n dX16_is_39 rfl rfl ?_
        obtain ⟨a7, b8, hf⟩ := Option.bind_eq_some_iff.mp hf
        refine GX16_15 b8 dX16_is_40 rfl ?_
        refine w_iload_n dX16_is_43 rfl rfl ?_
        obtain ⟨x9, b10, hf⟩ := Option.bind_eq_some_iff.mp hf
        refine x_rI b10 dX16_is_44 ?_
        refine w_iload dX16_is_45 rfl ?_
        refine w_iadd dX16_is_47 ?_
        obtain ⟨x11, b12, hf⟩ := Option.bind_eq_some_iff.mp hf
        refine x_rB b12 dX16_is_48 ?_
        refine w_aload_n dX16_is_49 rfl rfl ?_
        obtain ⟨a13, b14, hf⟩ := Option.bind_eq_some_iff.mp hf
        refine GX16_48 b14 dX16_is_50 rfl ?_
        refine w_iload dX16_is_53 rfl ?_
        obtain ⟨x15, b16, hf⟩ := Option.bind_eq_some_iff.mp hf
        refine x_rB b16 dX16_is_55 ?_
        refine w_icmp_ne 63 dX16_is_56 (by decide) (fun c17 => ?_) (fun c17 => ?_)
        · replace hf := (if_pos (show ¬ x11 = x15 from c17)).symm.trans hf
          refine w_iconst dX16_is_63 (v := 0) (by decide) ?_
          exact (pX16_is_b64 hd ih hf).to ⟨rfl, rfl, rfl, rfl, trivial⟩
        · replace hf := (if_neg (show ¬ (¬ x11 = x15) from (fun z => z c17))).symm.trans hf
          refine w_iconst dX16_is_59 (v := 1) (by decide) ?_
          refine w_goto 64 dX16_is_60 (by decide) ?_
          exact (pX16_is_b64 hd ih hf).to ⟨rfl, rfl, rfl, rfl, trivial⟩
def fX16_is_b18 (N : Nat) (l0 : Nat) (l1 : Int32) (l2 : Nat) (s0 : Int32) (h : eH) : Option (Int32 × eH) :=
  fX16_is_b22 N N l0 l1 l2 s0 (0 : Int32) h
theorem pX16_is_b18 {w : eW} {d : Nat} (hd : 0 ≤ d) {N : Nat} {l0 : Nat} {l1 : Int32} {l2 : Nat} {s0 : Int32} {h : eH} {q} (hf : fX16_is_b18 N l0 l1 l2 s0 h = some q) : wp w d YX16_is 18 [some (.ref l0), some (.int l1), some (.ref l2), none, none] [.int s0] h (e_is (e_rn c_I q)) := by
  unfold fX16_is_b18 at hf
  refine w_istore_n dX16_is_18 rfl (by decide) (ls' := [some (.ref l0), some (.int l1), some (.ref l2), some (.int s0), none]) rfl ?_
  refine w_iconst dX16_is_19 (v := 0) (by decide) ?_
  refine w_istore dX16_is_20 (by decide) (ls' := [some (.ref l0), some (.int l1), some (.ref l2), some (.int s0), some (.int (0 : Int32))]) rfl ?_
  exact (pX16_is_b22 hd N _ _ _ _ _ _ _ hf).to ⟨rfl, rfl, rfl, rfl, rfl, trivial⟩
def fX16_is (N : Nat) (this : Nat) (p0 : Int32) (p1 : Nat) (h : eH) : Option (Int32 × eH) :=
  (g_A 15 h this 2).bind fun a1 =>
  (r_I 100 h a1 p0).bind fun x3 =>
  (g_I 16 h p1 2).bind fun x5 =>
  if ¬ x3 = x5 then
    fX16_is_b18 N this p0 p1 (0 : Int32) h
  else
    fX16_is_b18 N this p0 p1 (1 : Int32) h
theorem pX16_is {w : eW} {d : Nat} (hd : 0 ≤ d) {N : Nat} {this : Nat} {p0 : Int32} {p1 : Nat} {h : eH} {q} (hf : fX16_is N this p0 p1 h = some q) : wm w d YX16_is [.ref this, .int p0, .ref p1] h (e_is (e_rn c_I q)) := by
  show wp w d YX16_is 0 [some (.ref this), some (.int p0), some (.ref p1), none, none] [] h _
  unfold fX16_is at hf
  refine w_aload_n dX16_is_0 rfl rfl ?_
  obtain ⟨a1, b2, hf⟩ := Option.bind_eq_some_iff.mp hf
  refine GX16_18 b2 dX16_is_1 rfl ?_
  refine w_iload_n dX16_is_4 rfl rfl ?_
  obtain ⟨x3, b4, hf⟩ := Option.bind_eq_some_iff.mp hf
  refine x_rI b4 dX16_is_5 ?_
  refine w_aload_n dX16_is_6 rfl rfl ?_
  obtain ⟨x5, b6, hf⟩ := Option.bind_eq_some_iff.mp hf
  refine GX16_43 b6 dX16_is_7 rfl ?_
  refine w_icmp_ne 17 dX16_is_10 (by decide) (fun c7 => ?_) (fun c7 => ?_)
  · replace hf := (if_pos (show ¬ x3 = x5 from c7)).symm.trans hf
    refine w_iconst dX16_is_17 (v := 0) (by decide) ?_
    exact (pX16_is_b18 hd hf).to ⟨rfl, rfl, rfl, trivial⟩
  · replace hf := (if_neg (show ¬ (¬ x3 = x5) from (fun z => z c7))).symm.trans hf
    refine w_iconst dX16_is_13 (v := 1) (by decide) ?_
    refine w_goto 18 dX16_is_14 (by decide) ?_
    exact (pX16_is_b18 hd hf).to ⟨rfl, rfl, rfl, trivial⟩
abbrev cX16_seek : ByteArray := prog_32_method_4_code
def yX16_seek : MethodName := ⟨RX16, "seek", "(LTypeHouse$Letters;)I"⟩
def YX16_seek : eY := (yX16_seek, cX16_seek, 4, (Option.some FieldType.int), [])
theorem mX16_seek : e_mv YX16_seek RX16 1 := ⟨q2359, qs36, q2360, by decide, by decide +kernel, (e_sig (by decide +kernel))⟩
theorem dX16_seek_0 : decode cX16_seek 0 = .ok (.aload_n 1, 1) := dc_43 (by decide +kernel)
theorem dX16_seek_1 : decode cX16_seek 1 = .ok (.getfield 43, 3) := dc_180 (a := 0) (b := 43) (n := 43) (by decide +kernel)
theorem dX16_seek_4 : decode cX16_seek 4 = .ok (.istore_n 2, 1) := dc_61 (by decide +kernel)
theorem dX16_seek_5 : decode cX16_seek 5 = .ok (.iconst 0, 1) := dc_3 (by decide +kernel)
theorem dX16_seek_6 : decode cX16_seek 6 = .ok (.istore_n 3, 1) := dc_62 (by decide +kernel)
theorem dX16_seek_7 : decode cX16_seek 7 = .ok (.iload_n 3, 1) := dc_29 (by decide +kernel)
theorem dX16_seek_8 : decode cX16_seek 8 = .ok (.aload_n 1, 1) := dc_43 (by decide +kernel)
theorem dX16_seek_9 : decode cX16_seek 9 = .ok (.getfield 43, 3) := dc_180 (a := 0) (b := 43) (n := 43) (by decide +kernel)
theorem dX16_seek_12 : decode cX16_seek 12 = .ok (.if_icmp .ge 21, 3) := dc_162 (a := 0) (b := 21) (v := 21) (by decide +kernel)
theorem dX16_seek_15 : decode cX16_seek 15 = .ok (.bipush 31, 2) := dc_16 (a := 31) (v := 31) (by decide +kernel)
theorem dX16_seek_17 : decode cX16_seek 17 = .ok (.iload_n 2, 1) := dc_28 (by decide +kernel)
theorem dX16_seek_18 : decode cX16_seek 18 = .ok (.imul, 1) := dc_104 (by decide +kernel)
theorem dX16_seek_19 : decode cX16_seek 19 = .ok (.aload_n 1, 1) := dc_43 (by decide +kernel)
theorem dX16_seek_20 : decode cX16_seek 20 = .ok (.getfield 48, 3) := dc_180 (a := 0) (b := 48) (n := 48) (by decide +kernel)
theorem dX16_seek_23 : decode cX16_seek 23 = .ok (.iload_n 3, 1) := dc_29 (by decide +kernel)
theorem dX16_seek_24 : decode cX16_seek 24 = .ok (.baload, 1) := dc_51 (by decide +kernel)
theorem dX16_seek_25 : decode cX16_seek 25 = .ok (.iadd, 1) := dc_96 (by decide +kernel)
theorem dX16_seek_26 : decode cX16_seek 26 = .ok (.istore_n 2, 1) := dc_61 (by decide +kernel)
theorem dX16_seek_27 : decode cX16_seek 27 = .ok (.iinc 3 1, 3) := dc_132 (a := 3) (b := 1) (v := 1) (by decide +kernel)
theorem dX16_seek_30 : decode cX16_seek 30 = .ok (.goto (-23), 3) := dc_167 (a := 255) (b := 233) (v := -23) (by decide +kernel)
theorem dX16_seek_33 : decode cX16_seek 33 = .ok (.iload_n 2, 1) := dc_28 (by decide +kernel)
theorem dX16_seek_34 : decode cX16_seek 34 = .ok (.iload_n 2, 1) := dc_28 (by decide +kernel)
theorem dX16_seek_35 : decode cX16_seek 35 = .ok (.bipush 9, 2) := dc_16 (a := 9) (v := 9) (by decide +kernel)
theorem dX16_seek_37 : decode cX16_seek 37 = .ok (.iushr, 1) := dc_124 (by decide +kernel)
theorem dX16_seek_38 : decode cX16_seek 38 = .ok (.ixor, 1) := dc_130 (by decide +kernel)
theorem dX16_seek_39 : decode cX16_seek 39 = .ok (.sipush 511, 3) := dc_17 (a := 1) (b := 255) (v := 511) (by decide +kernel)
theorem dX16_seek_42 : decode cX16_seek 42 = .ok (.iand, 1) := dc_126 (by decide +kernel)
theorem dX16_seek_43 : decode cX16_seek 43 = .ok (.istore_n 3, 1) := dc_62 (by decide +kernel)
theorem dX16_seek_44 : decode cX16_seek 44 = .ok (.aload_n 0, 1) := dc_42 (by decide +kernel)
theorem dX16_seek_45 : decode cX16_seek 45 = .ok (.getfield 11, 3) := dc_180 (a := 0) (b := 11) (n := 11) (by decide +kernel)
theorem dX16_seek_48 : decode cX16_seek 48 = .ok (.iload_n 3, 1) := dc_29 (by decide +kernel)
theorem dX16_seek_49 : decode cX16_seek 49 = .ok (.iaload, 1) := dc_46 (by decide +kernel)
theorem dX16_seek_50 : decode cX16_seek 50 = .ok (.ifCond .eq 30, 3) := dc_153 (a := 0) (b := 30) (v := 30) (by decide +kernel)
theorem dX16_seek_53 : decode cX16_seek 53 = .ok (.aload_n 0, 1) := dc_42 (by decide +kernel)
theorem dX16_seek_54 : decode cX16_seek 54 = .ok (.aload_n 0, 1) := dc_42 (by decide +kernel)
theorem dX16_seek_55 : decode cX16_seek 55 = .ok (.getfield 11, 3) := dc_180 (a := 0) (b := 11) (n := 11) (by decide +kernel)
theorem dX16_seek_58 : decode cX16_seek 58 = .ok (.iload_n 3, 1) := dc_29 (by decide +kernel)
theorem dX16_seek_59 : decode cX16_seek 59 = .ok (.iaload, 1) := dc_46 (by decide +kernel)
theorem dX16_seek_60 : decode cX16_seek 60 = .ok (.iconst 1, 1) := dc_4 (by decide +kernel)
theorem dX16_seek_61 : decode cX16_seek 61 = .ok (.isub, 1) := dc_100 (by decide +kernel)
theorem dX16_seek_62 : decode cX16_seek 62 = .ok (.aload_n 1, 1) := dc_43 (by decide +kernel)
theorem dX16_seek_63 : decode cX16_seek 63 = .ok (.invokevirtual 49, 3) := dc_182 (a := 0) (b := 49) (n := 49) (by decide +kernel)
theorem dX16_seek_66 : decode cX16_seek 66 = .ok (.ifCond .ne 14, 3) := dc_154 (a := 0) (b := 14) (v := 14) (by decide +kernel)
theorem dX16_seek_69 : decode cX16_seek 69 = .ok (.iload_n 3, 1) := dc_29 (by decide +kernel)
theorem dX16_seek_70 : decode cX16_seek 70 = .ok (.iconst 1, 1) := dc_4 (by decide +kernel)
theorem dX16_seek_71 : decode cX16_seek 71 = .ok (.iadd, 1) := dc_96 (by decide +kernel)
theorem dX16_seek_72 : decode cX16_seek 72 = .ok (.sipush 511, 3) := dc_17 (a := 1) (b := 255) (v := 511) (by decide +kernel)
theorem dX16_seek_75 : decode cX16_seek 75 = .ok (.iand, 1) := dc_126 (by decide +kernel)
theorem dX16_seek_76 : decode cX16_seek 76 = .ok (.istore_n 3, 1) := dc_62 (by decide +kernel)
theorem dX16_seek_77 : decode cX16_seek 77 = .ok (.goto (-33), 3) := dc_167 (a := 255) (b := 223) (v := -33) (by decide +kernel)
theorem dX16_seek_80 : decode cX16_seek 80 = .ok (.iload_n 3, 1) := dc_29 (by decide +kernel)
theorem dX16_seek_81 : decode cX16_seek 81 = .ok (.ireturn, 1) := dc_172 (by decide +kernel)
def fX16_seek_b80 (N : Nat) (l3 : Int32) (h : eH) : Option (Int32 × eH) :=
  some (l3, h)
theorem pX16_seek_b80 {w : eW} {d : Nat} (hd : 1 ≤ d + 1) {N : Nat} {l3 : Int32} {h : eH} {q} (hf : fX16_seek_b80 N l3 h = some q) : wp w (d + 1) YX16_seek 80 [none, none, none, some (.int l3)] [] h (e_is (e_rn c_I q)) := by
  unfold fX16_seek_b80 at hf
  refine w_iload_n dX16_seek_80 rfl rfl ?_
  cases hf
  exact w_iret dX16_seek_81 rfl rfl rfl
def fX16_seek_b44 (N : Nat) : Nat → Nat → Nat → Int32 → eH → Option (Int32 × eH)
  | 0, _, _, _, _ => none
  | n + 1, l0, l1, l3, h =>
    (g_A 15 h l0 0).bind fun a1 =>
    (r_I 100 h a1 l3).bind fun x3 =>
    if x3 = 0 then
      fX16_seek_b80 N l3 h
    else
      (g_A 15 h l0 0).bind fun a6 =>
      (r_I 100 h a6 l3).bind fun x8 =>
      (k_ok 15 h l0).bind fun _ =>
      (fX16_is N l0 (x8 - (1 : Int32)) l1 h).bind fun q11 =>
      if ¬ q11.1 = 0 then
        fX16_seek_b80 N l3 q11.2
      else
        fX16_seek_b44 N n l0 l1 ((l3 + (1 : Int32)) &&& (511 : Int32)) q11.2
theorem pX16_seek_b44 {w : eW} {d : Nat} (hd : 1 ≤ d + 1) {N : Nat} : ∀ (n : Nat) l0 l1 l3 h q, fX16_seek_b44 N n l0 l1 l3 h = some q → wp w (d + 1) YX16_seek 44 [some (.ref l0), some (.ref l1), none, some (.int l3)] [] h (e_is (e_rn c_I q)) := by
  intro n
  induction n with
  | zero => intro l0 l1 l3 h q hf; simp [fX16_seek_b44] at hf
  | succ n ih =>
    intro l0 l1 l3 h q hf
    rw [fX16_seek_b44] at hf
    refine w_aload_n dX16_seek_44 rfl rfl ?_
    obtain ⟨a1, b2, hf⟩ := Option.bind_eq_some_iff.mp hf
    refine GX16_11 b2 dX16_seek_45 rfl ?_
    refine w_iload_n dX16_seek_48 rfl rfl ?_
    obtain ⟨x3, b4, hf⟩ := Option.bind_eq_some_iff.mp hf
    refine x_rI b4 dX16_seek_49 ?_
    refine w_if_eq 80 dX16_seek_50 (by decide) (fun c5 => ?_) (fun c5 => ?_)
    · replace hf := (if_pos (show x3 = 0 from c5)).symm.trans hf
      exact (pX16_seek_b80 hd hf).to ⟨rfl, trivial⟩
    · replace hf := (if_neg (show ¬ (x3 = 0) from c5)).symm.trans hf
      refine w_aload_n dX16_seek_53 rfl rfl ?_
      refine w_aload_n dX16_seek_54 rfl rfl ?_
      obtain ⟨a6, b7, hf⟩ := Option.bind_eq_some_iff.mp hf
      refine GX16_11 b7 dX16_seek_55 rfl ?_
      refine w_iload_n dX16_seek_58 rfl rfl ?_
      obtain ⟨x8, b9, hf⟩ := Option.bind_eq_some_iff.mp hf
      refine x_rI b9 dX16_seek_59 ?_
      refine w_iconst dX16_seek_60 (v := 1) (by decide) ?_
      refine w_isub dX16_seek_61 ?_
      refine w_aload_n dX16_seek_62 rfl rfl ?_
      obtain ⟨_, b10, hf⟩ := Option.bind_eq_some_iff.mp hf
      refine x_cnI hf (e_stV (Yc := YX16_is) (ci := 15) (av := [.int (x8 - (1 : Int32)), .ref l1]) (st := []) dX16_seek_63 q2361 mX16_is rfl (k_ok_some b10).1 (k_ok_some b10).2) mX16_is.2.2.1 mX16_is.2.2.2.2.1 (Nat.le_of_ble_eq_true rfl) (Nat.le_of_ble_eq_true rfl) (fun q hq => pX16_is (by omega) hq) (fun q11 hf => ?_)
      refine w_if_ne 80 dX16_seek_66 (by decide) (fun c12 => ?_) (fun c12 => ?_)
      · replace hf := (if_pos (show ¬ q11.1 = 0 from c12)).symm.trans hf
        exact (pX16_seek_b80 hd hf).to ⟨rfl, trivial⟩
      · replace hf := (if_neg (show ¬ (¬ q11.1 = 0) from (fun z => z c12))).symm.trans hf
        refine w_iload_n dX16_seek_69 rfl rfl ?_
        refine w_iconst dX16_seek_70 (v := 1) (by decide) ?_
        refine w_iadd dX16_seek_71 ?_
        refine w_sipush dX16_seek_72 (v := 511) (by decide) ?_
        refine w_iand dX16_seek_75 ?_
        refine w_istore_n dX16_seek_76 rfl (by decide) (ls' := [some (.ref l0), some (.ref l1), none, some (.int ((l3 + (1 : Int32)) &&& (511 : Int32)))]) rfl ?_
        refine w_goto 44 dX16_seek_77 (by decide) ?_
        exact (ih _ _ _ _ _ hf).to ⟨rfl, rfl, rfl, trivial⟩
def fX16_seek_b7 (N : Nat) : Nat → Nat → Nat → Int32 → Int32 → eH → Option (Int32 × eH)
  | 0, _, _, _, _, _ => none
  | n + 1, l0, l1, l2, l3, h =>
    (g_I 16 h l1 2).bind fun x1 =>
    if x1 ≤ l3 then
      fX16_seek_b44 N N l0 l1 ((l2 ^^^ ((l2).toUInt32 >>> (((9 : Int32)).toUInt32 &&& Int32.toUInt32 31)).toInt32) &&& (511 : Int32)) h
    else
      (g_A 16 h l1 0).bind fun a4 =>
      (r_I 102 h a4 l3).bind fun x6 =>
      fX16_seek_b7 N n l0 l1 (((31 : Int32) * l2) + x6) (l3 + (1 : Int32)) h
theorem pX16_seek_b7 {w : eW} {d : Nat} (hd : 1 ≤ d + 1) {N : Nat} : ∀ (n : Nat) l0 l1 l2 l3 h q, fX16_seek_b7 N n l0 l1 l2 l3 h = some q → wp w (d + 1) YX16_seek 7 [some (.ref l0), some (.ref l1), some (.int l2), some (.int l3)] [] h (e_is (e_rn c_I q)) := by
  intro n
  induction n with
  | zero => intro l0 l1 l2 l3 h q hf; simp [fX16_seek_b7] at hf
  | succ n ih =>
    intro l0 l1 l2 l3 h q hf
    rw [fX16_seek_b7] at hf
    refine w_iload_n dX16_seek_7 rfl rfl ?_
    refine w_aload_n dX16_seek_8 rfl rfl ?_
    obtain ⟨x1, b2, hf⟩ := Option.bind_eq_some_iff.mp hf
    refine GX16_43 b2 dX16_seek_9 rfl ?_
    refine w_icmp_ge 33 dX16_seek_12 (by decide) (fun c3 => ?_) (fun c3 => ?_)
    · replace hf := (if_pos (show x1 ≤ l3 from c3)).symm.trans hf
      refine w_iload_n dX16_seek_33 rfl rfl ?_
      refine w_iload_n dX16_seek_34 rfl rfl ?_
      refine w_bipush dX16_seek_35 (v := 9) (by decide) ?_
      refine w_iushr dX16_seek_37 ?_
      refine w_ixor dX16_seek_38 ?_
      refine w_sipush dX16_seek_39 (v := 511) (by decide) ?_
      refine w_iand dX16_seek_42 ?_
      refine w_istore_n dX16_seek_43 rfl (by decide) (ls' := [some (.ref l0), some (.ref l1), some (.int l2), some (.int ((l2 ^^^ ((l2).toUInt32 >>> (((9 : Int32)).toUInt32 &&& Int32.toUInt32 31)).toInt32) &&& (511 : Int32)))]) rfl ?_
      exact (pX16_seek_b44 hd N _ _ _ _ _ hf).to ⟨rfl, rfl, rfl, trivial⟩
    · replace hf := (if_neg (show ¬ (x1 ≤ l3) from c3)).symm.trans hf
      refine w_bipush dX16_seek_15 (v := 31) (by decide) ?_
      refine w_iload_n dX16_seek_17 rfl rfl ?_
      refine w_imul dX16_seek_18 ?_
      refine w_aload_n dX16_seek_19 rfl rfl ?_
      obtain ⟨a4, b5, hf⟩ := Option.bind_eq_some_iff.mp hf
      refine GX16_48 b5 dX16_seek_20 rfl ?_
      refine w_iload_n dX16_seek_23 rfl rfl ?_
      obtain ⟨x6, b7, hf⟩ := Option.bind_eq_some_iff.mp hf
      refine x_rB b7 dX16_seek_24 ?_
      refine w_iadd dX16_seek_25 ?_
      refine w_istore_n dX16_seek_26 rfl (by decide) (ls' := [some (.ref l0), some (.ref l1), some (.int (((31 : Int32) * l2) + x6)), some (.int l3)]) rfl ?_
      refine w_iinc dX16_seek_27 (v := (l3 + (1 : Int32))) rfl rfl (by decide) (ls' := [some (.ref l0), some (.ref l1), some (.int (((31 : Int32) * l2) + x6)), some (.int (l3 + (1 : Int32)))]) rfl ?_
      refine w_goto 7 dX16_seek_30 (by decide) ?_
      exact (ih _ _ _ _ _ _ hf).to ⟨rfl, rfl, rfl, rfl, trivial⟩
def fX16_seek (N : Nat) (this : Nat) (p0 : Nat) (h : eH) : Option (Int32 × eH) :=
  (g_I 16 h p0 2).bind fun x1 =>
  fX16_seek_b7 N N this p0 x1 (0 : Int32) h
theorem pX16_seek {w : eW} {d : Nat} (hd : 1 ≤ d) {N : Nat} {this : Nat} {p0 : Nat} {h : eH} {q} (hf : fX16_seek N this p0 h = some q) : wm w d YX16_seek [.ref this, .ref p0] h (e_is (e_rn c_I q)) := by
  obtain ⟨d, rfl⟩ : ∃ e, d = e + 1 := ⟨d - 1, by omega⟩
  show wp w (d + 1) YX16_seek 0 [some (.ref this), some (.ref p0), none, none] [] h _
  unfold fX16_seek at hf
  refine w_aload_n dX16_seek_0 rfl rfl ?_
  obtain ⟨x1, b2, hf⟩ := Option.bind_eq_some_iff.mp hf
  refine GX16_43 b2 dX16_seek_1 rfl ?_
  refine w_istore_n dX16_seek_4 rfl (by decide) (ls' := [some (.ref this), some (.ref p0), some (.int x1), none]) rfl ?_
  refine w_iconst dX16_seek_5 (v := 0) (by decide) ?_
  refine w_istore_n dX16_seek_6 rfl (by decide) (ls' := [some (.ref this), some (.ref p0), some (.int x1), some (.int (0 : Int32))]) rfl ?_
  exact (pX16_seek_b7 hd N _ _ _ _ _ _ hf).to ⟨rfl, rfl, rfl, rfl, trivial⟩
abbrev cX16_find : ByteArray := prog_32_method_5_code
def yX16_find : MethodName := ⟨RX16, "find", "(LTypeHouse$Letters;)I"⟩
def YX16_find : eY := (yX16_find, cX16_find, 2, (Option.some FieldType.int), [])
theorem mX16_find : e_mv YX16_find RX16 1 := ⟨q2354, q2355, q2356, by decide, by decide +kernel, (e_sig (by decide +kernel))⟩
theorem dX16_find_0 : decode cX16_find 0 = .ok (.aload_n 0, 1) := dc_42 (by decide +kernel)
theorem dX16_find_1 : decode cX16_find 1 = .ok (.getfield 11, 3) := dc_180 (a := 0) (b := 11) (n := 11) (by decide +kernel)
theorem dX16_find_4 : decode cX16_find 4 = .ok (.aload_n 0, 1) := dc_42 (by decide +kernel)
theorem dX16_find_5 : decode cX16_find 5 = .ok (.aload_n 1, 1) := dc_43 (by decide +kernel)
theorem dX16_find_6 : decode cX16_find 6 = .ok (.invokevirtual 53, 3) := dc_182 (a := 0) (b := 53) (n := 53) (by decide +kernel)
theorem dX16_find_9 : decode cX16_find 9 = .ok (.iaload, 1) := dc_46 (by decide +kernel)
theorem dX16_find_10 : decode cX16_find 10 = .ok (.iconst 1, 1) := dc_4 (by decide +kernel)
theorem dX16_find_11 : decode cX16_find 11 = .ok (.isub, 1) := dc_100 (by decide +kernel)
theorem dX16_find_12 : decode cX16_find 12 = .ok (.ireturn, 1) := dc_172 (by decide +kernel)
def fX16_find (N : Nat) (this : Nat) (p0 : Nat) (h : eH) : Option (Int32 × eH) :=
  (g_A 15 h this 0).bind fun a1 =>
  (k_ok 15 h this).bind fun _ =>
  (fX16_seek N this p0 h).bind fun q4 =>
  (r_I 100 q4.2 a1 q4.1).bind fun x5 =>
  some ((x5 - (1 : Int32)), q4.2)
theorem pX16_find {w : eW} {d : Nat} (hd : 2 ≤ d) {N : Nat} {this : Nat} {p0 : Nat} {h : eH} {q} (hf : fX16_find N this p0 h = some q) : wm w d YX16_find [.ref this, .ref p0] h (e_is (e_rn c_I q)) := by
  obtain ⟨d, rfl⟩ : ∃ e, d = e + 1 := ⟨d - 1, by omega⟩
  show wp w (d + 1) YX16_find 0 [some (.ref this), some (.ref p0)] [] h _
  unfold fX16_find at hf
  refine w_aload_n dX16_find_0 rfl rfl ?_
  obtain ⟨a1, b2, hf⟩ := Option.bind_eq_some_iff.mp hf
  refine GX16_11 b2 dX16_find_1 rfl ?_
  refine w_aload_n dX16_find_4 rfl rfl ?_
  refine w_aload_n dX16_find_5 rfl rfl ?_
  obtain ⟨_, b3, hf⟩ := Option.bind_eq_some_iff.mp hf
  refine x_cnI hf (e_stV (Yc := YX16_seek) (ci := 15) (av := [.ref p0]) (st := [.ref a1]) dX16_find_6 q2357 mX16_seek rfl (k_ok_some b3).1 (k_ok_some b3).2) mX16_seek.2.2.1 mX16_seek.2.2.2.2.1 (Nat.le_of_ble_eq_true rfl) (Nat.le_of_ble_eq_true rfl) (fun q hq => pX16_seek (by omega) hq) (fun q4 hf => ?_)
  obtain ⟨x5, b6, hf⟩ := Option.bind_eq_some_iff.mp hf
  refine x_rI b6 dX16_find_9 ?_
  refine w_iconst dX16_find_10 (v := 1) (by decide) ?_
  refine w_isub dX16_find_11 ?_
  cases hf
  exact w_iret dX16_find_12 rfl rfl rfl
abbrev cX16_add : ByteArray := prog_32_method_6_code
def yX16_add : MethodName := ⟨RX16, "add", "(LTypeHouse$Letters;)V"⟩
def YX16_add : eY := (yX16_add, cX16_add, 7, none, [])
theorem mX16_add : e_mv YX16_add RX16 1 := ⟨q2366, q2367, q2368, by decide, by decide +kernel, (e_sig (by decide +kernel))⟩
theorem dX16_add_0 : decode cX16_add 0 = .ok (.aload_n 0, 1) := dc_42 (by decide +kernel)
theorem dX16_add_1 : decode cX16_add 1 = .ok (.aload_n 1, 1) := dc_43 (by decide +kernel)
theorem dX16_add_2 : decode cX16_add 2 = .ok (.invokevirtual 53, 3) := dc_182 (a := 0) (b := 53) (n := 53) (by decide +kernel)
theorem dX16_add_5 : decode cX16_add 5 = .ok (.istore_n 2, 1) := dc_61 (by decide +kernel)
theorem dX16_add_6 : decode cX16_add 6 = .ok (.aload_n 0, 1) := dc_42 (by decide +kernel)
theorem dX16_add_7 : decode cX16_add 7 = .ok (.getfield 11, 3) := dc_180 (a := 0) (b := 11) (n := 11) (by decide +kernel)
theorem dX16_add_10 : decode cX16_add 10 = .ok (.iload_n 2, 1) := dc_28 (by decide +kernel)
theorem dX16_add_11 : decode cX16_add 11 = .ok (.iaload, 1) := dc_46 (by decide +kernel)
theorem dX16_add_12 : decode cX16_add 12 = .ok (.ifCond .ne 79, 3) := dc_154 (a := 0) (b := 79) (v := 79) (by decide +kernel)
theorem dX16_add_15 : decode cX16_add 15 = .ok (.aload_n 0, 1) := dc_42 (by decide +kernel)
theorem dX16_add_16 : decode cX16_add 16 = .ok (.getfield 15, 3) := dc_180 (a := 0) (b := 15) (n := 15) (by decide +kernel)
theorem dX16_add_19 : decode cX16_add 19 = .ok (.aload_n 0, 1) := dc_42 (by decide +kernel)
theorem dX16_add_20 : decode cX16_add 20 = .ok (.getfield 36, 3) := dc_180 (a := 0) (b := 36) (n := 36) (by decide +kernel)
theorem dX16_add_23 : decode cX16_add 23 = .ok (.aload_n 0, 1) := dc_42 (by decide +kernel)
theorem dX16_add_24 : decode cX16_add 24 = .ok (.getfield 40, 3) := dc_180 (a := 0) (b := 40) (n := 40) (by decide +kernel)
theorem dX16_add_27 : decode cX16_add 27 = .ok (.iastore, 1) := dc_79 (by decide +kernel)
theorem dX16_add_28 : decode cX16_add 28 = .ok (.aload_n 0, 1) := dc_42 (by decide +kernel)
theorem dX16_add_29 : decode cX16_add 29 = .ok (.getfield 18, 3) := dc_180 (a := 0) (b := 18) (n := 18) (by decide +kernel)
theorem dX16_add_32 : decode cX16_add 32 = .ok (.aload_n 0, 1) := dc_42 (by decide +kernel)
theorem dX16_add_33 : decode cX16_add 33 = .ok (.getfield 36, 3) := dc_180 (a := 0) (b := 36) (n := 36) (by decide +kernel)
theorem dX16_add_36 : decode cX16_add 36 = .ok (.aload_n 1, 1) := dc_43 (by decide +kernel)
theorem dX16_add_37 : decode cX16_add 37 = .ok (.getfield 43, 3) := dc_180 (a := 0) (b := 43) (n := 43) (by decide +kernel)
theorem dX16_add_40 : decode cX16_add 40 = .ok (.iastore, 1) := dc_79 (by decide +kernel)
theorem dX16_add_41 : decode cX16_add 41 = .ok (.aload_n 1, 1) := dc_43 (by decide +kernel)
theorem dX16_add_42 : decode cX16_add 42 = .ok (.getfield 48, 3) := dc_180 (a := 0) (b := 48) (n := 48) (by decide +kernel)
theorem dX16_add_45 : decode cX16_add 45 = .ok (.iconst 0, 1) := dc_3 (by decide +kernel)
theorem dX16_add_46 : decode cX16_add 46 = .ok (.aload_n 0, 1) := dc_42 (by decide +kernel)
theorem dX16_add_47 : decode cX16_add 47 = .ok (.getfield 25, 3) := dc_180 (a := 0) (b := 25) (n := 25) (by decide +kernel)
theorem dX16_add_50 : decode cX16_add 50 = .ok (.aload_n 0, 1) := dc_42 (by decide +kernel)
theorem dX16_add_51 : decode cX16_add 51 = .ok (.getfield 40, 3) := dc_180 (a := 0) (b := 40) (n := 40) (by decide +kernel)
theorem dX16_add_54 : decode cX16_add 54 = .ok (.aload_n 1, 1) := dc_43 (by decide +kernel)
theorem dX16_add_55 : decode cX16_add 55 = .ok (.getfield 43, 3) := dc_180 (a := 0) (b := 43) (n := 43) (by decide +kernel)
theorem dX16_add_58 : decode cX16_add 58 = .ok (.invokestatic 57, 3) := dc_184 (a := 0) (b := 57) (n := 57) (by decide +kernel)
theorem dX16_add_61 : decode cX16_add 61 = .ok (.aload_n 0, 1) := dc_42 (by decide +kernel)
theorem dX16_add_62 : decode cX16_add 62 = .ok (.dup, 1) := dc_89 (by decide +kernel)
theorem dX16_add_63 : decode cX16_add 63 = .ok (.getfield 40, 3) := dc_180 (a := 0) (b := 40) (n := 40) (by decide +kernel)
theorem dX16_add_66 : decode cX16_add 66 = .ok (.aload_n 1, 1) := dc_43 (by decide +kernel)
theorem dX16_add_67 : decode cX16_add 67 = .ok (.getfield 43, 3) := dc_180 (a := 0) (b := 43) (n := 43) (by decide +kernel)
theorem dX16_add_70 : decode cX16_add 70 = .ok (.iadd, 1) := dc_96 (by decide +kernel)
theorem dX16_add_71 : decode cX16_add 71 = .ok (.putfield 40, 3) := dc_181 (a := 0) (b := 40) (n := 40) (by decide +kernel)
theorem dX16_add_74 : decode cX16_add 74 = .ok (.aload_n 0, 1) := dc_42 (by decide +kernel)
theorem dX16_add_75 : decode cX16_add 75 = .ok (.getfield 11, 3) := dc_180 (a := 0) (b := 11) (n := 11) (by decide +kernel)
theorem dX16_add_78 : decode cX16_add 78 = .ok (.iload_n 2, 1) := dc_28 (by decide +kernel)
theorem dX16_add_79 : decode cX16_add 79 = .ok (.aload_n 0, 1) := dc_42 (by decide +kernel)
theorem dX16_add_80 : decode cX16_add 80 = .ok (.dup, 1) := dc_89 (by decide +kernel)
theorem dX16_add_81 : decode cX16_add 81 = .ok (.getfield 36, 3) := dc_180 (a := 0) (b := 36) (n := 36) (by decide +kernel)
theorem dX16_add_84 : decode cX16_add 84 = .ok (.iconst 1, 1) := dc_4 (by decide +kernel)
theorem dX16_add_85 : decode cX16_add 85 = .ok (.iadd, 1) := dc_96 (by decide +kernel)
theorem dX16_add_86 : decode cX16_add 86 = .ok (.dup_x1, 1) := dc_90 (by decide +kernel)
theorem dX16_add_87 : decode cX16_add 87 = .ok (.putfield 36, 3) := dc_181 (a := 0) (b := 36) (n := 36) (by decide +kernel)
theorem dX16_add_90 : decode cX16_add 90 = .ok (.iastore, 1) := dc_79 (by decide +kernel)
theorem dX16_add_91 : decode cX16_add 91 = .ok (.aload_n 0, 1) := dc_42 (by decide +kernel)
theorem dX16_add_92 : decode cX16_add 92 = .ok (.getfield 11, 3) := dc_180 (a := 0) (b := 11) (n := 11) (by decide +kernel)
theorem dX16_add_95 : decode cX16_add 95 = .ok (.iload_n 2, 1) := dc_28 (by decide +kernel)
theorem dX16_add_96 : decode cX16_add 96 = .ok (.iaload, 1) := dc_46 (by decide +kernel)
theorem dX16_add_97 : decode cX16_add 97 = .ok (.iconst 1, 1) := dc_4 (by decide +kernel)
theorem dX16_add_98 : decode cX16_add 98 = .ok (.isub, 1) := dc_100 (by decide +kernel)
theorem dX16_add_99 : decode cX16_add 99 = .ok (.istore_n 3, 1) := dc_62 (by decide +kernel)
theorem dX16_add_100 : decode cX16_add 100 = .ok (.aload_n 0, 1) := dc_42 (by decide +kernel)
theorem dX16_add_101 : decode cX16_add 101 = .ok (.getfield 30, 3) := dc_180 (a := 0) (b := 30) (n := 30) (by decide +kernel)
theorem dX16_add_104 : decode cX16_add 104 = .ok (.aload_n 0, 1) := dc_42 (by decide +kernel)
theorem dX16_add_105 : decode cX16_add 105 = .ok (.getfield 63, 3) := dc_180 (a := 0) (b := 63) (n := 63) (by decide +kernel)
theorem dX16_add_108 : decode cX16_add 108 = .ok (.iload_n 3, 1) := dc_29 (by decide +kernel)
theorem dX16_add_109 : decode cX16_add 109 = .ok (.iastore, 1) := dc_79 (by decide +kernel)
theorem dX16_add_110 : decode cX16_add 110 = .ok (.aload_n 0, 1) := dc_42 (by decide +kernel)
theorem dX16_add_111 : decode cX16_add 111 = .ok (.getfield 33, 3) := dc_180 (a := 0) (b := 33) (n := 33) (by decide +kernel)
theorem dX16_add_114 : decode cX16_add 114 = .ok (.aload_n 0, 1) := dc_42 (by decide +kernel)
theorem dX16_add_115 : decode cX16_add 115 = .ok (.dup, 1) := dc_89 (by decide +kernel)
theorem dX16_add_116 : decode cX16_add 116 = .ok (.getfield 63, 3) := dc_180 (a := 0) (b := 63) (n := 63) (by decide +kernel)
theorem dX16_add_119 : decode cX16_add 119 = .ok (.dup_x1, 1) := dc_90 (by decide +kernel)
theorem dX16_add_120 : decode cX16_add 120 = .ok (.iconst 1, 1) := dc_4 (by decide +kernel)
theorem dX16_add_121 : decode cX16_add 121 = .ok (.iadd, 1) := dc_96 (by decide +kernel)
theorem dX16_add_122 : decode cX16_add 122 = .ok (.putfield 63, 3) := dc_181 (a := 0) (b := 63) (n := 63) (by decide +kernel)
theorem dX16_add_125 : decode cX16_add 125 = .ok (.aload_n 0, 1) := dc_42 (by decide +kernel)
theorem dX16_add_126 : decode cX16_add 126 = .ok (.getfield 21, 3) := dc_180 (a := 0) (b := 21) (n := 21) (by decide +kernel)
theorem dX16_add_129 : decode cX16_add 129 = .ok (.iload_n 3, 1) := dc_29 (by decide +kernel)
theorem dX16_add_130 : decode cX16_add 130 = .ok (.laload, 1) := dc_47 (by decide +kernel)
theorem dX16_add_131 : decode cX16_add 131 = .ok (.lastore, 1) := dc_80 (by decide +kernel)
theorem dX16_add_132 : decode cX16_add 132 = .ok (.lconst 0, 1) := dc_9 (by decide +kernel)
theorem dX16_add_133 : decode cX16_add 133 = .ok (.lstore 4, 2) := dc_55 (a := 4) (by decide +kernel)
theorem dX16_add_135 : decode cX16_add 135 = .ok (.iconst 1, 1) := dc_4 (by decide +kernel)
theorem dX16_add_136 : decode cX16_add 136 = .ok (.istore 6, 2) := dc_54 (a := 6) (by decide +kernel)
theorem dX16_add_138 : decode cX16_add 138 = .ok (.iload 6, 2) := dc_21 (a := 6) (by decide +kernel)
theorem dX16_add_140 : decode cX16_add 140 = .ok (.aload_n 1, 1) := dc_43 (by decide +kernel)
theorem dX16_add_141 : decode cX16_add 141 = .ok (.getfield 43, 3) := dc_180 (a := 0) (b := 43) (n := 43) (by decide +kernel)
theorem dX16_add_144 : decode cX16_add 144 = .ok (.if_icmp .ge 25, 3) := dc_162 (a := 0) (b := 25) (v := 25) (by decide +kernel)
theorem dX16_add_147 : decode cX16_add 147 = .ok (.lload 4, 2) := dc_22 (a := 4) (by decide +kernel)
theorem dX16_add_149 : decode cX16_add 149 = .ok (.aload_n 1, 1) := dc_43 (by decide +kernel)
theorem dX16_add_150 : decode cX16_add 150 = .ok (.getfield 66, 3) := dc_180 (a := 0) (b := 66) (n := 66) (by decide +kernel)
theorem dX16_add_153 : decode cX16_add 153 = .ok (.iload 6, 2) := dc_21 (a := 6) (by decide +kernel)
theorem dX16_add_155 : decode cX16_add 155 = .ok (.baload, 1) := dc_51 (by decide +kernel)
theorem dX16_add_156 : decode cX16_add 156 = .ok (.i2l, 1) := dc_133 (by decide +kernel)
theorem dX16_add_157 : decode cX16_add 157 = .ok (.iload 6, 2) := dc_21 (a := 6) (by decide +kernel)
theorem dX16_add_159 : decode cX16_add 159 = .ok (.lshl, 1) := dc_121 (by decide +kernel)
theorem dX16_add_160 : decode cX16_add 160 = .ok (.lor, 1) := dc_129 (by decide +kernel)
theorem dX16_add_161 : decode cX16_add 161 = .ok (.lstore 4, 2) := dc_55 (a := 4) (by decide +kernel)
theorem dX16_add_163 : decode cX16_add 163 = .ok (.iinc 6 1, 3) := dc_132 (a := 6) (b := 1) (v := 1) (by decide +kernel)
theorem dX16_add_166 : decode cX16_add 166 = .ok (.goto (-28), 3) := dc_167 (a := 255) (b := 228) (v := -28) (by decide +kernel)
theorem dX16_add_169 : decode cX16_add 169 = .ok (.aload_n 0, 1) := dc_42 (by decide +kernel)
theorem dX16_add_170 : decode cX16_add 170 = .ok (.getfield 21, 3) := dc_180 (a := 0) (b := 21) (n := 21) (by decide +kernel)
theorem dX16_add_173 : decode cX16_add 173 = .ok (.iload_n 3, 1) := dc_29 (by decide +kernel)
theorem dX16_add_174 : decode cX16_add 174 = .ok (.lload 4, 2) := dc_22 (a := 4) (by decide +kernel)
theorem dX16_add_176 : decode cX16_add 176 = .ok (.lastore, 1) := dc_80 (by decide +kernel)
theorem dX16_add_177 : decode cX16_add 177 = .ok (.return_, 1) := dc_177 (by decide +kernel)
theorem GX16_21 {w : eW} {d : Nat} {Y : eY} {pc : Nat} {ls : eL} {st : List Value} {h : eH} {Q : eO → eH → Prop} {a : Nat} {x : Nat} (hf : g_A 15 h a 3 = some x) (hd : decode Y.2.1 pc = .ok (.getfield 21, 3)) (hY : Y.1.cls = RX16) (kk : wp w d Y (pc + 3) ls (.ref x :: st) h Q) : wp w d Y pc ls (.ref a :: st) h Q := x_gA (ci := 15) (k := 3) hf hd rfl (by decide) (by rw [hY]; exact q1045) kk
theorem GX16_30 {w : eW} {d : Nat} {Y : eY} {pc : Nat} {ls : eL} {st : List Value} {h : eH} {Q : eO → eH → Prop} {a : Nat} {x : Nat} (hf : g_A 15 h a 9 = some x) (hd : decode Y.2.1 pc = .ok (.getfield 30, 3)) (hY : Y.1.cls = RX16) (kk : wp w d Y (pc + 3) ls (.ref x :: st) h Q) : wp w d Y pc ls (.ref a :: st) h Q := x_gA (ci := 15) (k := 9) hf hd rfl (by decide) (by rw [hY]; exact q1053) kk
theorem GX16_33 {w : eW} {d : Nat} {Y : eY} {pc : Nat} {ls : eL} {st : List Value} {h : eH} {Q : eO → eH → Prop} {a : Nat} {x : Nat} (hf : g_A 15 h a 10 = some x) (hd : decode Y.2.1 pc = .ok (.getfield 33, 3)) (hY : Y.1.cls = RX16) (kk : wp w d Y (pc + 3) ls (.ref x :: st) h Q) : wp w d Y pc ls (.ref a :: st) h Q := x_gA (ci := 15) (k := 10) hf hd rfl (by decide) (by rw [hY]; exact q1054) kk
theorem GX16_63 {w : eW} {d : Nat} {Y : eY} {pc : Nat} {ls : eL} {st : List Value} {h : eH} {Q : eO → eH → Prop} {a : Nat} {x : Int32} (hf : g_I 15 h a 11 = some x) (hd : decode Y.2.1 pc = .ok (.getfield 63, 3)) (hY : Y.1.cls = RX16) (kk : wp w d Y (pc + 3) ls (.int x :: st) h Q) : wp w d Y pc ls (.ref a :: st) h Q := x_gI (ci := 15) (k := 11) hf hd rfl (by decide) (by rw [hY]; exact q1055) kk
theorem GX16_66 {w : eW} {d : Nat} {Y : eY} {pc : Nat} {ls : eL} {st : List Value} {h : eH} {Q : eO → eH → Prop} {a : Nat} {x : Nat} (hf : g_A 16 h a 1 = some x) (hd : decode Y.2.1 pc = .ok (.getfield 66, 3)) (hY : Y.1.cls = RX16) (kk : wp w d Y (pc + 3) ls (.ref x :: st) h Q) : wp w d Y pc ls (.ref a :: st) h Q := x_gAN (ci := 16) (k := 1) hf hd rfl (by decide) (by rw [hY]; exact q1092) kk
def fX16_add_b138 (N : Nat) : Nat → Nat → Nat → Int32 → Int64 → Int32 → eH → Option (Unit × eH)
  | 0, _, _, _, _, _, _ => none
  | n + 1, l0, l1, l3, l4, l6, h =>
    (g_I 16 h l1 2).bind fun x1 =>
    if x1 ≤ l6 then
      (g_A 15 h l0 3).bind fun a4 =>
      (q_V 101 h a4 l3 (.long l4)).bind fun h6 =>
      some ((), h6)
    else
      (g_A 16 h l1 1).bind fun a8 =>
      (r_I 102 h a8 l6).bind fun x10 =>
      fX16_add_b138 N n l0 l1 l3 (l4 ||| ((x10).toInt64 <<< ((l6).toInt64 &&& 63))) (l6 + (1 : Int32)) h
theorem pX16_add_b138 {w : eW} {d : Nat} (hd : 2 ≤ d + 1) {N : Nat} : ∀ (n : Nat) l0 l1 l3 l4 l6 h q, fX16_add_b138 N n l0 l1 l3 l4 l6 h = some q → wp w (d + 1) YX16_add 138 [some (.ref l0), some (.ref l1), none, some (.int l3), some (.long l4), none, some (.int l6)] [] h (e_is (e_rn c_V q)) := by
  intro n
  induction n with
  | zero => intro l0 l1 l3 l4 l6 h q hf; simp [fX16_add_b138] at hf
  | succ n ih =>
    intro l0 l1 l3 l4 l6 h q hf
    rw [fX16_add_b138] at hf
    refine w_iload dX16_add_138 rfl ?_
    refine w_aload_n dX16_add_140 rfl rfl ?_
    obtain ⟨x1, b2, hf⟩ := Option.bind_eq_some_iff.mp hf
    refine GX16_43 b2 dX16_add_141 rfl ?_
    refine w_icmp_ge 169 dX16_add_144 (by decide) (fun c3 => ?_) (fun c3 => ?_)
    · replace hf := (if_pos (show x1 ≤ l6 from c3)).symm.trans hf
      refine w_aload_n dX16_add_169 rfl rfl ?_
      obtain ⟨a4, b5, hf⟩ := Option.bind_eq_some_iff.mp hf
      refine GX16_21 b5 dX16_add_170 rfl ?_
      refine w_iload_n dX16_add_173 rfl rfl ?_
      refine w_lload dX16_add_174 rfl ?_
      obtain ⟨h6, b7, hf⟩ := Option.bind_eq_some_iff.mp hf
      refine x_qJ b7 dX16_add_176 ?_
      cases hf
      exact w_vret dX16_add_177 rfl rfl
    · replace hf := (if_neg (show ¬ (x1 ≤ l6) from c3)).symm.trans hf
      refine w_lload dX16_add_147 rfl ?_
      refine w_aload_n dX16_add_149 rfl rfl ?_
      obtain ⟨a8, b9, hf⟩ := Option.bind_eq_some_iff.mp hf
      refine GX16_66 b9 dX16_add_150 rfl ?_
      refine w_iload dX16_add_153 rfl ?_
      obtain ⟨x10, b11, hf⟩ := Option.bind_eq_some_iff.mp hf
      refine x_rB b11 dX16_add_155 ?_
      refine w_i2l dX16_add_156 ?_
      refine w_iload dX16_add_157 rfl ?_
      refine w_lshl dX16_add_159 ?_
      refine w_lor dX16_add_160 ?_
      refine w_lstore dX16_add_161 (by decide) (ls' := [some (.ref l0), some (.ref l1), none, some (.int l3), some (.long (l4 ||| ((x10).toInt64 <<< ((l6).toInt64 &&& 63)))), none, some (.int l6)]) rfl ?_
      refine w_iinc dX16_add_163 (v := (l6 + (1 : Int32))) rfl rfl (by decide) (ls' := [some (.ref l0), some (.ref l1), none, some (.int l3), some (.long (l4 ||| ((x10).toInt64 <<< ((l6).toInt64 &&& 63)))), none, some (.int (l6 + (1 : Int32)))]) rfl ?_
      refine w_goto 138 dX16_add_166 (by decide) ?_
      exact (ih _ _ _ _ _ _ _ hf).to ⟨rfl, rfl, rfl, rfl, rfl, trivial⟩
def fX16_add_b91 (N : Nat) (l0 : Nat) (l1 : Nat) (l2 : Int32) (h : eH) : Option (Unit × eH) :=
  (g_A 15 h l0 0).bind fun a1 =>
  (r_I 100 h a1 l2).bind fun x3 =>
  (g_A 15 h l0 9).bind fun a5 =>
  (g_I 15 h l0 11).bind fun x7 =>
  (q_V 100 h a5 x7 (.int (x3 - (1 : Int32)))).bind fun h9 =>
  (g_A 15 h9 l0 10).bind fun a11 =>
  (g_I 15 h9 l0 11).bind fun x13 =>
  (p_V 15 h9 l0 11 (.int (x13 + (1 : Int32)))).bind fun h15 =>
  (g_A 15 h15 l0 3).bind fun a17 =>
  (r_J h15 a17 (x3 - (1 : Int32))).bind fun x19 =>
  (q_V 101 h15 a11 x13 (.long x19)).bind fun h21 =>
  fX16_add_b138 N N l0 l1 (x3 - (1 : Int32)) (0 : Int64) (1 : Int32) h21
theorem pX16_add_b91 {w : eW} {d : Nat} (hd : 2 ≤ d + 1) {N : Nat} {l0 : Nat} {l1 : Nat} {l2 : Int32} {h : eH} {q} (hf : fX16_add_b91 N l0 l1 l2 h = some q) : wp w (d + 1) YX16_add 91 [some (.ref l0), some (.ref l1), some (.int l2), none, none, none, none] [] h (e_is (e_rn c_V q)) := by
  unfold fX16_add_b91 at hf
  refine w_aload_n dX16_add_91 rfl rfl ?_
  obtain ⟨a1, b2, hf⟩ := Option.bind_eq_some_iff.mp hf
  refine GX16_11 b2 dX16_add_92 rfl ?_
  refine w_iload_n dX16_add_95 rfl rfl ?_
  obtain ⟨x3, b4, hf⟩ := Option.bind_eq_some_iff.mp hf
  refine x_rI b4 dX16_add_96 ?_
  refine w_iconst dX16_add_97 (v := 1) (by decide) ?_
  refine w_isub dX16_add_98 ?_
  refine w_istore_n dX16_add_99 rfl (by decide) (ls' := [some (.ref l0), some (.ref l1), some (.int l2), some (.int (x3 - (1 : Int32))), none, none, none]) rfl ?_
  refine w_aload_n dX16_add_100 rfl rfl ?_
  obtain ⟨a5, b6, hf⟩ := Option.bind_eq_some_iff.mp hf
  refine GX16_30 b6 dX16_add_101 rfl ?_
  refine w_aload_n dX16_add_104 rfl rfl ?_
  obtain ⟨x7, b8, hf⟩ := Option.bind_eq_some_iff.mp hf
  refine GX16_63 b8 dX16_add_105 rfl ?_
  refine w_iload_n dX16_add_108 rfl rfl ?_
  obtain ⟨h9, b10, hf⟩ := Option.bind_eq_some_iff.mp hf
  refine x_qI b10 dX16_add_109 ?_
  refine w_aload_n dX16_add_110 rfl rfl ?_
  obtain ⟨a11, b12, hf⟩ := Option.bind_eq_some_iff.mp hf
  refine GX16_33 b12 dX16_add_111 rfl ?_
  refine w_aload_n dX16_add_114 rfl rfl ?_
  refine w_dup dX16_add_115 rfl ?_
  obtain ⟨x13, b14, hf⟩ := Option.bind_eq_some_iff.mp hf
  refine GX16_63 b14 dX16_add_116 rfl ?_
  refine w_dup_x1 dX16_add_119 rfl rfl ?_
  refine w_iconst dX16_add_120 (v := 1) (by decide) ?_
  refine w_iadd dX16_add_121 ?_
  obtain ⟨h15, b16, hf⟩ := Option.bind_eq_some_iff.mp hf
  refine SX16_63 b16 dX16_add_122 rfl ?_
  refine w_aload_n dX16_add_125 rfl rfl ?_
  obtain ⟨a17, b18, hf⟩ := Option.bind_eq_some_iff.mp hf
  refine GX16_21 b18 dX16_add_126 rfl ?_
  refine w_iload_n dX16_add_129 rfl rfl ?_
  obtain ⟨x19, b20, hf⟩ := Option.bind_eq_some_iff.mp hf
  refine x_rJ b20 dX16_add_130 ?_
  obtain ⟨h21, b22, hf⟩ := Option.bind_eq_some_iff.mp hf
  refine x_qJ b22 dX16_add_131 ?_
  refine w_lconst dX16_add_132 (v := 0) (by decide) ?_
  refine w_lstore dX16_add_133 (by decide) (ls' := [some (.ref l0), some (.ref l1), some (.int l2), some (.int (x3 - (1 : Int32))), some (.long (0 : Int64)), none, none]) rfl ?_
  refine w_iconst dX16_add_135 (v := 1) (by decide) ?_
  refine w_istore dX16_add_136 (by decide) (ls' := [some (.ref l0), some (.ref l1), some (.int l2), some (.int (x3 - (1 : Int32))), some (.long (0 : Int64)), none, some (.int (1 : Int32))]) rfl ?_
  exact (pX16_add_b138 hd N _ _ _ _ _ _ _ hf).to ⟨rfl, rfl, rfl, rfl, rfl, trivial⟩
def fX16_add (N : Nat) (this : Nat) (p0 : Nat) (h : eH) : Option (Unit × eH) :=
  (k_ok 15 h this).bind fun _ =>
  (fX16_seek N this p0 h).bind fun q2 =>
  (g_A 15 q2.2 this 0).bind fun a3 =>
  (r_I 100 q2.2 a3 q2.1).bind fun x5 =>
  if ¬ x5 = 0 then
    fX16_add_b91 N this p0 q2.1 q2.2
  else
    (g_A 15 q2.2 this 1).bind fun a8 =>
    (g_I 15 q2.2 this 5).bind fun x10 =>
    (g_I 15 q2.2 this 6).bind fun x12 =>
    (q_V 100 q2.2 a8 x10 (.int x12)).bind fun h14 =>
    (g_A 15 h14 this 2).bind fun a16 =>
    (g_I 15 h14 this 5).bind fun x18 =>
    (g_I 16 h14 p0 2).bind fun x20 =>
    (q_V 100 h14 a16 x18 (.int x20)).bind fun h22 =>
    (g_A 16 h22 p0 0).bind fun a24 =>
    (g_A 15 h22 this 4).bind fun a26 =>
    (g_I 15 h22 this 6).bind fun x28 =>
    (g_I 16 h22 p0 2).bind fun x30 =>
    (a_cpy h22 a24 (0 : Int32) a26 x28 x30).bind fun h32 =>
    (g_I 15 h32 this 6).bind fun x34 =>
    (g_I 16 h32 p0 2).bind fun x36 =>
    (p_V 15 h32 this 6 (.int (x34 + x36))).bind fun h38 =>
    (g_A 15 h38 this 0).bind fun a40 =>
    (g_I 15 h38 this 5).bind fun x42 =>
    (p_V 15 h38 this 5 (.int (x42 + (1 : Int32)))).bind fun h44 =>
    (q_V 100 h44 a40 q2.1 (.int (x42 + (1 : Int32)))).bind fun h46 =>
    fX16_add_b91 N this p0 q2.1 h46
theorem pX16_add {w : eW} {d : Nat} (hd : 2 ≤ d) {N : Nat} {this : Nat} {p0 : Nat} {h : eH} {q} (hf : fX16_add N this p0 h = some q) : wm w d YX16_add [.ref this, .ref p0] h (e_is (e_rn c_V q)) := by
  obtain ⟨d, rfl⟩ : ∃ e, d = e + 1 := ⟨d - 1, by omega⟩
  show wp w (d + 1) YX16_add 0 [some (.ref this), some (.ref p0), none, none, none, none, none] [] h _
  unfold fX16_add at hf
  refine w_aload_n dX16_add_0 rfl rfl ?_
  refine w_aload_n dX16_add_1 rfl rfl ?_
  obtain ⟨_, b1, hf⟩ := Option.bind_eq_some_iff.mp hf
  refine x_cnI hf (e_stV (Yc := YX16_seek) (ci := 15) (av := [.ref p0]) (st := []) dX16_add_2 q2357 mX16_seek rfl (k_ok_some b1).1 (k_ok_some b1).2) mX16_seek.2.2.1 mX16_seek.2.2.2.2.1 (Nat.le_of_ble_eq_true rfl) (Nat.le_of_ble_eq_true rfl) (fun q hq => pX16_seek (by omega) hq) (fun q2 hf => ?_)
  refine w_istore_n dX16_add_5 rfl (by decide) (ls' := [some (.ref this), some (.ref p0), some (.int q2.1), none, none, none, none]) rfl ?_
  refine w_aload_n dX16_add_6 rfl rfl ?_
  obtain ⟨a3, b4, hf⟩ := Option.bind_eq_some_iff.mp hf
  refine GX16_11 b4 dX16_add_7 rfl ?_
  refine w_iload_n dX16_add_10 rfl rfl ?_
  obtain ⟨x5, b6, hf⟩ := Option.bind_eq_some_iff.mp hf
  refine x_rI b6 dX16_add_11 ?_
  refine w_if_ne 91 dX16_add_12 (by decide) (fun c7 => ?_) (fun c7 => ?_)
  · replace hf := (if_pos (show ¬ x5 = 0 from c7)).symm.trans hf
    exact (pX16_add_b91 hd hf).to ⟨rfl, rfl, rfl, trivial⟩
  · replace hf := (if_neg (show ¬ (¬ x5 = 0) from (fun z => z c7))).symm.trans hf
    refine w_aload_n dX16_add_15 rfl rfl ?_
    obtain ⟨a8, b9, hf⟩ := Option.bind_eq_some_iff.mp hf
    refine GX16_15 b9 dX16_add_16 rfl ?_
    refine w_aload_n dX16_add_19 rfl rfl ?_
    obtain ⟨x10, b11, hf⟩ := Option.bind_eq_some_iff.mp hf
    refine GX16_36 b11 dX16_add_20 rfl ?_
    refine w_aload_n dX16_add_23 rfl rfl ?_
    obtain ⟨x12, b13, hf⟩ := Option.bind_eq_some_iff.mp hf
    refine GX16_40 b13 dX16_add_24 rfl ?_
    obtain ⟨h14, b15, hf⟩ := Option.bind_eq_some_iff.mp hf
    refine x_qI b15 dX16_add_27 ?_
    refine w_aload_n dX16_add_28 rfl rfl ?_
    obtain ⟨a16, b17, hf⟩ := Option.bind_eq_some_iff.mp hf
    refine GX16_18 b17 dX16_add_29 rfl ?_
    refine w_aload_n dX16_add_32 rfl rfl ?_
    obtain ⟨x18, b19, hf⟩ := Option.bind_eq_some_iff.mp hf
    refine GX16_36 b19 dX16_add_33 rfl ?_
    refine w_aload_n dX16_add_36 rfl rfl ?_
    obtain ⟨x20, b21, hf⟩ := Option.bind_eq_some_iff.mp hf
    refine GX16_43 b21 dX16_add_37 rfl ?_
    obtain ⟨h22, b23, hf⟩ := Option.bind_eq_some_iff.mp hf
    refine x_qI b23 dX16_add_40 ?_
    refine w_aload_n dX16_add_41 rfl rfl ?_
    obtain ⟨a24, b25, hf⟩ := Option.bind_eq_some_iff.mp hf
    refine GX16_48 b25 dX16_add_42 rfl ?_
    refine w_iconst dX16_add_45 (v := 0) (by decide) ?_
    refine w_aload_n dX16_add_46 rfl rfl ?_
    obtain ⟨a26, b27, hf⟩ := Option.bind_eq_some_iff.mp hf
    refine GX16_25 b27 dX16_add_47 rfl ?_
    refine w_aload_n dX16_add_50 rfl rfl ?_
    obtain ⟨x28, b29, hf⟩ := Option.bind_eq_some_iff.mp hf
    refine GX16_40 b29 dX16_add_51 rfl ?_
    refine w_aload_n dX16_add_54 rfl rfl ?_
    obtain ⟨x30, b31, hf⟩ := Option.bind_eq_some_iff.mp hf
    refine GX16_43 b31 dX16_add_55 rfl ?_
    obtain ⟨h32, b33, hf⟩ := Option.bind_eq_some_iff.mp hf
    refine x_cpy b33 dX16_add_58 q2369 q955 q954 q441 (Nat.le_of_ble_eq_true rfl) ?_
    refine w_aload_n dX16_add_61 rfl rfl ?_
    refine w_dup dX16_add_62 rfl ?_
    obtain ⟨x34, b35, hf⟩ := Option.bind_eq_some_iff.mp hf
    refine GX16_40 b35 dX16_add_63 rfl ?_
    refine w_aload_n dX16_add_66 rfl rfl ?_
    obtain ⟨x36, b37, hf⟩ := Option.bind_eq_some_iff.mp hf
    refine GX16_43 b37 dX16_add_67 rfl ?_
    refine w_iadd dX16_add_70 ?_
    obtain ⟨h38, b39, hf⟩ := Option.bind_eq_some_iff.mp hf
    refine SX16_40 b39 dX16_add_71 rfl ?_
    refine w_aload_n dX16_add_74 rfl rfl ?_
    obtain ⟨a40, b41, hf⟩ := Option.bind_eq_some_iff.mp hf
    refine GX16_11 b41 dX16_add_75 rfl ?_
    refine w_iload_n dX16_add_78 rfl rfl ?_
    refine w_aload_n dX16_add_79 rfl rfl ?_
    refine w_dup dX16_add_80 rfl ?_
    obtain ⟨x42, b43, hf⟩ := Option.bind_eq_some_iff.mp hf
    refine GX16_36 b43 dX16_add_81 rfl ?_
    refine w_iconst dX16_add_84 (v := 1) (by decide) ?_
    refine w_iadd dX16_add_85 ?_
    refine w_dup_x1 dX16_add_86 rfl rfl ?_
    obtain ⟨h44, b45, hf⟩ := Option.bind_eq_some_iff.mp hf
    refine SX16_36 b45 dX16_add_87 rfl ?_
    obtain ⟨h46, b47, hf⟩ := Option.bind_eq_some_iff.mp hf
    refine x_qI b47 dX16_add_90 ?_
    exact (pX16_add_b91 hd hf).to ⟨rfl, rfl, rfl, trivial⟩
abbrev cX14_readWord : ByteArray := prog_10_method_11_code
def yX14_readWord : MethodName := ⟨RX14, "readWord", "()V"⟩
def YX14_readWord : eY := (yX14_readWord, cX14_readWord, 5, none, [])
theorem mX14_readWord : e_mv YX14_readWord RX14 0 := ⟨q2326, qs32, q2327, by decide, by decide +kernel, (e_sig (by decide +kernel))⟩
theorem dX14_readWord_0 : decode cX14_readWord 0 = .ok (.aload_n 0, 1) := dc_42 (by decide +kernel)
theorem dX14_readWord_1 : decode cX14_readWord 1 = .ok (.getfield 35, 3) := dc_180 (a := 0) (b := 35) (n := 35) (by decide +kernel)
theorem dX14_readWord_4 : decode cX14_readWord 4 = .ok (.istore_n 1, 1) := dc_60 (by decide +kernel)
theorem dX14_readWord_5 : decode cX14_readWord 5 = .ok (.aload_n 0, 1) := dc_42 (by decide +kernel)
theorem dX14_readWord_6 : decode cX14_readWord 6 = .ok (.getfield 28, 3) := dc_180 (a := 0) (b := 28) (n := 28) (by decide +kernel)
theorem dX14_readWord_9 : decode cX14_readWord 9 = .ok (.invokevirtual 73, 3) := dc_182 (a := 0) (b := 73) (n := 73) (by decide +kernel)
theorem dX14_readWord_12 : decode cX14_readWord 12 = .ok (.iconst 0, 1) := dc_3 (by decide +kernel)
theorem dX14_readWord_13 : decode cX14_readWord 13 = .ok (.istore_n 2, 1) := dc_61 (by decide +kernel)
theorem dX14_readWord_14 : decode cX14_readWord 14 = .ok (.iconst 1, 1) := dc_4 (by decide +kernel)
theorem dX14_readWord_15 : decode cX14_readWord 15 = .ok (.istore_n 3, 1) := dc_62 (by decide +kernel)
theorem dX14_readWord_16 : decode cX14_readWord 16 = .ok (.iload_n 3, 1) := dc_29 (by decide +kernel)
theorem dX14_readWord_17 : decode cX14_readWord 17 = .ok (.ifCond .eq 88, 3) := dc_153 (a := 0) (b := 88) (v := 88) (by decide +kernel)
theorem dX14_readWord_20 : decode cX14_readWord 20 = .ok (.iinc 2 1, 3) := dc_132 (a := 2) (b := 1) (v := 1) (by decide +kernel)
theorem dX14_readWord_23 : decode cX14_readWord 23 = .ok (.aload_n 0, 1) := dc_42 (by decide +kernel)
theorem dX14_readWord_24 : decode cX14_readWord 24 = .ok (.iload_n 2, 1) := dc_28 (by decide +kernel)
theorem dX14_readWord_25 : decode cX14_readWord 25 = .ok (.invokevirtual 87, 3) := dc_182 (a := 0) (b := 87) (n := 87) (by decide +kernel)
theorem dX14_readWord_28 : decode cX14_readWord 28 = .ok (.aload_n 0, 1) := dc_42 (by decide +kernel)
theorem dX14_readWord_29 : decode cX14_readWord 29 = .ok (.invokevirtual 53, 3) := dc_182 (a := 0) (b := 53) (n := 53) (by decide +kernel)
theorem dX14_readWord_32 : decode cX14_readWord 32 = .ok (.bipush 45, 2) := dc_16 (a := 45) (v := 45) (by decide +kernel)
theorem dX14_readWord_34 : decode cX14_readWord 34 = .ok (.if_icmp .ne 7, 3) := dc_160 (a := 0) (b := 7) (v := 7) (by decide +kernel)
theorem dX14_readWord_37 : decode cX14_readWord 37 = .ok (.iconst 1, 1) := dc_4 (by decide +kernel)
theorem dX14_readWord_38 : decode cX14_readWord 38 = .ok (.goto 4, 3) := dc_167 (a := 0) (b := 4) (v := 4) (by decide +kernel)
theorem dX14_readWord_41 : decode cX14_readWord 41 = .ok (.iconst 0, 1) := dc_3 (by decide +kernel)
theorem dX14_readWord_42 : decode cX14_readWord 42 = .ok (.istore 4, 2) := dc_54 (a := 4) (by decide +kernel)
theorem dX14_readWord_44 : decode cX14_readWord 44 = .ok (.iload 4, 2) := dc_21 (a := 4) (by decide +kernel)
theorem dX14_readWord_46 : decode cX14_readWord 46 = .ok (.ifCond .eq 19, 3) := dc_153 (a := 0) (b := 19) (v := 19) (by decide +kernel)
theorem dX14_readWord_49 : decode cX14_readWord 49 = .ok (.aload_n 0, 1) := dc_42 (by decide +kernel)
theorem dX14_readWord_50 : decode cX14_readWord 50 = .ok (.getfield 28, 3) := dc_180 (a := 0) (b := 28) (n := 28) (by decide +kernel)
theorem dX14_readWord_53 : decode cX14_readWord 53 = .ok (.getfield 57, 3) := dc_180 (a := 0) (b := 57) (n := 57) (by decide +kernel)
theorem dX14_readWord_56 : decode cX14_readWord 56 = .ok (.aload_n 0, 1) := dc_42 (by decide +kernel)
theorem dX14_readWord_57 : decode cX14_readWord 57 = .ok (.getfield 28, 3) := dc_180 (a := 0) (b := 28) (n := 28) (by decide +kernel)
theorem dX14_readWord_60 : decode cX14_readWord 60 = .ok (.getfield 60, 3) := dc_180 (a := 0) (b := 60) (n := 60) (by decide +kernel)
theorem dX14_readWord_63 : decode cX14_readWord 63 = .ok (.iconst 1, 1) := dc_4 (by decide +kernel)
theorem dX14_readWord_64 : decode cX14_readWord 64 = .ok (.bastore, 1) := dc_84 (by decide +kernel)
theorem dX14_readWord_65 : decode cX14_readWord 65 = .ok (.aload_n 0, 1) := dc_42 (by decide +kernel)
theorem dX14_readWord_66 : decode cX14_readWord 66 = .ok (.dup, 1) := dc_89 (by decide +kernel)
theorem dX14_readWord_67 : decode cX14_readWord 67 = .ok (.getfield 35, 3) := dc_180 (a := 0) (b := 35) (n := 35) (by decide +kernel)
theorem dX14_readWord_70 : decode cX14_readWord 70 = .ok (.iload 4, 2) := dc_21 (a := 4) (by decide +kernel)
theorem dX14_readWord_72 : decode cX14_readWord 72 = .ok (.ifCond .eq 7, 3) := dc_153 (a := 0) (b := 7) (v := 7) (by decide +kernel)
theorem dX14_readWord_75 : decode cX14_readWord 75 = .ok (.iconst 1, 1) := dc_4 (by decide +kernel)
theorem dX14_readWord_76 : decode cX14_readWord 76 = .ok (.goto 4, 3) := dc_167 (a := 0) (b := 4) (v := 4) (by decide +kernel)
theorem dX14_readWord_79 : decode cX14_readWord 79 = .ok (.iconst 0, 1) := dc_3 (by decide +kernel)
theorem dX14_readWord_80 : decode cX14_readWord 80 = .ok (.iadd, 1) := dc_96 (by decide +kernel)
theorem dX14_readWord_81 : decode cX14_readWord 81 = .ok (.putfield 35, 3) := dc_181 (a := 0) (b := 35) (n := 35) (by decide +kernel)
theorem dX14_readWord_84 : decode cX14_readWord 84 = .ok (.iload 4, 2) := dc_21 (a := 4) (by decide +kernel)
theorem dX14_readWord_86 : decode cX14_readWord 86 = .ok (.ifCond .ne 10, 3) := dc_154 (a := 0) (b := 10) (v := 10) (by decide +kernel)
theorem dX14_readWord_89 : decode cX14_readWord 89 = .ok (.aload_n 0, 1) := dc_42 (by decide +kernel)
theorem dX14_readWord_90 : decode cX14_readWord 90 = .ok (.invokevirtual 83, 3) := dc_182 (a := 0) (b := 83) (n := 83) (by decide +kernel)
theorem dX14_readWord_93 : decode cX14_readWord 93 = .ok (.ifCond .ne 7, 3) := dc_154 (a := 0) (b := 7) (v := 7) (by decide +kernel)
theorem dX14_readWord_96 : decode cX14_readWord 96 = .ok (.iconst 1, 1) := dc_4 (by decide +kernel)
theorem dX14_readWord_97 : decode cX14_readWord 97 = .ok (.goto 4, 3) := dc_167 (a := 0) (b := 4) (v := 4) (by decide +kernel)
theorem dX14_readWord_100 : decode cX14_readWord 100 = .ok (.iconst 0, 1) := dc_3 (by decide +kernel)
theorem dX14_readWord_101 : decode cX14_readWord 101 = .ok (.istore_n 3, 1) := dc_62 (by decide +kernel)
theorem dX14_readWord_102 : decode cX14_readWord 102 = .ok (.goto (-86), 3) := dc_167 (a := 255) (b := 170) (v := -86) (by decide +kernel)
theorem dX14_readWord_105 : decode cX14_readWord 105 = .ok (.aload_n 0, 1) := dc_42 (by decide +kernel)
theorem dX14_readWord_106 : decode cX14_readWord 106 = .ok (.iload_n 2, 1) := dc_28 (by decide +kernel)
theorem dX14_readWord_107 : decode cX14_readWord 107 = .ok (.bipush 63, 2) := dc_16 (a := 63) (v := 63) (by decide +kernel)
theorem dX14_readWord_109 : decode cX14_readWord 109 = .ok (.if_icmp .gt 7, 3) := dc_163 (a := 0) (b := 7) (v := 7) (by decide +kernel)
theorem dX14_readWord_112 : decode cX14_readWord 112 = .ok (.iconst 1, 1) := dc_4 (by decide +kernel)
theorem dX14_readWord_113 : decode cX14_readWord 113 = .ok (.goto 4, 3) := dc_167 (a := 0) (b := 4) (v := 4) (by decide +kernel)
theorem dX14_readWord_116 : decode cX14_readWord 116 = .ok (.iconst 0, 1) := dc_3 (by decide +kernel)
theorem dX14_readWord_117 : decode cX14_readWord 117 = .ok (.iconst 2, 1) := dc_5 (by decide +kernel)
theorem dX14_readWord_118 : decode cX14_readWord 118 = .ok (.iload_n 1, 1) := dc_27 (by decide +kernel)
theorem dX14_readWord_119 : decode cX14_readWord 119 = .ok (.invokevirtual 65, 3) := dc_182 (a := 0) (b := 65) (n := 65) (by decide +kernel)
theorem dX14_readWord_122 : decode cX14_readWord 122 = .ok (.aload_n 0, 1) := dc_42 (by decide +kernel)
theorem dX14_readWord_123 : decode cX14_readWord 123 = .ok (.getfield 21, 3) := dc_180 (a := 0) (b := 21) (n := 21) (by decide +kernel)
theorem dX14_readWord_126 : decode cX14_readWord 126 = .ok (.aload_n 0, 1) := dc_42 (by decide +kernel)
theorem dX14_readWord_127 : decode cX14_readWord 127 = .ok (.getfield 28, 3) := dc_180 (a := 0) (b := 28) (n := 28) (by decide +kernel)
theorem dX14_readWord_130 : decode cX14_readWord 130 = .ok (.invokevirtual 103, 3) := dc_182 (a := 0) (b := 103) (n := 103) (by decide +kernel)
theorem dX14_readWord_133 : decode cX14_readWord 133 = .ok (.iconst (-1), 1) := dc_2 (by decide +kernel)
theorem dX14_readWord_134 : decode cX14_readWord 134 = .ok (.if_icmp .ne 7, 3) := dc_160 (a := 0) (b := 7) (v := 7) (by decide +kernel)
theorem dX14_readWord_137 : decode cX14_readWord 137 = .ok (.iconst 1, 1) := dc_4 (by decide +kernel)
theorem dX14_readWord_138 : decode cX14_readWord 138 = .ok (.goto 4, 3) := dc_167 (a := 0) (b := 4) (v := 4) (by decide +kernel)
theorem dX14_readWord_141 : decode cX14_readWord 141 = .ok (.iconst 0, 1) := dc_3 (by decide +kernel)
theorem dX14_readWord_142 : decode cX14_readWord 142 = .ok (.istore 4, 2) := dc_54 (a := 4) (by decide +kernel)
theorem dX14_readWord_144 : decode cX14_readWord 144 = .ok (.aload_n 0, 1) := dc_42 (by decide +kernel)
theorem dX14_readWord_145 : decode cX14_readWord 145 = .ok (.iload 4, 2) := dc_21 (a := 4) (by decide +kernel)
theorem dX14_readWord_147 : decode cX14_readWord 147 = .ok (.ifCond .eq 31, 3) := dc_153 (a := 0) (b := 31) (v := 31) (by decide +kernel)
theorem dX14_readWord_150 : decode cX14_readWord 150 = .ok (.aload_n 0, 1) := dc_42 (by decide +kernel)
theorem dX14_readWord_151 : decode cX14_readWord 151 = .ok (.getfield 21, 3) := dc_180 (a := 0) (b := 21) (n := 21) (by decide +kernel)
theorem dX14_readWord_154 : decode cX14_readWord 154 = .ok (.getfield 107, 3) := dc_180 (a := 0) (b := 107) (n := 107) (by decide +kernel)
theorem dX14_readWord_157 : decode cX14_readWord 157 = .ok (.sipush 300, 3) := dc_17 (a := 1) (b := 44) (v := 300) (by decide +kernel)
theorem dX14_readWord_160 : decode cX14_readWord 160 = .ok (.if_icmp .ge 22, 3) := dc_162 (a := 0) (b := 22) (v := 22) (by decide +kernel)
theorem dX14_readWord_163 : decode cX14_readWord 163 = .ok (.aload_n 0, 1) := dc_42 (by decide +kernel)
theorem dX14_readWord_164 : decode cX14_readWord 164 = .ok (.getfield 21, 3) := dc_180 (a := 0) (b := 21) (n := 21) (by decide +kernel)
theorem dX14_readWord_167 : decode cX14_readWord 167 = .ok (.getfield 110, 3) := dc_180 (a := 0) (b := 110) (n := 110) (by decide +kernel)
theorem dX14_readWord_170 : decode cX14_readWord 170 = .ok (.iload_n 2, 1) := dc_28 (by decide +kernel)
theorem dX14_readWord_171 : decode cX14_readWord 171 = .ok (.iadd, 1) := dc_96 (by decide +kernel)
theorem dX14_readWord_172 : decode cX14_readWord 172 = .ok (.sipush 8000, 3) := dc_17 (a := 31) (b := 64) (v := 8000) (by decide +kernel)
theorem dX14_readWord_175 : decode cX14_readWord 175 = .ok (.if_icmp .gt 7, 3) := dc_163 (a := 0) (b := 7) (v := 7) (by decide +kernel)
theorem dX14_readWord_178 : decode cX14_readWord 178 = .ok (.iconst 1, 1) := dc_4 (by decide +kernel)
theorem dX14_readWord_179 : decode cX14_readWord 179 = .ok (.goto 4, 3) := dc_167 (a := 0) (b := 4) (v := 4) (by decide +kernel)
theorem dX14_readWord_182 : decode cX14_readWord 182 = .ok (.iconst 0, 1) := dc_3 (by decide +kernel)
theorem dX14_readWord_183 : decode cX14_readWord 183 = .ok (.iconst 4, 1) := dc_7 (by decide +kernel)
theorem dX14_readWord_184 : decode cX14_readWord 184 = .ok (.iload_n 1, 1) := dc_27 (by decide +kernel)
theorem dX14_readWord_185 : decode cX14_readWord 185 = .ok (.invokevirtual 65, 3) := dc_182 (a := 0) (b := 65) (n := 65) (by decide +kernel)
theorem dX14_readWord_188 : decode cX14_readWord 188 = .ok (.aload_n 0, 1) := dc_42 (by decide +kernel)
theorem dX14_readWord_189 : decode cX14_readWord 189 = .ok (.getfield 21, 3) := dc_180 (a := 0) (b := 21) (n := 21) (by decide +kernel)
theorem dX14_readWord_192 : decode cX14_readWord 192 = .ok (.aload_n 0, 1) := dc_42 (by decide +kernel)
theorem dX14_readWord_193 : decode cX14_readWord 193 = .ok (.getfield 28, 3) := dc_180 (a := 0) (b := 28) (n := 28) (by decide +kernel)
theorem dX14_readWord_196 : decode cX14_readWord 196 = .ok (.invokevirtual 113, 3) := dc_182 (a := 0) (b := 113) (n := 113) (by decide +kernel)
theorem dX14_readWord_199 : decode cX14_readWord 199 = .ok (.return_, 1) := dc_177 (by decide +kernel)
theorem GX14_110 {w : eW} {d : Nat} {Y : eY} {pc : Nat} {ls : eL} {st : List Value} {h : eH} {Q : eO → eH → Prop} {a : Nat} {x : Int32} (hf : g_I 15 h a 6 = some x) (hd : decode Y.2.1 pc = .ok (.getfield 110, 3)) (hY : Y.1.cls = RX14) (kk : wp w d Y (pc + 3) ls (.int x :: st) h Q) : wp w d Y pc ls (.ref a :: st) h Q := x_gIN (ci := 15) (k := 6) hf hd rfl (by decide) (by rw [hY]; exact q1050) kk
theorem GX14_57 {w : eW} {d : Nat} {Y : eY} {pc : Nat} {ls : eL} {st : List Value} {h : eH} {Q : eO → eH → Prop} {a : Nat} {x : Nat} (hf : g_A 16 h a 1 = some x) (hd : decode Y.2.1 pc = .ok (.getfield 57, 3)) (hY : Y.1.cls = RX14) (kk : wp w d Y (pc + 3) ls (.ref x :: st) h Q) : wp w d Y pc ls (.ref a :: st) h Q := x_gAN (ci := 16) (k := 1) hf hd rfl (by decide) (by rw [hY]; exact q1093) kk
theorem GX14_60 {w : eW} {d : Nat} {Y : eY} {pc : Nat} {ls : eL} {st : List Value} {h : eH} {Q : eO → eH → Prop} {a : Nat} {x : Int32} (hf : g_I 16 h a 2 = some x) (hd : decode Y.2.1 pc = .ok (.getfield 60, 3)) (hY : Y.1.cls = RX14) (kk : wp w d Y (pc + 3) ls (.int x :: st) h Q) : wp w d Y pc ls (.ref a :: st) h Q := x_gIN (ci := 16) (k := 2) hf hd rfl (by decide) (by rw [hY]; exact q1098) kk
def fX14_readWord_b101 (N : Nat) (k16 : Nat → Int32 → Int32 → Int32 → eH → Option ((Unit ⊕ Nat) × eH)) (l0 : Nat) (l1 : Int32) (l2 : Int32) (s0 : Int32) (h : eH) : Option ((Unit ⊕ Nat) × eH) :=
  k16 l0 l1 l2 s0 h
theorem pX14_readWord_b101 {w : eW} {d : Nat} (hd : 8 ≤ d + 1) {N : Nat} {k16 : Nat → Int32 → Int32 → Int32 → eH → Option ((Unit ⊕ Nat) × eH)} (hk16 : ∀ l0 l1 l2 l3 h q, k16 l0 l1 l2 l3 h = some q → wp w (d + 1) YX14_readWord 16 [some (.ref l0), some (.int l1), some (.int l2), some (.int l3), none] [] h (e_is (e_rt c_V q))) {l0 : Nat} {l1 : Int32} {l2 : Int32} {s0 : Int32} {h : eH} {q} (hf : fX14_readWord_b101 N k16 l0 l1 l2 s0 h = some q) : wp w (d + 1) YX14_readWord 101 [some (.ref l0), some (.int l1), some (.int l2), none, none] [.int s0] h (e_is (e_rt c_V q)) := by
  unfold fX14_readWord_b101 at hf
  refine w_istore_n dX14_readWord_101 rfl (by decide) (ls' := [some (.ref l0), some (.int l1), some (.int l2), some (.int s0), none]) rfl ?_
  refine w_goto 16 dX14_readWord_102 (by decide) ?_
  exact (hk16 _ _ _ _ _ _ hf).to ⟨rfl, rfl, rfl, rfl, trivial⟩
def fX14_readWord_b96 (N : Nat) (k16 : Nat → Int32 → Int32 → Int32 → eH → Option ((Unit ⊕ Nat) × eH)) (l0 : Nat) (l1 : Int32) (l2 : Int32) (h : eH) : Option ((Unit ⊕ Nat) × eH) :=
  fX14_readWord_b101 N k16 l0 l1 l2 (1 : Int32) h
theorem pX14_readWord_b96 {w : eW} {d : Nat} (hd : 8 ≤ d + 1) {N : Nat} {k16 : Nat → Int32 → Int32 → Int32 → eH → Option ((Unit ⊕ Nat) × eH)} (hk16 : ∀ l0 l1 l2 l3 h q, k16 l0 l1 l2 l3 h = some q → wp w (d + 1) YX14_readWord 16 [some (.ref l0), some (.int l1), some (.int l2), some (.int l3), none] [] h (e_is (e_rt c_V q))) {l0 : Nat} {l1 : Int32} {l2 : Int32} {h : eH} {q} (hf : fX14_readWord_b96 N k16 l0 l1 l2 h = some q) : wp w (d + 1) YX14_readWord 96 [some (.ref l0), some (.int l1), some (.int l2), none, none] [] h (e_is (e_rt c_V q)) := by
  unfold fX14_readWord_b96 at hf
  refine w_iconst dX14_readWord_96 (v := 1) (by decide) ?_
  refine w_goto 101 dX14_readWord_97 (by decide) ?_
  exact (pX14_readWord_b101 hd hk16 hf).to ⟨rfl, rfl, rfl, trivial⟩
def fX14_readWord_b80 (N : Nat) (k16 : Nat → Int32 → Int32 → Int32 → eH → Option ((Unit ⊕ Nat) × eH)) (l0 : Nat) (l1 : Int32) (l2 : Int32) (l4 : Int32) (s0 : Nat) (s1 : Int32) (s2 : Int32) (h : eH) : Option ((Unit ⊕ Nat) × eH) :=
  (p_V 13 h s0 6 (.int (s1 + s2))).bind fun h1 =>
  if ¬ l4 = 0 then
    fX14_readWord_b96 N k16 l0 l1 l2 h1
  else
    (k_ok 13 h1 l0).bind fun _ =>
    (fX14_isOver l0 h1).bind fun q5 =>
    if ¬ q5.1 = 0 then
      fX14_readWord_b101 N k16 l0 l1 l2 (0 : Int32) q5.2
    else
      fX14_readWord_b96 N k16 l0 l1 l2 q5.2
theorem pX14_readWord_b80 {w : eW} {d : Nat} (hd : 8 ≤ d + 1) {N : Nat} {k16 : Nat → Int32 → Int32 → Int32 → eH → Option ((Unit ⊕ Nat) × eH)} (hk16 : ∀ l0 l1 l2 l3 h q, k16 l0 l1 l2 l3 h = some q → wp w (d + 1) YX14_readWord 16 [some (.ref l0), some (.int l1), some (.int l2), some (.int l3), none] [] h (e_is (e_rt c_V q))) {l0 : Nat} {l1 : Int32} {l2 : Int32} {l4 : Int32} {s0 : Nat} {s1 : Int32} {s2 : Int32} {h : eH} {q} (hf : fX14_readWord_b80 N k16 l0 l1 l2 l4 s0 s1 s2 h = some q) : wp w (d + 1) YX14_readWord 80 [some (.ref l0), some (.int l1), some (.int l2), none, some (.int l4)] [.int s2, .int s1, .ref s0] h (e_is (e_rt c_V q)) := by
  unfold fX14_readWord_b80 at hf
  refine w_iadd dX14_readWord_80 ?_
  obtain ⟨h1, b2, hf⟩ := Option.bind_eq_some_iff.mp hf
  refine SX14_35 b2 dX14_readWord_81 rfl ?_
  refine w_iload dX14_readWord_84 rfl ?_
  refine w_if_ne 96 dX14_readWord_86 (by decide) (fun c3 => ?_) (fun c3 => ?_)
  · replace hf := (if_pos (show ¬ l4 = 0 from c3)).symm.trans hf
    exact (pX14_readWord_b96 hd hk16 hf).to ⟨rfl, rfl, rfl, trivial⟩
  · replace hf := (if_neg (show ¬ (¬ l4 = 0) from (fun z => z c3))).symm.trans hf
    refine w_aload_n dX14_readWord_89 rfl rfl ?_
    obtain ⟨_, b4, hf⟩ := Option.bind_eq_some_iff.mp hf
    refine x_cnI hf (e_stV (Yc := YX14_isOver) (ci := 13) (av := []) (st := []) dX14_readWord_90 q2349 mX14_isOver rfl (k_ok_some b4).1 (k_ok_some b4).2) mX14_isOver.2.2.1 mX14_isOver.2.2.2.2.1 (Nat.le_of_ble_eq_true rfl) (Nat.le_of_ble_eq_true rfl) (fun q hq => pX14_isOver (by omega) hq) (fun q5 hf => ?_)
    refine w_if_ne 100 dX14_readWord_93 (by decide) (fun c6 => ?_) (fun c6 => ?_)
    · replace hf := (if_pos (show ¬ q5.1 = 0 from c6)).symm.trans hf
      refine w_iconst dX14_readWord_100 (v := 0) (by decide) ?_
      exact (pX14_readWord_b101 hd hk16 hf).to ⟨rfl, rfl, rfl, trivial⟩
    · replace hf := (if_neg (show ¬ (¬ q5.1 = 0) from (fun z => z c6))).symm.trans hf
      exact (pX14_readWord_b96 hd hk16 hf).to ⟨rfl, rfl, rfl, trivial⟩
def fX14_readWord_b65 (N : Nat) (k16 : Nat → Int32 → Int32 → Int32 → eH → Option ((Unit ⊕ Nat) × eH)) (l0 : Nat) (l1 : Int32) (l2 : Int32) (l4 : Int32) (h : eH) : Option ((Unit ⊕ Nat) × eH) :=
  (g_I 13 h l0 6).bind fun x1 =>
  if l4 = 0 then
    fX14_readWord_b80 N k16 l0 l1 l2 l4 l0 x1 (0 : Int32) h
  else
    fX14_readWord_b80 N k16 l0 l1 l2 l4 l0 x1 (1 : Int32) h
theorem pX14_readWord_b65 {w : eW} {d : Nat} (hd : 8 ≤ d + 1) {N : Nat} {k16 : Nat → Int32 → Int32 → Int32 → eH → Option ((Unit ⊕ Nat) × eH)} (hk16 : ∀ l0 l1 l2 l3 h q, k16 l0 l1 l2 l3 h = some q → wp w (d + 1) YX14_readWord 16 [some (.ref l0), some (.int l1), some (.int l2), some (.int l3), none] [] h (e_is (e_rt c_V q))) {l0 : Nat} {l1 : Int32} {l2 : Int32} {l4 : Int32} {h : eH} {q} (hf : fX14_readWord_b65 N k16 l0 l1 l2 l4 h = some q) : wp w (d + 1) YX14_readWord 65 [some (.ref l0), some (.int l1), some (.int l2), none, some (.int l4)] [] h (e_is (e_rt c_V q)) := by
  unfold fX14_readWord_b65 at hf
  refine w_aload_n dX14_readWord_65 rfl rfl ?_
  refine w_dup dX14_readWord_66 rfl ?_
  obtain ⟨x1, b2, hf⟩ := Option.bind_eq_some_iff.mp hf
  refine GX14_35 b2 dX14_readWord_67 rfl ?_
  refine w_iload dX14_readWord_70 rfl ?_
  refine w_if_eq 79 dX14_readWord_72 (by decide) (fun c3 => ?_) (fun c3 => ?_)
  · replace hf := (if_pos (show l4 = 0 from c3)).symm.trans hf
    refine w_iconst dX14_readWord_79 (v := 0) (by decide) ?_
    exact (pX14_readWord_b80 hd hk16 hf).to ⟨rfl, rfl, rfl, rfl, trivial⟩
  · replace hf := (if_neg (show ¬ (l4 = 0) from c3)).symm.trans hf
    refine w_iconst dX14_readWord_75 (v := 1) (by decide) ?_
    refine w_goto 80 dX14_readWord_76 (by decide) ?_
    exact (pX14_readWord_b80 hd hk16 hf).to ⟨rfl, rfl, rfl, rfl, trivial⟩
def fX14_readWord_b42 (N : Nat) (k16 : Nat → Int32 → Int32 → Int32 → eH → Option ((Unit ⊕ Nat) × eH)) (l0 : Nat) (l1 : Int32) (l2 : Int32) (s0 : Int32) (h : eH) : Option ((Unit ⊕ Nat) × eH) :=
  if s0 = 0 then
    fX14_readWord_b65 N k16 l0 l1 l2 s0 h
  else
    (g_A 13 h l0 2).bind fun a2 =>
    (g_A 16 h a2 1).bind fun a4 =>
    (g_A 13 h l0 2).bind fun a6 =>
    (g_I 16 h a6 2).bind fun x8 =>
    (q_V 102 h a4 x8 (.int ((1 : Int32)).toInt8.toInt32)).bind fun h10 =>
    fX14_readWord_b65 N k16 l0 l1 l2 s0 h10
theorem pX14_readWord_b42 {w : eW} {d : Nat} (hd : 8 ≤ d + 1) {N : Nat} {k16 : Nat → Int32 → Int32 → Int32 → eH → Option ((Unit ⊕ Nat) × eH)} (hk16 : ∀ l0 l1 l2 l3 h q, k16 l0 l1 l2 l3 h = some q → wp w (d + 1) YX14_readWord 16 [some (.ref l0), some (.int l1), some (.int l2), some (.int l3), none] [] h (e_is (e_rt c_V q))) {l0 : Nat} {l1 : Int32} {l2 : Int32} {s0 : Int32} {h : eH} {q} (hf : fX14_readWord_b42 N k16 l0 l1 l2 s0 h = some q) : wp w (d + 1) YX14_readWord 42 [some (.ref l0), some (.int l1), some (.int l2), none, none] [.int s0] h (e_is (e_rt c_V q)) := by
  unfold fX14_readWord_b42 at hf
  refine w_istore dX14_readWord_42 (by decide) (ls' := [some (.ref l0), some (.int l1), some (.int l2), none, some (.int s0)]) rfl ?_
  refine w_iload dX14_readWord_44 rfl ?_
  refine w_if_eq 65 dX14_readWord_46 (by decide) (fun c1 => ?_) (fun c1 => ?_)
  · replace hf := (if_pos (show s0 = 0 from c1)).symm.trans hf
    exact (pX14_readWord_b65 hd hk16 hf).to ⟨rfl, rfl, rfl, rfl, trivial⟩
  · replace hf := (if_neg (show ¬ (s0 = 0) from c1)).symm.trans hf
    refine w_aload_n dX14_readWord_49 rfl rfl ?_
    obtain ⟨a2, b3, hf⟩ := Option.bind_eq_some_iff.mp hf
    refine GX14_28 b3 dX14_readWord_50 rfl ?_
    obtain ⟨a4, b5, hf⟩ := Option.bind_eq_some_iff.mp hf
    refine GX14_57 b5 dX14_readWord_53 rfl ?_
    refine w_aload_n dX14_readWord_56 rfl rfl ?_
    obtain ⟨a6, b7, hf⟩ := Option.bind_eq_some_iff.mp hf
    refine GX14_28 b7 dX14_readWord_57 rfl ?_
    obtain ⟨x8, b9, hf⟩ := Option.bind_eq_some_iff.mp hf
    refine GX14_60 b9 dX14_readWord_60 rfl ?_
    refine w_iconst dX14_readWord_63 (v := 1) (by decide) ?_
    obtain ⟨h10, b11, hf⟩ := Option.bind_eq_some_iff.mp hf
    refine x_qB b11 dX14_readWord_64 ?_
    exact (pX14_readWord_b65 hd hk16 hf).to ⟨rfl, rfl, rfl, rfl, trivial⟩
def fX14_readWord_b183 (N : Nat) (l0 : Nat) (l1 : Int32) (s0 : Nat) (s1 : Int32) (h : eH) : Option ((Unit ⊕ Nat) × eH) :=
  (k_ok 13 h s0).bind fun _ =>
  t_B (fX14_want s0 s1 (4 : Int32) l1 h) fun x2 h3 =>
  (g_A 13 h3 l0 1).bind fun a4 =>
  (g_A 13 h3 l0 2).bind fun a6 =>
  (k_ok 15 h3 a4).bind fun _ =>
  (fX16_add N a4 a6 h3).bind fun q9 =>
  some (.inl (), q9.2)
theorem pX14_readWord_b183 {w : eW} {d : Nat} (hd : 8 ≤ d + 1) {N : Nat} {l0 : Nat} {l1 : Int32} {s0 : Nat} {s1 : Int32} {h : eH} {q} (hf : fX14_readWord_b183 N l0 l1 s0 s1 h = some q) : wp w (d + 1) YX14_readWord 183 [some (.ref l0), some (.int l1), none, none, none] [.int s1, .ref s0] h (e_is (e_rt c_V q)) := by
  unfold fX14_readWord_b183 at hf
  refine w_iconst dX14_readWord_183 (v := 4) (by decide) ?_
  refine w_iload_n dX14_readWord_184 rfl rfl ?_
  obtain ⟨_, b1, hf⟩ := Option.bind_eq_some_iff.mp hf
  refine x_ctV hf (e_stV (Yc := YX14_want) (ci := 13) (av := [.int s1, .int (4 : Int32), .int l1]) (st := []) dX14_readWord_185 q2339 mX14_want rfl (k_ok_some b1).1 (k_ok_some b1).2) mX14_want.2.2.1 mX14_want.2.2.2.2.1 (Nat.le_of_ble_eq_true rfl) (Nat.le_of_ble_eq_true rfl) rfl (fun q hq => pX14_want (by omega) hq) (fun x2 h3 hf => ?_)
  refine w_aload_n dX14_readWord_188 rfl rfl ?_
  obtain ⟨a4, b5, hf⟩ := Option.bind_eq_some_iff.mp hf
  refine GX14_21 b5 dX14_readWord_189 rfl ?_
  refine w_aload_n dX14_readWord_192 rfl rfl ?_
  obtain ⟨a6, b7, hf⟩ := Option.bind_eq_some_iff.mp hf
  refine GX14_28 b7 dX14_readWord_193 rfl ?_
  obtain ⟨_, b8, hf⟩ := Option.bind_eq_some_iff.mp hf
  refine x_cnV hf (e_stV (Yc := YX16_add) (ci := 15) (av := [.ref a6]) (st := []) dX14_readWord_196 q2365 mX16_add rfl (k_ok_some b8).1 (k_ok_some b8).2) mX16_add.2.2.1 mX16_add.2.2.2.2.1 (Nat.le_of_ble_eq_true rfl) (Nat.le_of_ble_eq_true rfl) (fun q hq => pX16_add (by omega) hq) (fun q9 hf => ?_)
  cases hf
  exact w_vret dX14_readWord_199 rfl rfl
def fX14_readWord_b178 (N : Nat) (l0 : Nat) (l1 : Int32) (s0 : Nat) (h : eH) : Option ((Unit ⊕ Nat) × eH) :=
  fX14_readWord_b183 N l0 l1 s0 (1 : Int32) h
theorem pX14_readWord_b178 {w : eW} {d : Nat} (hd : 8 ≤ d + 1) {N : Nat} {l0 : Nat} {l1 : Int32} {s0 : Nat} {h : eH} {q} (hf : fX14_readWord_b178 N l0 l1 s0 h = some q) : wp w (d + 1) YX14_readWord 178 [some (.ref l0), some (.int l1), none, none, none] [.ref s0] h (e_is (e_rt c_V q)) := by
  unfold fX14_readWord_b178 at hf
  refine w_iconst dX14_readWord_178 (v := 1) (by decide) ?_
  refine w_goto 183 dX14_readWord_179 (by decide) ?_
  exact (pX14_readWord_b183 hd hf).to ⟨rfl, rfl, trivial⟩
def fX14_readWord_b182 (N : Nat) (l0 : Nat) (l1 : Int32) (s0 : Nat) (h : eH) : Option ((Unit ⊕ Nat) × eH) :=
  fX14_readWord_b183 N l0 l1 s0 (0 : Int32) h
theorem pX14_readWord_b182 {w : eW} {d : Nat} (hd : 8 ≤ d + 1) {N : Nat} {l0 : Nat} {l1 : Int32} {s0 : Nat} {h : eH} {q} (hf : fX14_readWord_b182 N l0 l1 s0 h = some q) : wp w (d + 1) YX14_readWord 182 [some (.ref l0), some (.int l1), none, none, none] [.ref s0] h (e_is (e_rt c_V q)) := by
  unfold fX14_readWord_b182 at hf
  refine w_iconst dX14_readWord_182 (v := 0) (by decide) ?_
  exact (pX14_readWord_b183 hd hf).to ⟨rfl, rfl, trivial⟩
def fX14_readWord_b142 (N : Nat) (l0 : Nat) (l1 : Int32) (l2 : Int32) (s0 : Int32) (h : eH) : Option ((Unit ⊕ Nat) × eH) :=
  if s0 = 0 then
    fX14_readWord_b178 N l0 l1 l0 h
  else
    (g_A 13 h l0 1).bind fun a2 =>
    (g_I 15 h a2 5).bind fun x4 =>
    if (300 : Int32) ≤ x4 then
      fX14_readWord_b182 N l0 l1 l0 h
    else
      (g_A 13 h l0 1).bind fun a7 =>
      (g_I 15 h a7 6).bind fun x9 =>
      if (8000 : Int32) < (x9 + l2) then
        fX14_readWord_b182 N l0 l1 l0 h
      else
        fX14_readWord_b178 N l0 l1 l0 h
theorem pX14_readWord_b142 {w : eW} {d : Nat} (hd : 8 ≤ d + 1) {N : Nat} {l0 : Nat} {l1 : Int32} {l2 : Int32} {s0 : Int32} {h : eH} {q} (hf : fX14_readWord_b142 N l0 l1 l2 s0 h = some q) : wp w (d + 1) YX14_readWord 142 [some (.ref l0), some (.int l1), some (.int l2), none, none] [.int s0] h (e_is (e_rt c_V q)) := by
  unfold fX14_readWord_b142 at hf
  refine w_istore dX14_readWord_142 (by decide) (ls' := [some (.ref l0), some (.int l1), some (.int l2), none, some (.int s0)]) rfl ?_
  refine w_aload_n dX14_readWord_144 rfl rfl ?_
  refine w_iload dX14_readWord_145 rfl ?_
  refine w_if_eq 178 dX14_readWord_147 (by decide) (fun c1 => ?_) (fun c1 => ?_)
  · replace hf := (if_pos (show s0 = 0 from c1)).symm.trans hf
    exact (pX14_readWord_b178 hd hf).to ⟨rfl, rfl, trivial⟩
  · replace hf := (if_neg (show ¬ (s0 = 0) from c1)).symm.trans hf
    refine w_aload_n dX14_readWord_150 rfl rfl ?_
    obtain ⟨a2, b3, hf⟩ := Option.bind_eq_some_iff.mp hf
    refine GX14_21 b3 dX14_readWord_151 rfl ?_
    obtain ⟨x4, b5, hf⟩ := Option.bind_eq_some_iff.mp hf
    refine GX14_107 b5 dX14_readWord_154 rfl ?_
    refine w_sipush dX14_readWord_157 (v := 300) (by decide) ?_
    refine w_icmp_ge 182 dX14_readWord_160 (by decide) (fun c6 => ?_) (fun c6 => ?_)
    · replace hf := (if_pos (show (300 : Int32) ≤ x4 from c6)).symm.trans hf
      exact (pX14_readWord_b182 hd hf).to ⟨rfl, rfl, trivial⟩
    · replace hf := (if_neg (show ¬ ((300 : Int32) ≤ x4) from c6)).symm.trans hf
      refine w_aload_n dX14_readWord_163 rfl rfl ?_
      obtain ⟨a7, b8, hf⟩ := Option.bind_eq_some_iff.mp hf
      refine GX14_21 b8 dX14_readWord_164 rfl ?_
      obtain ⟨x9, b10, hf⟩ := Option.bind_eq_some_iff.mp hf
      refine GX14_110 b10 dX14_readWord_167 rfl ?_
      refine w_iload_n dX14_readWord_170 rfl rfl ?_
      refine w_iadd dX14_readWord_171 ?_
      refine w_sipush dX14_readWord_172 (v := 8000) (by decide) ?_
      refine w_icmp_gt 182 dX14_readWord_175 (by decide) (fun c11 => ?_) (fun c11 => ?_)
      · replace hf := (if_pos (show (8000 : Int32) < (x9 + l2) from c11)).symm.trans hf
        exact (pX14_readWord_b182 hd hf).to ⟨rfl, rfl, trivial⟩
      · replace hf := (if_neg (show ¬ ((8000 : Int32) < (x9 + l2)) from c11)).symm.trans hf
        exact (pX14_readWord_b178 hd hf).to ⟨rfl, rfl, trivial⟩
def fX14_readWord_b117 (N : Nat) (l0 : Nat) (l1 : Int32) (l2 : Int32) (s0 : Nat) (s1 : Int32) (h : eH) : Option ((Unit ⊕ Nat) × eH) :=
  (k_ok 13 h s0).bind fun _ =>
  t_B (fX14_want s0 s1 (2 : Int32) l1 h) fun x2 h3 =>
  (g_A 13 h3 l0 1).bind fun a4 =>
  (g_A 13 h3 l0 2).bind fun a6 =>
  (k_ok 15 h3 a4).bind fun _ =>
  (fX16_find N a4 a6 h3).bind fun q9 =>
  if ¬ q9.1 = (-1 : Int32) then
    fX14_readWord_b142 N l0 l1 l2 (0 : Int32) q9.2
  else
    fX14_readWord_b142 N l0 l1 l2 (1 : Int32) q9.2
theorem pX14_readWord_b117 {w : eW} {d : Nat} (hd : 8 ≤ d + 1) {N : Nat} {l0 : Nat} {l1 : Int32} {l2 : Int32} {s0 : Nat} {s1 : Int32} {h : eH} {q} (hf : fX14_readWord_b117 N l0 l1 l2 s0 s1 h = some q) : wp w (d + 1) YX14_readWord 117 [some (.ref l0), some (.int l1), some (.int l2), none, none] [.int s1, .ref s0] h (e_is (e_rt c_V q)) := by
  unfold fX14_readWord_b117 at hf
  refine w_iconst dX14_readWord_117 (v := 2) (by decide) ?_
  refine w_iload_n dX14_readWord_118 rfl rfl ?_
  obtain ⟨_, b1, hf⟩ := Option.bind_eq_some_iff.mp hf
  refine x_ctV hf (e_stV (Yc := YX14_want) (ci := 13) (av := [.int s1, .int (2 : Int32), .int l1]) (st := []) dX14_readWord_119 q2339 mX14_want rfl (k_ok_some b1).1 (k_ok_some b1).2) mX14_want.2.2.1 mX14_want.2.2.2.2.1 (Nat.le_of_ble_eq_true rfl) (Nat.le_of_ble_eq_true rfl) rfl (fun q hq => pX14_want (by omega) hq) (fun x2 h3 hf => ?_)
  refine w_aload_n dX14_readWord_122 rfl rfl ?_
  obtain ⟨a4, b5, hf⟩ := Option.bind_eq_some_iff.mp hf
  refine GX14_21 b5 dX14_readWord_123 rfl ?_
  refine w_aload_n dX14_readWord_126 rfl rfl ?_
  obtain ⟨a6, b7, hf⟩ := Option.bind_eq_some_iff.mp hf
  refine GX14_28 b7 dX14_readWord_127 rfl ?_
  obtain ⟨_, b8, hf⟩ := Option.bind_eq_some_iff.mp hf
  refine x_cnI hf (e_stV (Yc := YX16_find) (ci := 15) (av := [.ref a6]) (st := []) dX14_readWord_130 q2353 mX16_find rfl (k_ok_some b8).1 (k_ok_some b8).2) mX16_find.2.2.1 mX16_find.2.2.2.2.1 (Nat.le_of_ble_eq_true rfl) (Nat.le_of_ble_eq_true rfl) (fun q hq => pX16_find (by omega) hq) (fun q9 hf => ?_)
  refine w_iconst dX14_readWord_133 (v := -1) (by decide) ?_
  refine w_icmp_ne 141 dX14_readWord_134 (by decide) (fun c10 => ?_) (fun c10 => ?_)
  · replace hf := (if_pos (show ¬ q9.1 = (-1 : Int32) from c10)).symm.trans hf
    refine w_iconst dX14_readWord_141 (v := 0) (by decide) ?_
    exact (pX14_readWord_b142 hd hf).to ⟨rfl, rfl, rfl, trivial⟩
  · replace hf := (if_neg (show ¬ (¬ q9.1 = (-1 : Int32)) from (fun z => z c10))).symm.trans hf
    refine w_iconst dX14_readWord_137 (v := 1) (by decide) ?_
    refine w_goto 142 dX14_readWord_138 (by decide) ?_
    exact (pX14_readWord_b142 hd hf).to ⟨rfl, rfl, rfl, trivial⟩
def fX14_readWord_b16 (N : Nat) : Nat → Nat → Int32 → Int32 → Int32 → eH → Option ((Unit ⊕ Nat) × eH)
  | 0, _, _, _, _, _ => none
  | n + 1, l0, l1, l2, l3, h =>
    if l3 = 0 then
      if (63 : Int32) < l2 then
        fX14_readWord_b117 N l0 l1 l2 l0 (0 : Int32) h
      else
        fX14_readWord_b117 N l0 l1 l2 l0 (1 : Int32) h
    else
      (k_ok 13 h l0).bind fun _ =>
      t_B (fX14_readLetter l0 (l2 + (1 : Int32)) h) fun x4 h5 =>
      (k_ok 13 h5 l0).bind fun _ =>
      (fX14_next l0 h5).bind fun q7 =>
      if ¬ q7.1 = (45 : Int32) then
        fX14_readWord_b42 N (fX14_readWord_b16 N n) l0 l1 (l2 + (1 : Int32)) (0 : Int32) q7.2
      else
        fX14_readWord_b42 N (fX14_readWord_b16 N n) l0 l1 (l2 + (1 : Int32)) (1 : Int32) q7.2
theorem pX14_readWord_b16 {w : eW} {d : Nat} (hd : 8 ≤ d + 1) {N : Nat} : ∀ (n : Nat) l0 l1 l2 l3 h q, fX14_readWord_b16 N n l0 l1 l2 l3 h = some q → wp w (d + 1) YX14_readWord 16 [some (.ref l0), some (.int l1), some (.int l2), some (.int l3), none] [] h (e_is (e_rt c_V q)) := by
  intro n
  induction n with
  | zero => intro l0 l1 l2 l3 h q hf; simp [fX14_readWord_b16] at hf
  | succ n ih =>
    intro l0 l1 l2 l3 h q hf
    rw [fX14_readWord_b16] at hf
    refine w_iload_n dX14_readWord_16 rfl rfl ?_
    refine w_if_eq 105 dX14_readWord_17 (by decide) (fun c1 => ?_) (fun c1 => ?_)
    · replace hf := (if_pos (show l3 = 0 from c1)).symm.trans hf
      refine w_aload_n dX14_readWord_105 rfl rfl ?_
      refine w_iload_n dX14_readWord_106 rfl rfl ?_
      refine w_bipush dX14_readWord_107 (v := 63) (by decide) ?_
      refine w_icmp_gt 116 dX14_readWord_109 (by decide) (fun c2 => ?_) (fun c2 => ?_)
      · replace hf := (if_pos (show (63 : Int32) < l2 from c2)).symm.trans hf
        refine w_iconst dX14_readWord_116 (v := 0) (by decide) ?_
        exact (pX14_readWord_b117 hd hf).to ⟨rfl, rfl, rfl, trivial⟩
      · replace hf := (if_neg (show ¬ ((63 : Int32) < l2) from c2)).symm.trans hf
        refine w_iconst dX14_readWord_112 (v := 1) (by decide) ?_
        refine w_goto 117 dX14_readWord_113 (by decide) ?_
        exact (pX14_readWord_b117 hd hf).to ⟨rfl, rfl, rfl, trivial⟩
    · replace hf := (if_neg (show ¬ (l3 = 0) from c1)).symm.trans hf
      refine w_iinc dX14_readWord_20 (v := (l2 + (1 : Int32))) rfl rfl (by decide) (ls' := [some (.ref l0), some (.int l1), some (.int (l2 + (1 : Int32))), some (.int l3), none]) rfl ?_
      refine w_aload_n dX14_readWord_23 rfl rfl ?_
      refine w_iload_n dX14_readWord_24 rfl rfl ?_
      obtain ⟨_, b3, hf⟩ := Option.bind_eq_some_iff.mp hf
      refine x_ctV hf (e_stV (Yc := YX14_readLetter) (ci := 13) (av := [.int (l2 + (1 : Int32))]) (st := []) dX14_readWord_25 q2332 mX14_readLetter rfl (k_ok_some b3).1 (k_ok_some b3).2) mX14_readLetter.2.2.1 mX14_readLetter.2.2.2.2.1 (Nat.le_of_ble_eq_true rfl) (Nat.le_of_ble_eq_true rfl) rfl (fun q hq => pX14_readLetter (by omega) hq) (fun x4 h5 hf => ?_)
      refine w_aload_n dX14_readWord_28 rfl rfl ?_
      obtain ⟨_, b6, hf⟩ := Option.bind_eq_some_iff.mp hf
      refine x_cnI hf (e_stV (Yc := YX14_next) (ci := 13) (av := []) (st := []) dX14_readWord_29 q2320 mX14_next rfl (k_ok_some b6).1 (k_ok_some b6).2) mX14_next.2.2.1 mX14_next.2.2.2.2.1 (Nat.le_of_ble_eq_true rfl) (Nat.le_of_ble_eq_true rfl) (fun q hq => pX14_next (by omega) hq) (fun q7 hf => ?_)
      refine w_bipush dX14_readWord_32 (v := 45) (by decide) ?_
      refine w_icmp_ne 41 dX14_readWord_34 (by decide) (fun c8 => ?_) (fun c8 => ?_)
      · replace hf := (if_pos (show ¬ q7.1 = (45 : Int32) from c8)).symm.trans hf
        refine w_iconst dX14_readWord_41 (v := 0) (by decide) ?_
        exact (pX14_readWord_b42 hd ih hf).to ⟨rfl, rfl, rfl, trivial⟩
      · replace hf := (if_neg (show ¬ (¬ q7.1 = (45 : Int32)) from (fun z => z c8))).symm.trans hf
        refine w_iconst dX14_readWord_37 (v := 1) (by decide) ?_
        refine w_goto 42 dX14_readWord_38 (by decide) ?_
        exact (pX14_readWord_b42 hd ih hf).to ⟨rfl, rfl, rfl, trivial⟩
def fX14_readWord (N : Nat) (this : Nat) (h : eH) : Option ((Unit ⊕ Nat) × eH) :=
  (g_I 13 h this 6).bind fun x1 =>
  (g_A 13 h this 2).bind fun a3 =>
  (k_ok 16 h a3).bind fun _ =>
  (fX17_clear a3 h).bind fun q6 =>
  fX14_readWord_b16 N N this x1 (0 : Int32) (1 : Int32) q6.2
theorem pX14_readWord {w : eW} {d : Nat} (hd : 8 ≤ d) {N : Nat} {this : Nat} {h : eH} {q} (hf : fX14_readWord N this h = some q) : wm w d YX14_readWord [.ref this] h (e_is (e_rt c_V q)) := by
  obtain ⟨d, rfl⟩ : ∃ e, d = e + 1 := ⟨d - 1, by omega⟩
  show wp w (d + 1) YX14_readWord 0 [some (.ref this), none, none, none, none] [] h _
  unfold fX14_readWord at hf
  refine w_aload_n dX14_readWord_0 rfl rfl ?_
  obtain ⟨x1, b2, hf⟩ := Option.bind_eq_some_iff.mp hf
  refine GX14_35 b2 dX14_readWord_1 rfl ?_
  refine w_istore_n dX14_readWord_4 rfl (by decide) (ls' := [some (.ref this), some (.int x1), none, none, none]) rfl ?_
  refine w_aload_n dX14_readWord_5 rfl rfl ?_
  obtain ⟨a3, b4, hf⟩ := Option.bind_eq_some_iff.mp hf
  refine GX14_28 b4 dX14_readWord_6 rfl ?_
  obtain ⟨_, b5, hf⟩ := Option.bind_eq_some_iff.mp hf
  refine x_cnV hf (e_stV (Yc := YX17_clear) (ci := 16) (av := []) (st := []) dX14_readWord_9 q2328 mX17_clear rfl (k_ok_some b5).1 (k_ok_some b5).2) mX17_clear.2.2.1 mX17_clear.2.2.2.2.1 (Nat.le_of_ble_eq_true rfl) (Nat.le_of_ble_eq_true rfl) (fun q hq => pX17_clear (by omega) hq) (fun q6 hf => ?_)
  refine w_iconst dX14_readWord_12 (v := 0) (by decide) ?_
  refine w_istore_n dX14_readWord_13 rfl (by decide) (ls' := [some (.ref this), some (.int x1), some (.int (0 : Int32)), none, none]) rfl ?_
  refine w_iconst dX14_readWord_14 (v := 1) (by decide) ?_
  refine w_istore_n dX14_readWord_15 rfl (by decide) (ls' := [some (.ref this), some (.int x1), some (.int (0 : Int32)), some (.int (1 : Int32)), none]) rfl ?_
  exact (pX14_readWord_b16 hd N _ _ _ _ _ _ hf).to ⟨rfl, rfl, rfl, rfl, trivial⟩
abbrev cX14_isDigit : ByteArray := prog_10_method_3_code
def yX14_isDigit : MethodName := ⟨RX14, "isDigit", "(I)Z"⟩
def YX14_isDigit : eY := (yX14_isDigit, cX14_isDigit, 1, (Option.some FieldType.boolean), [])
theorem mX14_isDigit : e_ms YX14_isDigit 1 := ⟨q2375, q439, q2376, by decide, by decide +kernel, (e_sig (by decide +kernel))⟩
theorem dX14_isDigit_0 : decode cX14_isDigit 0 = .ok (.iload_n 0, 1) := dc_26 (by decide +kernel)
theorem dX14_isDigit_1 : decode cX14_isDigit 1 = .ok (.bipush 48, 2) := dc_16 (a := 48) (v := 48) (by decide +kernel)
theorem dX14_isDigit_3 : decode cX14_isDigit 3 = .ok (.if_icmp .lt 13, 3) := dc_161 (a := 0) (b := 13) (v := 13) (by decide +kernel)
theorem dX14_isDigit_6 : decode cX14_isDigit 6 = .ok (.iload_n 0, 1) := dc_26 (by decide +kernel)
theorem dX14_isDigit_7 : decode cX14_isDigit 7 = .ok (.bipush 57, 2) := dc_16 (a := 57) (v := 57) (by decide +kernel)
theorem dX14_isDigit_9 : decode cX14_isDigit 9 = .ok (.if_icmp .gt 7, 3) := dc_163 (a := 0) (b := 7) (v := 7) (by decide +kernel)
theorem dX14_isDigit_12 : decode cX14_isDigit 12 = .ok (.iconst 1, 1) := dc_4 (by decide +kernel)
theorem dX14_isDigit_13 : decode cX14_isDigit 13 = .ok (.goto 4, 3) := dc_167 (a := 0) (b := 4) (v := 4) (by decide +kernel)
theorem dX14_isDigit_16 : decode cX14_isDigit 16 = .ok (.iconst 0, 1) := dc_3 (by decide +kernel)
theorem dX14_isDigit_17 : decode cX14_isDigit 17 = .ok (.ireturn, 1) := dc_172 (by decide +kernel)
def fX14_isDigit_b17 (s0 : Int32) (h : eH) : Option (Int32 × eH) :=
  z_r s0 (s0, h)
theorem pX14_isDigit_b17 {w : eW} {d : Nat} (hd : 0 ≤ d) {s0 : Int32} {h : eH} {q} (hf : fX14_isDigit_b17 s0 h = some q) : wp w d YX14_isDigit 17 [none] [.int s0] h (e_is (e_rn c_I q)) := by
  unfold fX14_isDigit_b17 at hf
  obtain ⟨b1, rfl⟩ := z_r_some hf
  exact w_iret dX14_isDigit_17 rfl b1 rfl
def fX14_isDigit_b16  (h : eH) : Option (Int32 × eH) :=
  fX14_isDigit_b17 (0 : Int32) h
theorem pX14_isDigit_b16 {w : eW} {d : Nat} (hd : 0 ≤ d)  {h : eH} {q} (hf : fX14_isDigit_b16  h = some q) : wp w d YX14_isDigit 16 [none] [] h (e_is (e_rn c_I q)) := by
  unfold fX14_isDigit_b16 at hf
  refine w_iconst dX14_isDigit_16 (v := 0) (by decide) ?_
  exact (pX14_isDigit_b17 hd hf).to trivial
def fX14_isDigit (p0 : Int32) (h : eH) : Option (Int32 × eH) :=
  if p0 < (48 : Int32) then
    fX14_isDigit_b16 h
  else
    if (57 : Int32) < p0 then
      fX14_isDigit_b16 h
    else
      fX14_isDigit_b17 (1 : Int32) h
theorem pX14_isDigit {w : eW} {d : Nat} (hd : 0 ≤ d) {p0 : Int32} {h : eH} {q} (hf : fX14_isDigit p0 h = some q) : wm w d YX14_isDigit [.int p0] h (e_is (e_rn c_I q)) := by
  show wp w d YX14_isDigit 0 [some (.int p0)] [] h _
  unfold fX14_isDigit at hf
  refine w_iload_n dX14_isDigit_0 rfl rfl ?_
  refine w_bipush dX14_isDigit_1 (v := 48) (by decide) ?_
  refine w_icmp_lt 16 dX14_isDigit_3 (by decide) (fun c1 => ?_) (fun c1 => ?_)
  · replace hf := (if_pos (show p0 < (48 : Int32) from c1)).symm.trans hf
    exact (pX14_isDigit_b16 hd hf).to trivial
  · replace hf := (if_neg (show ¬ (p0 < (48 : Int32)) from c1)).symm.trans hf
    refine w_iload_n dX14_isDigit_6 rfl rfl ?_
    refine w_bipush dX14_isDigit_7 (v := 57) (by decide) ?_
    refine w_icmp_gt 16 dX14_isDigit_9 (by decide) (fun c2 => ?_) (fun c2 => ?_)
    · replace hf := (if_pos (show (57 : Int32) < p0 from c2)).symm.trans hf
      exact (pX14_isDigit_b16 hd hf).to trivial
    · replace hf := (if_neg (show ¬ ((57 : Int32) < p0) from c2)).symm.trans hf
      refine w_iconst dX14_isDigit_12 (v := 1) (by decide) ?_
      refine w_goto 17 dX14_isDigit_13 (by decide) ?_
      exact (pX14_isDigit_b17 hd hf).to trivial
abbrev cX14_number : ByteArray := prog_10_method_7_code
def yX14_number : MethodName := ⟨RX14, "number", "()V"⟩
def YX14_number : eY := (yX14_number, cX14_number, 1, none, [])
theorem mX14_number : e_mv YX14_number RX14 0 := ⟨q2379, qs39, q2380, by decide, by decide +kernel, (e_sig (by decide +kernel))⟩
theorem dX14_number_0 : decode cX14_number 0 = .ok (.aload_n 0, 1) := dc_42 (by decide +kernel)
theorem dX14_number_1 : decode cX14_number 1 = .ok (.getfield 28, 3) := dc_180 (a := 0) (b := 28) (n := 28) (by decide +kernel)
theorem dX14_number_4 : decode cX14_number 4 = .ok (.getfield 57, 3) := dc_180 (a := 0) (b := 57) (n := 57) (by decide +kernel)
theorem dX14_number_7 : decode cX14_number 7 = .ok (.aload_n 0, 1) := dc_42 (by decide +kernel)
theorem dX14_number_8 : decode cX14_number 8 = .ok (.getfield 28, 3) := dc_180 (a := 0) (b := 28) (n := 28) (by decide +kernel)
theorem dX14_number_11 : decode cX14_number 11 = .ok (.getfield 60, 3) := dc_180 (a := 0) (b := 60) (n := 60) (by decide +kernel)
theorem dX14_number_14 : decode cX14_number 14 = .ok (.aload_n 0, 1) := dc_42 (by decide +kernel)
theorem dX14_number_15 : decode cX14_number 15 = .ok (.invokevirtual 53, 3) := dc_182 (a := 0) (b := 53) (n := 53) (by decide +kernel)
theorem dX14_number_18 : decode cX14_number 18 = .ok (.bipush 48, 2) := dc_16 (a := 48) (v := 48) (by decide +kernel)
theorem dX14_number_20 : decode cX14_number 20 = .ok (.isub, 1) := dc_100 (by decide +kernel)
theorem dX14_number_21 : decode cX14_number 21 = .ok (.i2b, 1) := dc_145 (by decide +kernel)
theorem dX14_number_22 : decode cX14_number 22 = .ok (.bastore, 1) := dc_84 (by decide +kernel)
theorem dX14_number_23 : decode cX14_number 23 = .ok (.aload_n 0, 1) := dc_42 (by decide +kernel)
theorem dX14_number_24 : decode cX14_number 24 = .ok (.dup, 1) := dc_89 (by decide +kernel)
theorem dX14_number_25 : decode cX14_number 25 = .ok (.getfield 35, 3) := dc_180 (a := 0) (b := 35) (n := 35) (by decide +kernel)
theorem dX14_number_28 : decode cX14_number 28 = .ok (.iconst 1, 1) := dc_4 (by decide +kernel)
theorem dX14_number_29 : decode cX14_number 29 = .ok (.iadd, 1) := dc_96 (by decide +kernel)
theorem dX14_number_30 : decode cX14_number 30 = .ok (.putfield 35, 3) := dc_181 (a := 0) (b := 35) (n := 35) (by decide +kernel)
theorem dX14_number_33 : decode cX14_number 33 = .ok (.return_, 1) := dc_177 (by decide +kernel)
def fX14_number (this : Nat) (h : eH) : Option (Unit × eH) :=
  (g_A 13 h this 2).bind fun a1 =>
  (g_A 16 h a1 1).bind fun a3 =>
  (g_A 13 h this 2).bind fun a5 =>
  (g_I 16 h a5 2).bind fun x7 =>
  (k_ok 13 h this).bind fun _ =>
  (fX14_next this h).bind fun q10 =>
  (q_V 102 q10.2 a3 x7 (.int (((q10.1 - (48 : Int32))).toInt8.toInt32).toInt8.toInt32)).bind fun h11 =>
  (g_I 13 h11 this 6).bind fun x13 =>
  (p_V 13 h11 this 6 (.int (x13 + (1 : Int32)))).bind fun h15 =>
  some ((), h15)
theorem pX14_number {w : eW} {d : Nat} (hd : 1 ≤ d) {this : Nat} {h : eH} {q} (hf : fX14_number this h = some q) : wm w d YX14_number [.ref this] h (e_is (e_rn c_V q)) := by
  obtain ⟨d, rfl⟩ : ∃ e, d = e + 1 := ⟨d - 1, by omega⟩
  show wp w (d + 1) YX14_number 0 [some (.ref this)] [] h _
  unfold fX14_number at hf
  refine w_aload_n dX14_number_0 rfl rfl ?_
  obtain ⟨a1, b2, hf⟩ := Option.bind_eq_some_iff.mp hf
  refine GX14_28 b2 dX14_number_1 rfl ?_
  obtain ⟨a3, b4, hf⟩ := Option.bind_eq_some_iff.mp hf
  refine GX14_57 b4 dX14_number_4 rfl ?_
  refine w_aload_n dX14_number_7 rfl rfl ?_
  obtain ⟨a5, b6, hf⟩ := Option.bind_eq_some_iff.mp hf
  refine GX14_28 b6 dX14_number_8 rfl ?_
  obtain ⟨x7, b8, hf⟩ := Option.bind_eq_some_iff.mp hf
  refine GX14_60 b8 dX14_number_11 rfl ?_
  refine w_aload_n dX14_number_14 rfl rfl ?_
  obtain ⟨_, b9, hf⟩ := Option.bind_eq_some_iff.mp hf
  refine x_cnI hf (e_stV (Yc := YX14_next) (ci := 13) (av := []) (st := [.int x7, .ref a3]) dX14_number_15 q2320 mX14_next rfl (k_ok_some b9).1 (k_ok_some b9).2) mX14_next.2.2.1 mX14_next.2.2.2.2.1 (Nat.le_of_ble_eq_true rfl) (Nat.le_of_ble_eq_true rfl) (fun q hq => pX14_next (by omega) hq) (fun q10 hf => ?_)
  refine w_bipush dX14_number_18 (v := 48) (by decide) ?_
  refine w_isub dX14_number_20 ?_
  refine w_i2b dX14_number_21 ?_
  obtain ⟨h11, b12, hf⟩ := Option.bind_eq_some_iff.mp hf
  refine x_qB b12 dX14_number_22 ?_
  refine w_aload_n dX14_number_23 rfl rfl ?_
  refine w_dup dX14_number_24 rfl ?_
  obtain ⟨x13, b14, hf⟩ := Option.bind_eq_some_iff.mp hf
  refine GX14_35 b14 dX14_number_25 rfl ?_
  refine w_iconst dX14_number_28 (v := 1) (by decide) ?_
  refine w_iadd dX14_number_29 ?_
  obtain ⟨h15, b16, hf⟩ := Option.bind_eq_some_iff.mp hf
  refine SX14_35 b16 dX14_number_30 rfl ?_
  cases hf
  exact w_vret dX14_number_33 rfl rfl
abbrev cX15_child : ByteArray := prog_33_method_4_code
def yX15_child : MethodName := ⟨RX15, "child", "(II)I"⟩
def YX15_child : eY := (yX15_child, cX15_child, 4, (Option.some FieldType.int), [])
theorem mX15_child : e_mv YX15_child RX15 2 := ⟨q2387, qs40, q2388, by decide, by decide +kernel, (e_sig (by decide +kernel))⟩
theorem dX15_child_0 : decode cX15_child 0 = .ok (.aload_n 0, 1) := dc_42 (by decide +kernel)
theorem dX15_child_1 : decode cX15_child 1 = .ok (.getfield 9, 3) := dc_180 (a := 0) (b := 9) (n := 9) (by decide +kernel)
theorem dX15_child_4 : decode cX15_child 4 = .ok (.iload_n 1, 1) := dc_27 (by decide +kernel)
theorem dX15_child_5 : decode cX15_child 5 = .ok (.iaload, 1) := dc_46 (by decide +kernel)
theorem dX15_child_6 : decode cX15_child 6 = .ok (.istore_n 3, 1) := dc_62 (by decide +kernel)
theorem dX15_child_7 : decode cX15_child 7 = .ok (.iload_n 3, 1) := dc_29 (by decide +kernel)
theorem dX15_child_8 : decode cX15_child 8 = .ok (.iconst (-1), 1) := dc_2 (by decide +kernel)
theorem dX15_child_9 : decode cX15_child 9 = .ok (.if_icmp .eq 23, 3) := dc_159 (a := 0) (b := 23) (v := 23) (by decide +kernel)
theorem dX15_child_12 : decode cX15_child 12 = .ok (.aload_n 0, 1) := dc_42 (by decide +kernel)
theorem dX15_child_13 : decode cX15_child 13 = .ok (.getfield 18, 3) := dc_180 (a := 0) (b := 18) (n := 18) (by decide +kernel)
theorem dX15_child_16 : decode cX15_child 16 = .ok (.iload_n 3, 1) := dc_29 (by decide +kernel)
theorem dX15_child_17 : decode cX15_child 17 = .ok (.baload, 1) := dc_51 (by decide +kernel)
theorem dX15_child_18 : decode cX15_child 18 = .ok (.iload_n 2, 1) := dc_28 (by decide +kernel)
theorem dX15_child_19 : decode cX15_child 19 = .ok (.if_icmp .eq 13, 3) := dc_159 (a := 0) (b := 13) (v := 13) (by decide +kernel)
theorem dX15_child_22 : decode cX15_child 22 = .ok (.aload_n 0, 1) := dc_42 (by decide +kernel)
theorem dX15_child_23 : decode cX15_child 23 = .ok (.getfield 15, 3) := dc_180 (a := 0) (b := 15) (n := 15) (by decide +kernel)
theorem dX15_child_26 : decode cX15_child 26 = .ok (.iload_n 3, 1) := dc_29 (by decide +kernel)
theorem dX15_child_27 : decode cX15_child 27 = .ok (.iaload, 1) := dc_46 (by decide +kernel)
theorem dX15_child_28 : decode cX15_child 28 = .ok (.istore_n 3, 1) := dc_62 (by decide +kernel)
theorem dX15_child_29 : decode cX15_child 29 = .ok (.goto (-22), 3) := dc_167 (a := 255) (b := 234) (v := -22) (by decide +kernel)
theorem dX15_child_32 : decode cX15_child 32 = .ok (.iload_n 3, 1) := dc_29 (by decide +kernel)
theorem dX15_child_33 : decode cX15_child 33 = .ok (.ireturn, 1) := dc_172 (by decide +kernel)
def fX15_child_b32 (N : Nat) (l3 : Int32) (h : eH) : Option (Int32 × eH) :=
  some (l3, h)
theorem pX15_child_b32 {w : eW} {d : Nat} (hd : 0 ≤ d) {N : Nat} {l3 : Int32} {h : eH} {q} (hf : fX15_child_b32 N l3 h = some q) : wp w d YX15_child 32 [none, none, none, some (.int l3)] [] h (e_is (e_rn c_I q)) := by
  unfold fX15_child_b32 at hf
  refine w_iload_n dX15_child_32 rfl rfl ?_
  cases hf
  exact w_iret dX15_child_33 rfl rfl rfl
def fX15_child_b7 (N : Nat) : Nat → Nat → Int32 → Int32 → eH → Option (Int32 × eH)
  | 0, _, _, _, _ => none
  | n + 1, l0, l2, l3, h =>
    if l3 = (-1 : Int32) then
      fX15_child_b32 N l3 h
    else
      (g_A 14 h l0 2).bind fun a2 =>
      (r_I 102 h a2 l3).bind fun x4 =>
      if x4 = l2 then
        fX15_child_b32 N l3 h
      else
        (g_A 14 h l0 1).bind fun a7 =>
        (r_I 100 h a7 l3).bind fun x9 =>
        fX15_child_b7 N n l0 l2 x9 h
theorem pX15_child_b7 {w : eW} {d : Nat} (hd : 0 ≤ d) {N : Nat} : ∀ (n : Nat) l0 l2 l3 h q, fX15_child_b7 N n l0 l2 l3 h = some q → wp w d YX15_child 7 [some (.ref l0), none, some (.int l2), some (.int l3)] [] h (e_is (e_rn c_I q)) := by
  intro n
  induction n with
  | zero => intro l0 l2 l3 h q hf; simp [fX15_child_b7] at hf
  | succ n ih =>
    intro l0 l2 l3 h q hf
    rw [fX15_child_b7] at hf
    refine w_iload_n dX15_child_7 rfl rfl ?_
    refine w_iconst dX15_child_8 (v := -1) (by decide) ?_
    refine w_icmp_eq 32 dX15_child_9 (by decide) (fun c1 => ?_) (fun c1 => ?_)
    · replace hf := (if_pos (show l3 = (-1 : Int32) from c1)).symm.trans hf
      exact (pX15_child_b32 hd hf).to ⟨rfl, trivial⟩
    · replace hf := (if_neg (show ¬ (l3 = (-1 : Int32)) from c1)).symm.trans hf
      refine w_aload_n dX15_child_12 rfl rfl ?_
      obtain ⟨a2, b3, hf⟩ := Option.bind_eq_some_iff.mp hf
      refine GX15_18 b3 dX15_child_13 rfl ?_
      refine w_iload_n dX15_child_16 rfl rfl ?_
      obtain ⟨x4, b5, hf⟩ := Option.bind_eq_some_iff.mp hf
      refine x_rB b5 dX15_child_17 ?_
      refine w_iload_n dX15_child_18 rfl rfl ?_
      refine w_icmp_eq 32 dX15_child_19 (by decide) (fun c6 => ?_) (fun c6 => ?_)
      · replace hf := (if_pos (show x4 = l2 from c6)).symm.trans hf
        exact (pX15_child_b32 hd hf).to ⟨rfl, trivial⟩
      · replace hf := (if_neg (show ¬ (x4 = l2) from c6)).symm.trans hf
        refine w_aload_n dX15_child_22 rfl rfl ?_
        obtain ⟨a7, b8, hf⟩ := Option.bind_eq_some_iff.mp hf
        refine GX15_15 b8 dX15_child_23 rfl ?_
        refine w_iload_n dX15_child_26 rfl rfl ?_
        obtain ⟨x9, b10, hf⟩ := Option.bind_eq_some_iff.mp hf
        refine x_rI b10 dX15_child_27 ?_
        refine w_istore_n dX15_child_28 rfl (by decide) (ls' := [some (.ref l0), none, some (.int l2), some (.int x9)]) rfl ?_
        refine w_goto 7 dX15_child_29 (by decide) ?_
        exact (ih _ _ _ _ _ hf).to ⟨rfl, rfl, rfl, trivial⟩
def fX15_child (N : Nat) (this : Nat) (p0 : Int32) (p1 : Int32) (h : eH) : Option (Int32 × eH) :=
  (g_A 14 h this 0).bind fun a1 =>
  (r_I 100 h a1 p0).bind fun x3 =>
  fX15_child_b7 N N this p1 x3 h
theorem pX15_child {w : eW} {d : Nat} (hd : 0 ≤ d) {N : Nat} {this : Nat} {p0 : Int32} {p1 : Int32} {h : eH} {q} (hf : fX15_child N this p0 p1 h = some q) : wm w d YX15_child [.ref this, .int p0, .int p1] h (e_is (e_rn c_I q)) := by
  show wp w d YX15_child 0 [some (.ref this), some (.int p0), some (.int p1), none] [] h _
  unfold fX15_child at hf
  refine w_aload_n dX15_child_0 rfl rfl ?_
  obtain ⟨a1, b2, hf⟩ := Option.bind_eq_some_iff.mp hf
  refine GX15_9 b2 dX15_child_1 rfl ?_
  refine w_iload_n dX15_child_4 rfl rfl ?_
  obtain ⟨x3, b4, hf⟩ := Option.bind_eq_some_iff.mp hf
  refine x_rI b4 dX15_child_5 ?_
  refine w_istore_n dX15_child_6 rfl (by decide) (ls' := [some (.ref this), some (.int p0), some (.int p1), some (.int x3)]) rfl ?_
  exact (pX15_child_b7 hd N _ _ _ _ _ hf).to ⟨rfl, rfl, rfl, trivial⟩
abbrev cX15_has : ByteArray := prog_33_method_5_code
def yX15_has : MethodName := ⟨RX15, "has", "(LTypeHouse$Letters;)Z"⟩
def YX15_has : eY := (yX15_has, cX15_has, 4, (Option.some FieldType.boolean), [])
theorem mX15_has : e_mv YX15_has RX15 1 := ⟨q2382, q2383, q2384, by decide, by decide +kernel, (e_sig (by decide +kernel))⟩
theorem dX15_has_0 : decode cX15_has 0 = .ok (.iconst 0, 1) := dc_3 (by decide +kernel)
theorem dX15_has_1 : decode cX15_has 1 = .ok (.istore_n 2, 1) := dc_61 (by decide +kernel)
theorem dX15_has_2 : decode cX15_has 2 = .ok (.iconst 0, 1) := dc_3 (by decide +kernel)
theorem dX15_has_3 : decode cX15_has 3 = .ok (.istore_n 3, 1) := dc_62 (by decide +kernel)
theorem dX15_has_4 : decode cX15_has 4 = .ok (.iload_n 3, 1) := dc_29 (by decide +kernel)
theorem dX15_has_5 : decode cX15_has 5 = .ok (.aload_n 1, 1) := dc_43 (by decide +kernel)
theorem dX15_has_6 : decode cX15_has 6 = .ok (.getfield 87, 3) := dc_180 (a := 0) (b := 87) (n := 87) (by decide +kernel)
theorem dX15_has_9 : decode cX15_has 9 = .ok (.if_icmp .ge 26, 3) := dc_162 (a := 0) (b := 26) (v := 26) (by decide +kernel)
theorem dX15_has_12 : decode cX15_has 12 = .ok (.iload_n 2, 1) := dc_28 (by decide +kernel)
theorem dX15_has_13 : decode cX15_has 13 = .ok (.iconst (-1), 1) := dc_2 (by decide +kernel)
theorem dX15_has_14 : decode cX15_has 14 = .ok (.if_icmp .eq 21, 3) := dc_159 (a := 0) (b := 21) (v := 21) (by decide +kernel)
theorem dX15_has_17 : decode cX15_has 17 = .ok (.aload_n 0, 1) := dc_42 (by decide +kernel)
theorem dX15_has_18 : decode cX15_has 18 = .ok (.iload_n 2, 1) := dc_28 (by decide +kernel)
theorem dX15_has_19 : decode cX15_has 19 = .ok (.aload_n 1, 1) := dc_43 (by decide +kernel)
theorem dX15_has_20 : decode cX15_has 20 = .ok (.getfield 92, 3) := dc_180 (a := 0) (b := 92) (n := 92) (by decide +kernel)
theorem dX15_has_23 : decode cX15_has 23 = .ok (.iload_n 3, 1) := dc_29 (by decide +kernel)
theorem dX15_has_24 : decode cX15_has 24 = .ok (.baload, 1) := dc_51 (by decide +kernel)
theorem dX15_has_25 : decode cX15_has 25 = .ok (.invokevirtual 94, 3) := dc_182 (a := 0) (b := 94) (n := 94) (by decide +kernel)
theorem dX15_has_28 : decode cX15_has 28 = .ok (.istore_n 2, 1) := dc_61 (by decide +kernel)
theorem dX15_has_29 : decode cX15_has 29 = .ok (.iinc 3 1, 3) := dc_132 (a := 3) (b := 1) (v := 1) (by decide +kernel)
theorem dX15_has_32 : decode cX15_has 32 = .ok (.goto (-28), 3) := dc_167 (a := 255) (b := 228) (v := -28) (by decide +kernel)
theorem dX15_has_35 : decode cX15_has 35 = .ok (.iload_n 2, 1) := dc_28 (by decide +kernel)
theorem dX15_has_36 : decode cX15_has 36 = .ok (.iconst (-1), 1) := dc_2 (by decide +kernel)
theorem dX15_has_37 : decode cX15_has 37 = .ok (.if_icmp .eq 16, 3) := dc_159 (a := 0) (b := 16) (v := 16) (by decide +kernel)
theorem dX15_has_40 : decode cX15_has 40 = .ok (.aload_n 0, 1) := dc_42 (by decide +kernel)
theorem dX15_has_41 : decode cX15_has 41 = .ok (.getfield 22, 3) := dc_180 (a := 0) (b := 22) (n := 22) (by decide +kernel)
theorem dX15_has_44 : decode cX15_has 44 = .ok (.iload_n 2, 1) := dc_28 (by decide +kernel)
theorem dX15_has_45 : decode cX15_has 45 = .ok (.iaload, 1) := dc_46 (by decide +kernel)
theorem dX15_has_46 : decode cX15_has 46 = .ok (.ifCond .eq 7, 3) := dc_153 (a := 0) (b := 7) (v := 7) (by decide +kernel)
theorem dX15_has_49 : decode cX15_has 49 = .ok (.iconst 1, 1) := dc_4 (by decide +kernel)
theorem dX15_has_50 : decode cX15_has 50 = .ok (.goto 4, 3) := dc_167 (a := 0) (b := 4) (v := 4) (by decide +kernel)
theorem dX15_has_53 : decode cX15_has 53 = .ok (.iconst 0, 1) := dc_3 (by decide +kernel)
theorem dX15_has_54 : decode cX15_has 54 = .ok (.ireturn, 1) := dc_172 (by decide +kernel)
theorem GX15_87 {w : eW} {d : Nat} {Y : eY} {pc : Nat} {ls : eL} {st : List Value} {h : eH} {Q : eO → eH → Prop} {a : Nat} {x : Int32} (hf : g_I 16 h a 2 = some x) (hd : decode Y.2.1 pc = .ok (.getfield 87, 3)) (hY : Y.1.cls = RX15) (kk : wp w d Y (pc + 3) ls (.int x :: st) h Q) : wp w d Y pc ls (.ref a :: st) h Q := x_gIN (ci := 16) (k := 2) hf hd rfl (by decide) (by rw [hY]; exact q1097) kk
theorem GX15_92 {w : eW} {d : Nat} {Y : eY} {pc : Nat} {ls : eL} {st : List Value} {h : eH} {Q : eO → eH → Prop} {a : Nat} {x : Nat} (hf : g_A 16 h a 0 = some x) (hd : decode Y.2.1 pc = .ok (.getfield 92, 3)) (hY : Y.1.cls = RX15) (kk : wp w d Y (pc + 3) ls (.ref x :: st) h Q) : wp w d Y pc ls (.ref a :: st) h Q := x_gAN (ci := 16) (k := 0) hf hd rfl (by decide) (by rw [hY]; exact q1090) kk
def fX15_has_b54 (N : Nat) (s0 : Int32) (h : eH) : Option (Int32 × eH) :=
  z_r s0 (s0, h)
theorem pX15_has_b54 {w : eW} {d : Nat} (hd : 1 ≤ d + 1) {N : Nat} {s0 : Int32} {h : eH} {q} (hf : fX15_has_b54 N s0 h = some q) : wp w (d + 1) YX15_has 54 [none, none, none, none] [.int s0] h (e_is (e_rn c_I q)) := by
  unfold fX15_has_b54 at hf
  obtain ⟨b1, rfl⟩ := z_r_some hf
  exact w_iret dX15_has_54 rfl b1 rfl
def fX15_has_b53 (N : Nat)  (h : eH) : Option (Int32 × eH) :=
  fX15_has_b54 N (0 : Int32) h
theorem pX15_has_b53 {w : eW} {d : Nat} (hd : 1 ≤ d + 1) {N : Nat}  {h : eH} {q} (hf : fX15_has_b53 N h = some q) : wp w (d + 1) YX15_has 53 [none, none, none, none] [] h (e_is (e_rn c_I q)) := by
  unfold fX15_has_b53 at hf
  refine w_iconst dX15_has_53 (v := 0) (by decide) ?_
  exact (pX15_has_b54 hd hf).to trivial
def fX15_has_b35 (N : Nat) (l0 : Nat) (l2 : Int32) (h : eH) : Option (Int32 × eH) :=
  if l2 = (-1 : Int32) then
    fX15_has_b53 N h
  else
    (g_A 14 h l0 3).bind fun a2 =>
    (r_I 100 h a2 l2).bind fun x4 =>
    if x4 = 0 then
      fX15_has_b53 N h
    else
      fX15_has_b54 N (1 : Int32) h
theorem pX15_has_b35 {w : eW} {d : Nat} (hd : 1 ≤ d + 1) {N : Nat} {l0 : Nat} {l2 : Int32} {h : eH} {q} (hf : fX15_has_b35 N l0 l2 h = some q) : wp w (d + 1) YX15_has 35 [some (.ref l0), none, some (.int l2), none] [] h (e_is (e_rn c_I q)) := by
  unfold fX15_has_b35 at hf
  refine w_iload_n dX15_has_35 rfl rfl ?_
  refine w_iconst dX15_has_36 (v := -1) (by decide) ?_
  refine w_icmp_eq 53 dX15_has_37 (by decide) (fun c1 => ?_) (fun c1 => ?_)
  · replace hf := (if_pos (show l2 = (-1 : Int32) from c1)).symm.trans hf
    exact (pX15_has_b53 hd hf).to trivial
  · replace hf := (if_neg (show ¬ (l2 = (-1 : Int32)) from c1)).symm.trans hf
    refine w_aload_n dX15_has_40 rfl rfl ?_
    obtain ⟨a2, b3, hf⟩ := Option.bind_eq_some_iff.mp hf
    refine GX15_22 b3 dX15_has_41 rfl ?_
    refine w_iload_n dX15_has_44 rfl rfl ?_
    obtain ⟨x4, b5, hf⟩ := Option.bind_eq_some_iff.mp hf
    refine x_rI b5 dX15_has_45 ?_
    refine w_if_eq 53 dX15_has_46 (by decide) (fun c6 => ?_) (fun c6 => ?_)
    · replace hf := (if_pos (show x4 = 0 from c6)).symm.trans hf
      exact (pX15_has_b53 hd hf).to trivial
    · replace hf := (if_neg (show ¬ (x4 = 0) from c6)).symm.trans hf
      refine w_iconst dX15_has_49 (v := 1) (by decide) ?_
      refine w_goto 54 dX15_has_50 (by decide) ?_
      exact (pX15_has_b54 hd hf).to trivial
def fX15_has_b4 (N : Nat) : Nat → Nat → Nat → Int32 → Int32 → eH → Option (Int32 × eH)
  | 0, _, _, _, _, _ => none
  | n + 1, l0, l1, l2, l3, h =>
    (g_I 16 h l1 2).bind fun x1 =>
    if x1 ≤ l3 then
      fX15_has_b35 N l0 l2 h
    else
      if l2 = (-1 : Int32) then
        fX15_has_b35 N l0 l2 h
      else
        (g_A 16 h l1 0).bind fun a5 =>
        (r_I 102 h a5 l3).bind fun x7 =>
        (k_ok 14 h l0).bind fun _ =>
        (fX15_child N l0 l2 x7 h).bind fun q10 =>
        fX15_has_b4 N n l0 l1 q10.1 (l3 + (1 : Int32)) q10.2
theorem pX15_has_b4 {w : eW} {d : Nat} (hd : 1 ≤ d + 1) {N : Nat} : ∀ (n : Nat) l0 l1 l2 l3 h q, fX15_has_b4 N n l0 l1 l2 l3 h = some q → wp w (d + 1) YX15_has 4 [some (.ref l0), some (.ref l1), some (.int l2), some (.int l3)] [] h (e_is (e_rn c_I q)) := by
  intro n
  induction n with
  | zero => intro l0 l1 l2 l3 h q hf; simp [fX15_has_b4] at hf
  | succ n ih =>
    intro l0 l1 l2 l3 h q hf
    rw [fX15_has_b4] at hf
    refine w_iload_n dX15_has_4 rfl rfl ?_
    refine w_aload_n dX15_has_5 rfl rfl ?_
    obtain ⟨x1, b2, hf⟩ := Option.bind_eq_some_iff.mp hf
    refine GX15_87 b2 dX15_has_6 rfl ?_
    refine w_icmp_ge 35 dX15_has_9 (by decide) (fun c3 => ?_) (fun c3 => ?_)
    · replace hf := (if_pos (show x1 ≤ l3 from c3)).symm.trans hf
      exact (pX15_has_b35 hd hf).to ⟨rfl, rfl, trivial⟩
    · replace hf := (if_neg (show ¬ (x1 ≤ l3) from c3)).symm.trans hf
      refine w_iload_n dX15_has_12 rfl rfl ?_
      refine w_iconst dX15_has_13 (v := -1) (by decide) ?_
      refine w_icmp_eq 35 dX15_has_14 (by decide) (fun c4 => ?_) (fun c4 => ?_)
      · replace hf := (if_pos (show l2 = (-1 : Int32) from c4)).symm.trans hf
        exact (pX15_has_b35 hd hf).to ⟨rfl, rfl, trivial⟩
      · replace hf := (if_neg (show ¬ (l2 = (-1 : Int32)) from c4)).symm.trans hf
        refine w_aload_n dX15_has_17 rfl rfl ?_
        refine w_iload_n dX15_has_18 rfl rfl ?_
        refine w_aload_n dX15_has_19 rfl rfl ?_
        obtain ⟨a5, b6, hf⟩ := Option.bind_eq_some_iff.mp hf
        refine GX15_92 b6 dX15_has_20 rfl ?_
        refine w_iload_n dX15_has_23 rfl rfl ?_
        obtain ⟨x7, b8, hf⟩ := Option.bind_eq_some_iff.mp hf
        refine x_rB b8 dX15_has_24 ?_
        obtain ⟨_, b9, hf⟩ := Option.bind_eq_some_iff.mp hf
        refine x_cnI hf (e_stV (Yc := YX15_child) (ci := 14) (av := [.int l2, .int x7]) (st := []) dX15_has_25 q2385 mX15_child rfl (k_ok_some b9).1 (k_ok_some b9).2) mX15_child.2.2.1 mX15_child.2.2.2.2.1 (Nat.le_of_ble_eq_true rfl) (Nat.le_of_ble_eq_true rfl) (fun q hq => pX15_child (by omega) hq) (fun q10 hf => ?_)
        refine w_istore_n dX15_has_28 rfl (by decide) (ls' := [some (.ref l0), some (.ref l1), some (.int q10.1), some (.int l3)]) rfl ?_
        refine w_iinc dX15_has_29 (v := (l3 + (1 : Int32))) rfl rfl (by decide) (ls' := [some (.ref l0), some (.ref l1), some (.int q10.1), some (.int (l3 + (1 : Int32)))]) rfl ?_
        refine w_goto 4 dX15_has_32 (by decide) ?_
        exact (ih _ _ _ _ _ _ hf).to ⟨rfl, rfl, rfl, rfl, trivial⟩
def fX15_has (N : Nat) (this : Nat) (p0 : Nat) (h : eH) : Option (Int32 × eH) :=
  fX15_has_b4 N N this p0 (0 : Int32) (0 : Int32) h
theorem pX15_has {w : eW} {d : Nat} (hd : 1 ≤ d) {N : Nat} {this : Nat} {p0 : Nat} {h : eH} {q} (hf : fX15_has N this p0 h = some q) : wm w d YX15_has [.ref this, .ref p0] h (e_is (e_rn c_I q)) := by
  obtain ⟨d, rfl⟩ : ∃ e, d = e + 1 := ⟨d - 1, by omega⟩
  show wp w (d + 1) YX15_has 0 [some (.ref this), some (.ref p0), none, none] [] h _
  unfold fX15_has at hf
  refine w_iconst dX15_has_0 (v := 0) (by decide) ?_
  refine w_istore_n dX15_has_1 rfl (by decide) (ls' := [some (.ref this), some (.ref p0), some (.int (0 : Int32)), none]) rfl ?_
  refine w_iconst dX15_has_2 (v := 0) (by decide) ?_
  refine w_istore_n dX15_has_3 rfl (by decide) (ls' := [some (.ref this), some (.ref p0), some (.int (0 : Int32)), some (.int (0 : Int32))]) rfl ?_
  exact (pX15_has_b4 hd N _ _ _ _ _ _ hf).to ⟨rfl, rfl, rfl, rfl, trivial⟩
abbrev cX15_link : ByteArray := prog_33_method_6_code
def yX15_link : MethodName := ⟨RX15, "link", "(III)I"⟩
def YX15_link : eY := (yX15_link, cX15_link, 5, (Option.some FieldType.int), [])
theorem mX15_link : e_mv YX15_link RX15 3 := ⟨q2395, qs41, q2396, by decide, by decide +kernel, (e_sig (by decide +kernel))⟩
theorem dX15_link_0 : decode cX15_link 0 = .ok (.iconst 1, 1) := dc_4 (by decide +kernel)
theorem dX15_link_1 : decode cX15_link 1 = .ok (.istore 4, 2) := dc_54 (a := 4) (by decide +kernel)
theorem dX15_link_3 : decode cX15_link 3 = .ok (.iload 4, 2) := dc_21 (a := 4) (by decide +kernel)
theorem dX15_link_5 : decode cX15_link 5 = .ok (.aload_n 0, 1) := dc_42 (by decide +kernel)
theorem dX15_link_6 : decode cX15_link 6 = .ok (.getfield 60, 3) := dc_180 (a := 0) (b := 60) (n := 60) (by decide +kernel)
theorem dX15_link_9 : decode cX15_link 9 = .ok (.if_icmp .ge 45, 3) := dc_162 (a := 0) (b := 45) (v := 45) (by decide +kernel)
theorem dX15_link_12 : decode cX15_link 12 = .ok (.aload_n 0, 1) := dc_42 (by decide +kernel)
theorem dX15_link_13 : decode cX15_link 13 = .ok (.getfield 28, 3) := dc_180 (a := 0) (b := 28) (n := 28) (by decide +kernel)
theorem dX15_link_16 : decode cX15_link 16 = .ok (.iload 4, 2) := dc_21 (a := 4) (by decide +kernel)
theorem dX15_link_18 : decode cX15_link 18 = .ok (.iaload, 1) := dc_46 (by decide +kernel)
theorem dX15_link_19 : decode cX15_link 19 = .ok (.iload_n 1, 1) := dc_27 (by decide +kernel)
theorem dX15_link_20 : decode cX15_link 20 = .ok (.if_icmp .ne 28, 3) := dc_160 (a := 0) (b := 28) (v := 28) (by decide +kernel)
theorem dX15_link_23 : decode cX15_link 23 = .ok (.aload_n 0, 1) := dc_42 (by decide +kernel)
theorem dX15_link_24 : decode cX15_link 24 = .ok (.getfield 31, 3) := dc_180 (a := 0) (b := 31) (n := 31) (by decide +kernel)
theorem dX15_link_27 : decode cX15_link 27 = .ok (.iload 4, 2) := dc_21 (a := 4) (by decide +kernel)
theorem dX15_link_29 : decode cX15_link 29 = .ok (.iaload, 1) := dc_46 (by decide +kernel)
theorem dX15_link_30 : decode cX15_link 30 = .ok (.iload_n 2, 1) := dc_28 (by decide +kernel)
theorem dX15_link_31 : decode cX15_link 31 = .ok (.if_icmp .ne 17, 3) := dc_160 (a := 0) (b := 17) (v := 17) (by decide +kernel)
theorem dX15_link_34 : decode cX15_link 34 = .ok (.aload_n 0, 1) := dc_42 (by decide +kernel)
theorem dX15_link_35 : decode cX15_link 35 = .ok (.getfield 34, 3) := dc_180 (a := 0) (b := 34) (n := 34) (by decide +kernel)
theorem dX15_link_38 : decode cX15_link 38 = .ok (.iload 4, 2) := dc_21 (a := 4) (by decide +kernel)
theorem dX15_link_40 : decode cX15_link 40 = .ok (.iaload, 1) := dc_46 (by decide +kernel)
theorem dX15_link_41 : decode cX15_link 41 = .ok (.iload_n 3, 1) := dc_29 (by decide +kernel)
theorem dX15_link_42 : decode cX15_link 42 = .ok (.if_icmp .ne 6, 3) := dc_160 (a := 0) (b := 6) (v := 6) (by decide +kernel)
theorem dX15_link_45 : decode cX15_link 45 = .ok (.iload 4, 2) := dc_21 (a := 4) (by decide +kernel)
theorem dX15_link_47 : decode cX15_link 47 = .ok (.ireturn, 1) := dc_172 (by decide +kernel)
theorem dX15_link_48 : decode cX15_link 48 = .ok (.iinc 4 1, 3) := dc_132 (a := 4) (b := 1) (v := 1) (by decide +kernel)
theorem dX15_link_51 : decode cX15_link 51 = .ok (.goto (-48), 3) := dc_167 (a := 255) (b := 208) (v := -48) (by decide +kernel)
theorem dX15_link_54 : decode cX15_link 54 = .ok (.aload_n 0, 1) := dc_42 (by decide +kernel)
theorem dX15_link_55 : decode cX15_link 55 = .ok (.aload_n 0, 1) := dc_42 (by decide +kernel)
theorem dX15_link_56 : decode cX15_link 56 = .ok (.getfield 28, 3) := dc_180 (a := 0) (b := 28) (n := 28) (by decide +kernel)
theorem dX15_link_59 : decode cX15_link 59 = .ok (.aload_n 0, 1) := dc_42 (by decide +kernel)
theorem dX15_link_60 : decode cX15_link 60 = .ok (.getfield 60, 3) := dc_180 (a := 0) (b := 60) (n := 60) (by decide +kernel)
theorem dX15_link_63 : decode cX15_link 63 = .ok (.iconst 1, 1) := dc_4 (by decide +kernel)
theorem dX15_link_64 : decode cX15_link 64 = .ok (.iadd, 1) := dc_96 (by decide +kernel)
theorem dX15_link_65 : decode cX15_link 65 = .ok (.invokestatic 77, 3) := dc_184 (a := 0) (b := 77) (n := 77) (by decide +kernel)
theorem dX15_link_68 : decode cX15_link 68 = .ok (.putfield 28, 3) := dc_181 (a := 0) (b := 28) (n := 28) (by decide +kernel)
theorem dX15_link_71 : decode cX15_link 71 = .ok (.aload_n 0, 1) := dc_42 (by decide +kernel)
theorem dX15_link_72 : decode cX15_link 72 = .ok (.aload_n 0, 1) := dc_42 (by decide +kernel)
theorem dX15_link_73 : decode cX15_link 73 = .ok (.getfield 31, 3) := dc_180 (a := 0) (b := 31) (n := 31) (by decide +kernel)
theorem dX15_link_76 : decode cX15_link 76 = .ok (.aload_n 0, 1) := dc_42 (by decide +kernel)
theorem dX15_link_77 : decode cX15_link 77 = .ok (.getfield 60, 3) := dc_180 (a := 0) (b := 60) (n := 60) (by decide +kernel)
theorem dX15_link_80 : decode cX15_link 80 = .ok (.iconst 1, 1) := dc_4 (by decide +kernel)
theorem dX15_link_81 : decode cX15_link 81 = .ok (.iadd, 1) := dc_96 (by decide +kernel)
theorem dX15_link_82 : decode cX15_link 82 = .ok (.invokestatic 77, 3) := dc_184 (a := 0) (b := 77) (n := 77) (by decide +kernel)
theorem dX15_link_85 : decode cX15_link 85 = .ok (.putfield 31, 3) := dc_181 (a := 0) (b := 31) (n := 31) (by decide +kernel)
theorem dX15_link_88 : decode cX15_link 88 = .ok (.aload_n 0, 1) := dc_42 (by decide +kernel)
theorem dX15_link_89 : decode cX15_link 89 = .ok (.aload_n 0, 1) := dc_42 (by decide +kernel)
theorem dX15_link_90 : decode cX15_link 90 = .ok (.getfield 34, 3) := dc_180 (a := 0) (b := 34) (n := 34) (by decide +kernel)
theorem dX15_link_93 : decode cX15_link 93 = .ok (.aload_n 0, 1) := dc_42 (by decide +kernel)
theorem dX15_link_94 : decode cX15_link 94 = .ok (.getfield 60, 3) := dc_180 (a := 0) (b := 60) (n := 60) (by decide +kernel)
theorem dX15_link_97 : decode cX15_link 97 = .ok (.iconst 1, 1) := dc_4 (by decide +kernel)
theorem dX15_link_98 : decode cX15_link 98 = .ok (.iadd, 1) := dc_96 (by decide +kernel)
theorem dX15_link_99 : decode cX15_link 99 = .ok (.invokestatic 77, 3) := dc_184 (a := 0) (b := 77) (n := 77) (by decide +kernel)
theorem dX15_link_102 : decode cX15_link 102 = .ok (.putfield 34, 3) := dc_181 (a := 0) (b := 34) (n := 34) (by decide +kernel)
theorem dX15_link_105 : decode cX15_link 105 = .ok (.aload_n 0, 1) := dc_42 (by decide +kernel)
theorem dX15_link_106 : decode cX15_link 106 = .ok (.getfield 28, 3) := dc_180 (a := 0) (b := 28) (n := 28) (by decide +kernel)
theorem dX15_link_109 : decode cX15_link 109 = .ok (.aload_n 0, 1) := dc_42 (by decide +kernel)
theorem dX15_link_110 : decode cX15_link 110 = .ok (.getfield 60, 3) := dc_180 (a := 0) (b := 60) (n := 60) (by decide +kernel)
theorem dX15_link_113 : decode cX15_link 113 = .ok (.iload_n 1, 1) := dc_27 (by decide +kernel)
theorem dX15_link_114 : decode cX15_link 114 = .ok (.iastore, 1) := dc_79 (by decide +kernel)
theorem dX15_link_115 : decode cX15_link 115 = .ok (.aload_n 0, 1) := dc_42 (by decide +kernel)
theorem dX15_link_116 : decode cX15_link 116 = .ok (.getfield 31, 3) := dc_180 (a := 0) (b := 31) (n := 31) (by decide +kernel)
theorem dX15_link_119 : decode cX15_link 119 = .ok (.aload_n 0, 1) := dc_42 (by decide +kernel)
theorem dX15_link_120 : decode cX15_link 120 = .ok (.getfield 60, 3) := dc_180 (a := 0) (b := 60) (n := 60) (by decide +kernel)
theorem dX15_link_123 : decode cX15_link 123 = .ok (.iload_n 2, 1) := dc_28 (by decide +kernel)
theorem dX15_link_124 : decode cX15_link 124 = .ok (.iastore, 1) := dc_79 (by decide +kernel)
theorem dX15_link_125 : decode cX15_link 125 = .ok (.aload_n 0, 1) := dc_42 (by decide +kernel)
theorem dX15_link_126 : decode cX15_link 126 = .ok (.getfield 34, 3) := dc_180 (a := 0) (b := 34) (n := 34) (by decide +kernel)
theorem dX15_link_129 : decode cX15_link 129 = .ok (.aload_n 0, 1) := dc_42 (by decide +kernel)
theorem dX15_link_130 : decode cX15_link 130 = .ok (.getfield 60, 3) := dc_180 (a := 0) (b := 60) (n := 60) (by decide +kernel)
theorem dX15_link_133 : decode cX15_link 133 = .ok (.iload_n 3, 1) := dc_29 (by decide +kernel)
theorem dX15_link_134 : decode cX15_link 134 = .ok (.iastore, 1) := dc_79 (by decide +kernel)
theorem dX15_link_135 : decode cX15_link 135 = .ok (.aload_n 0, 1) := dc_42 (by decide +kernel)
theorem dX15_link_136 : decode cX15_link 136 = .ok (.dup, 1) := dc_89 (by decide +kernel)
theorem dX15_link_137 : decode cX15_link 137 = .ok (.getfield 60, 3) := dc_180 (a := 0) (b := 60) (n := 60) (by decide +kernel)
theorem dX15_link_140 : decode cX15_link 140 = .ok (.dup_x1, 1) := dc_90 (by decide +kernel)
theorem dX15_link_141 : decode cX15_link 141 = .ok (.iconst 1, 1) := dc_4 (by decide +kernel)
theorem dX15_link_142 : decode cX15_link 142 = .ok (.iadd, 1) := dc_96 (by decide +kernel)
theorem dX15_link_143 : decode cX15_link 143 = .ok (.putfield 60, 3) := dc_181 (a := 0) (b := 60) (n := 60) (by decide +kernel)
theorem dX15_link_146 : decode cX15_link 146 = .ok (.ireturn, 1) := dc_172 (by decide +kernel)
theorem GX15_28 {w : eW} {d : Nat} {Y : eY} {pc : Nat} {ls : eL} {st : List Value} {h : eH} {Q : eO → eH → Prop} {a : Nat} {x : Nat} (hf : g_A 14 h a 6 = some x) (hd : decode Y.2.1 pc = .ok (.getfield 28, 3)) (hY : Y.1.cls = RX15) (kk : wp w d Y (pc + 3) ls (.ref x :: st) h Q) : wp w d Y pc ls (.ref a :: st) h Q := x_gA (ci := 14) (k := 6) hf hd rfl (by decide) (by rw [hY]; exact q963) kk
theorem GX15_31 {w : eW} {d : Nat} {Y : eY} {pc : Nat} {ls : eL} {st : List Value} {h : eH} {Q : eO → eH → Prop} {a : Nat} {x : Nat} (hf : g_A 14 h a 7 = some x) (hd : decode Y.2.1 pc = .ok (.getfield 31, 3)) (hY : Y.1.cls = RX15) (kk : wp w d Y (pc + 3) ls (.ref x :: st) h Q) : wp w d Y pc ls (.ref a :: st) h Q := x_gA (ci := 14) (k := 7) hf hd rfl (by decide) (by rw [hY]; exact q964) kk
theorem GX15_34 {w : eW} {d : Nat} {Y : eY} {pc : Nat} {ls : eL} {st : List Value} {h : eH} {Q : eO → eH → Prop} {a : Nat} {x : Nat} (hf : g_A 14 h a 8 = some x) (hd : decode Y.2.1 pc = .ok (.getfield 34, 3)) (hY : Y.1.cls = RX15) (kk : wp w d Y (pc + 3) ls (.ref x :: st) h Q) : wp w d Y pc ls (.ref a :: st) h Q := x_gA (ci := 14) (k := 8) hf hd rfl (by decide) (by rw [hY]; exact q965) kk
def fX15_link_b48 (N : Nat) (k3 : Nat → Int32 → Int32 → Int32 → Int32 → eH → Option (Int32 × eH)) (l0 : Nat) (l1 : Int32) (l2 : Int32) (l3 : Int32) (l4 : Int32) (h : eH) : Option (Int32 × eH) :=
  k3 l0 l1 l2 l3 (l4 + (1 : Int32)) h
theorem pX15_link_b48 {w : eW} {d : Nat} (hd : 2 ≤ d + 1) {N : Nat} {k3 : Nat → Int32 → Int32 → Int32 → Int32 → eH → Option (Int32 × eH)} (hk3 : ∀ l0 l1 l2 l3 l4 h q, k3 l0 l1 l2 l3 l4 h = some q → wp w (d + 1) YX15_link 3 [some (.ref l0), some (.int l1), some (.int l2), some (.int l3), some (.int l4)] [] h (e_is (e_rn c_I q))) {l0 : Nat} {l1 : Int32} {l2 : Int32} {l3 : Int32} {l4 : Int32} {h : eH} {q} (hf : fX15_link_b48 N k3 l0 l1 l2 l3 l4 h = some q) : wp w (d + 1) YX15_link 48 [some (.ref l0), some (.int l1), some (.int l2), some (.int l3), some (.int l4)] [] h (e_is (e_rn c_I q)) := by
  unfold fX15_link_b48 at hf
  refine w_iinc dX15_link_48 (v := (l4 + (1 : Int32))) rfl rfl (by decide) (ls' := [some (.ref l0), some (.int l1), some (.int l2), some (.int l3), some (.int (l4 + (1 : Int32)))]) rfl ?_
  refine w_goto 3 dX15_link_51 (by decide) ?_
  exact (hk3 _ _ _ _ _ _ _ hf).to ⟨rfl, rfl, rfl, rfl, rfl, trivial⟩
def fX15_link_b3 (N : Nat) : Nat → Nat → Int32 → Int32 → Int32 → Int32 → eH → Option (Int32 × eH)
  | 0, _, _, _, _, _, _ => none
  | n + 1, l0, l1, l2, l3, l4, h =>
    (g_I 14 h l0 9).bind fun x1 =>
    if x1 ≤ l4 then
      (g_A 14 h l0 6).bind fun a4 =>
      (g_I 14 h l0 9).bind fun x6 =>
      (fX1_grown a4 (x6 + (1 : Int32)) h).bind fun q8 =>
      (p_V 14 q8.2 l0 6 (.ref q8.1)).bind fun h9 =>
      (g_A 14 h9 l0 7).bind fun a11 =>
      (g_I 14 h9 l0 9).bind fun x13 =>
      (fX1_grown a11 (x13 + (1 : Int32)) h9).bind fun q15 =>
      (p_V 14 q15.2 l0 7 (.ref q15.1)).bind fun h16 =>
      (g_A 14 h16 l0 8).bind fun a18 =>
      (g_I 14 h16 l0 9).bind fun x20 =>
      (fX1_grown a18 (x20 + (1 : Int32)) h16).bind fun q22 =>
      (p_V 14 q22.2 l0 8 (.ref q22.1)).bind fun h23 =>
      (g_A 14 h23 l0 6).bind fun a25 =>
      (g_I 14 h23 l0 9).bind fun x27 =>
      (q_V 100 h23 a25 x27 (.int l1)).bind fun h29 =>
      (g_A 14 h29 l0 7).bind fun a31 =>
      (g_I 14 h29 l0 9).bind fun x33 =>
      (q_V 100 h29 a31 x33 (.int l2)).bind fun h35 =>
      (g_A 14 h35 l0 8).bind fun a37 =>
      (g_I 14 h35 l0 9).bind fun x39 =>
      (q_V 100 h35 a37 x39 (.int l3)).bind fun h41 =>
      (g_I 14 h41 l0 9).bind fun x43 =>
      (p_V 14 h41 l0 9 (.int (x43 + (1 : Int32)))).bind fun h45 =>
      some (x43, h45)
    else
      (g_A 14 h l0 6).bind fun a47 =>
      (r_I 100 h a47 l4).bind fun x49 =>
      if ¬ x49 = l1 then
        fX15_link_b48 N (fX15_link_b3 N n) l0 l1 l2 l3 l4 h
      else
        (g_A 14 h l0 7).bind fun a52 =>
        (r_I 100 h a52 l4).bind fun x54 =>
        if ¬ x54 = l2 then
          fX15_link_b48 N (fX15_link_b3 N n) l0 l1 l2 l3 l4 h
        else
          (g_A 14 h l0 8).bind fun a57 =>
          (r_I 100 h a57 l4).bind fun x59 =>
          if ¬ x59 = l3 then
            fX15_link_b48 N (fX15_link_b3 N n) l0 l1 l2 l3 l4 h
          else
            some (l4, h)
theorem pX15_link_b3 {w : eW} {d : Nat} (hd : 2 ≤ d + 1) {N : Nat} : ∀ (n : Nat) l0 l1 l2 l3 l4 h q, fX15_link_b3 N n l0 l1 l2 l3 l4 h = some q → wp w (d + 1) YX15_link 3 [some (.ref l0), some (.int l1), some (.int l2), some (.int l3), some (.int l4)] [] h (e_is (e_rn c_I q)) := by
  intro n
  induction n with
  | zero => intro l0 l1 l2 l3 l4 h q hf; simp [fX15_link_b3] at hf
  | succ n ih =>
    intro l0 l1 l2 l3 l4 h q hf
    rw [fX15_link_b3] at hf
    refine w_iload dX15_link_3 rfl ?_
    refine w_aload_n dX15_link_5 rfl rfl ?_
    obtain ⟨x1, b2, hf⟩ := Option.bind_eq_some_iff.mp hf
    refine GX15_60 b2 dX15_link_6 rfl ?_
    refine w_icmp_ge 54 dX15_link_9 (by decide) (fun c3 => ?_) (fun c3 => ?_)
    · replace hf := (if_pos (show x1 ≤ l4 from c3)).symm.trans hf
      refine w_aload_n dX15_link_54 rfl rfl ?_
      refine w_aload_n dX15_link_55 rfl rfl ?_
      obtain ⟨a4, b5, hf⟩ := Option.bind_eq_some_iff.mp hf
      refine GX15_28 b5 dX15_link_56 rfl ?_
      refine w_aload_n dX15_link_59 rfl rfl ?_
      obtain ⟨x6, b7, hf⟩ := Option.bind_eq_some_iff.mp hf
      refine GX15_60 b7 dX15_link_60 rfl ?_
      refine w_iconst dX15_link_63 (v := 1) (by decide) ?_
      refine w_iadd dX15_link_64 ?_
      refine x_cnA hf (e_stSN (Yc := YX1_grown) (av := [.ref a4, .int (x6 + (1 : Int32))]) (st := [.ref l0]) dX15_link_65 q950 mX1_grown) mX1_grown.2.2.1 mX1_grown.2.2.2.2.1 (Nat.le_of_ble_eq_true rfl) (Nat.le_of_ble_eq_true rfl) (fun q hq => pX1_grown (by omega) hq) (fun q8 hf => ?_)
      obtain ⟨h9, b10, hf⟩ := Option.bind_eq_some_iff.mp hf
      refine SX15_28 b10 dX15_link_68 rfl ?_
      refine w_aload_n dX15_link_71 rfl rfl ?_
      refine w_aload_n dX15_link_72 rfl rfl ?_
      obtain ⟨a11, b12, hf⟩ := Option.bind_eq_some_iff.mp hf
      refine GX15_31 b12 dX15_link_73 rfl ?_
      refine w_aload_n dX15_link_76 rfl rfl ?_
      obtain ⟨x13, b14, hf⟩ := Option.bind_eq_some_iff.mp hf
      refine GX15_60 b14 dX15_link_77 rfl ?_
      refine w_iconst dX15_link_80 (v := 1) (by decide) ?_
      refine w_iadd dX15_link_81 ?_
      refine x_cnA hf (e_stSN (Yc := YX1_grown) (av := [.ref a11, .int (x13 + (1 : Int32))]) (st := [.ref l0]) dX15_link_82 q950 mX1_grown) mX1_grown.2.2.1 mX1_grown.2.2.2.2.1 (Nat.le_of_ble_eq_true rfl) (Nat.le_of_ble_eq_true rfl) (fun q hq => pX1_grown (by omega) hq) (fun q15 hf => ?_)
      obtain ⟨h16, b17, hf⟩ := Option.bind_eq_some_iff.mp hf
      refine SX15_31 b17 dX15_link_85 rfl ?_
      refine w_aload_n dX15_link_88 rfl rfl ?_
      refine w_aload_n dX15_link_89 rfl rfl ?_
      obtain ⟨a18, b19, hf⟩ := Option.bind_eq_some_iff.mp hf
      refine GX15_34 b19 dX15_link_90 rfl ?_
      refine w_aload_n dX15_link_93 rfl rfl ?_
      obtain ⟨x20, b21, hf⟩ := Option.bind_eq_some_iff.mp hf
      refine GX15_60 b21 dX15_link_94 rfl ?_
      refine w_iconst dX15_link_97 (v := 1) (by decide) ?_
      refine w_iadd dX15_link_98 ?_
      refine x_cnA hf (e_stSN (Yc := YX1_grown) (av := [.ref a18, .int (x20 + (1 : Int32))]) (st := [.ref l0]) dX15_link_99 q950 mX1_grown) mX1_grown.2.2.1 mX1_grown.2.2.2.2.1 (Nat.le_of_ble_eq_true rfl) (Nat.le_of_ble_eq_true rfl) (fun q hq => pX1_grown (by omega) hq) (fun q22 hf => ?_)
      obtain ⟨h23, b24, hf⟩ := Option.bind_eq_some_iff.mp hf
      refine SX15_34 b24 dX15_link_102 rfl ?_
      refine w_aload_n dX15_link_105 rfl rfl ?_
      obtain ⟨a25, b26, hf⟩ := Option.bind_eq_some_iff.mp hf
      refine GX15_28 b26 dX15_link_106 rfl ?_
      refine w_aload_n dX15_link_109 rfl rfl ?_
      obtain ⟨x27, b28, hf⟩ := Option.bind_eq_some_iff.mp hf
      refine GX15_60 b28 dX15_link_110 rfl ?_
      refine w_iload_n dX15_link_113 rfl rfl ?_
      obtain ⟨h29, b30, hf⟩ := Option.bind_eq_some_iff.mp hf
      refine x_qI b30 dX15_link_114 ?_
      refine w_aload_n dX15_link_115 rfl rfl ?_
      obtain ⟨a31, b32, hf⟩ := Option.bind_eq_some_iff.mp hf
      refine GX15_31 b32 dX15_link_116 rfl ?_
      refine w_aload_n dX15_link_119 rfl rfl ?_
      obtain ⟨x33, b34, hf⟩ := Option.bind_eq_some_iff.mp hf
      refine GX15_60 b34 dX15_link_120 rfl ?_
      refine w_iload_n dX15_link_123 rfl rfl ?_
      obtain ⟨h35, b36, hf⟩ := Option.bind_eq_some_iff.mp hf
      refine x_qI b36 dX15_link_124 ?_
      refine w_aload_n dX15_link_125 rfl rfl ?_
      obtain ⟨a37, b38, hf⟩ := Option.bind_eq_some_iff.mp hf
      refine GX15_34 b38 dX15_link_126 rfl ?_
      refine w_aload_n dX15_link_129 rfl rfl ?_
      obtain ⟨x39, b40, hf⟩ := Option.bind_eq_some_iff.mp hf
      refine GX15_60 b40 dX15_link_130 rfl ?_
      refine w_iload_n dX15_link_133 rfl rfl ?_
      obtain ⟨h41, b42, hf⟩ := Option.bind_eq_some_iff.mp hf
      refine x_qI b42 dX15_link_134 ?_
      refine w_aload_n dX15_link_135 rfl rfl ?_
      refine w_dup dX15_link_136 rfl ?_
      obtain ⟨x43, b44, hf⟩ := Option.bind_eq_some_iff.mp hf
      refine GX15_60 b44 dX15_link_137 rfl ?_
      refine w_dup_x1 dX15_link_140 rfl rfl ?_
      refine w_iconst dX15_link_141 (v := 1) (by decide) ?_
      refine w_iadd dX15_link_142 ?_
      obtain ⟨h45, b46, hf⟩ := Option.bind_eq_some_iff.mp hf
      refine SX15_60 b46 dX15_link_143 rfl ?_
      cases hf
      exact w_iret dX15_link_146 rfl rfl rfl
    · replace hf := (if_neg (show ¬ (x1 ≤ l4) from c3)).symm.trans hf
      refine w_aload_n dX15_link_12 rfl rfl ?_
      obtain ⟨a47, b48, hf⟩ := Option.bind_eq_some_iff.mp hf
      refine GX15_28 b48 dX15_link_13 rfl ?_
      refine w_iload dX15_link_16 rfl ?_
      obtain ⟨x49, b50, hf⟩ := Option.bind_eq_some_iff.mp hf
      refine x_rI b50 dX15_link_18 ?_
      refine w_iload_n dX15_link_19 rfl rfl ?_
      refine w_icmp_ne 48 dX15_link_20 (by decide) (fun c51 => ?_) (fun c51 => ?_)
      · replace hf := (if_pos (show ¬ x49 = l1 from c51)).symm.trans hf
        exact (pX15_link_b48 hd ih hf).to ⟨rfl, rfl, rfl, rfl, rfl, trivial⟩
      · replace hf := (if_neg (show ¬ (¬ x49 = l1) from (fun z => z c51))).symm.trans hf
        refine w_aload_n dX15_link_23 rfl rfl ?_
        obtain ⟨a52, b53, hf⟩ := Option.bind_eq_some_iff.mp hf
        refine GX15_31 b53 dX15_link_24 rfl ?_
        refine w_iload dX15_link_27 rfl ?_
        obtain ⟨x54, b55, hf⟩ := Option.bind_eq_some_iff.mp hf
        refine x_rI b55 dX15_link_29 ?_
        refine w_iload_n dX15_link_30 rfl rfl ?_
        refine w_icmp_ne 48 dX15_link_31 (by decide) (fun c56 => ?_) (fun c56 => ?_)
        · replace hf := (if_pos (show ¬ x54 = l2 from c56)).symm.trans hf
          exact (pX15_link_b48 hd ih hf).to ⟨rfl, rfl, rfl, rfl, rfl, trivial⟩
        · replace hf := (if_neg (show ¬ (¬ x54 = l2) from (fun z => z c56))).symm.trans hf
          refine w_aload_n dX15_link_34 rfl rfl ?_
          obtain ⟨a57, b58, hf⟩ := Option.bind_eq_some_iff.mp hf
          refine GX15_34 b58 dX15_link_35 rfl ?_
          refine w_iload dX15_link_38 rfl ?_
          obtain ⟨x59, b60, hf⟩ := Option.bind_eq_some_iff.mp hf
          refine x_rI b60 dX15_link_40 ?_
          refine w_iload_n dX15_link_41 rfl rfl ?_
          refine w_icmp_ne 48 dX15_link_42 (by decide) (fun c61 => ?_) (fun c61 => ?_)
          · replace hf := (if_pos (show ¬ x59 = l3 from c61)).symm.trans hf
            exact (pX15_link_b48 hd ih hf).to ⟨rfl, rfl, rfl, rfl, rfl, trivial⟩
          · replace hf := (if_neg (show ¬ (¬ x59 = l3) from (fun z => z c61))).symm.trans hf
            refine w_iload dX15_link_45 rfl ?_
            cases hf
            exact w_iret dX15_link_47 rfl rfl rfl
def fX15_link (N : Nat) (this : Nat) (p0 : Int32) (p1 : Int32) (p2 : Int32) (h : eH) : Option (Int32 × eH) :=
  fX15_link_b3 N N this p0 p1 p2 (1 : Int32) h
theorem pX15_link {w : eW} {d : Nat} (hd : 2 ≤ d) {N : Nat} {this : Nat} {p0 : Int32} {p1 : Int32} {p2 : Int32} {h : eH} {q} (hf : fX15_link N this p0 p1 p2 h = some q) : wm w d YX15_link [.ref this, .int p0, .int p1, .int p2] h (e_is (e_rn c_I q)) := by
  obtain ⟨d, rfl⟩ : ∃ e, d = e + 1 := ⟨d - 1, by omega⟩
  show wp w (d + 1) YX15_link 0 [some (.ref this), some (.int p0), some (.int p1), some (.int p2), none] [] h _
  unfold fX15_link at hf
  refine w_iconst dX15_link_0 (v := 1) (by decide) ?_
  refine w_istore dX15_link_1 (by decide) (ls' := [some (.ref this), some (.int p0), some (.int p1), some (.int p2), some (.int (1 : Int32))]) rfl ?_
  exact (pX15_link_b3 hd N _ _ _ _ _ _ _ hf).to ⟨rfl, rfl, rfl, rfl, rfl, trivial⟩
abbrev cX15_add : ByteArray := prog_33_method_7_code
def yX15_add : MethodName := ⟨RX15, "add", "(LTypeHouse$Letters;)V"⟩
def YX15_add : eY := (yX15_add, cX15_add, 5, none, [])
theorem mX15_add : e_mv YX15_add RX15 1 := ⟨q2390, q2391, q2392, by decide, by decide +kernel, (e_sig (by decide +kernel))⟩
theorem dX15_add_0 : decode cX15_add 0 = .ok (.iconst 0, 1) := dc_3 (by decide +kernel)
theorem dX15_add_1 : decode cX15_add 1 = .ok (.istore_n 2, 1) := dc_61 (by decide +kernel)
theorem dX15_add_2 : decode cX15_add 2 = .ok (.iconst 0, 1) := dc_3 (by decide +kernel)
theorem dX15_add_3 : decode cX15_add 3 = .ok (.istore_n 3, 1) := dc_62 (by decide +kernel)
theorem dX15_add_4 : decode cX15_add 4 = .ok (.iload_n 3, 1) := dc_29 (by decide +kernel)
theorem dX15_add_5 : decode cX15_add 5 = .ok (.aload_n 1, 1) := dc_43 (by decide +kernel)
theorem dX15_add_6 : decode cX15_add 6 = .ok (.getfield 87, 3) := dc_180 (a := 0) (b := 87) (n := 87) (by decide +kernel)
theorem dX15_add_9 : decode cX15_add 9 = .ok (.if_icmp .ge 72, 3) := dc_162 (a := 0) (b := 72) (v := 72) (by decide +kernel)
theorem dX15_add_12 : decode cX15_add 12 = .ok (.aload_n 0, 1) := dc_42 (by decide +kernel)
theorem dX15_add_13 : decode cX15_add 13 = .ok (.iload_n 2, 1) := dc_28 (by decide +kernel)
theorem dX15_add_14 : decode cX15_add 14 = .ok (.aload_n 1, 1) := dc_43 (by decide +kernel)
theorem dX15_add_15 : decode cX15_add 15 = .ok (.getfield 92, 3) := dc_180 (a := 0) (b := 92) (n := 92) (by decide +kernel)
theorem dX15_add_18 : decode cX15_add 18 = .ok (.iload_n 3, 1) := dc_29 (by decide +kernel)
theorem dX15_add_19 : decode cX15_add 19 = .ok (.baload, 1) := dc_51 (by decide +kernel)
theorem dX15_add_20 : decode cX15_add 20 = .ok (.invokevirtual 94, 3) := dc_182 (a := 0) (b := 94) (n := 94) (by decide +kernel)
theorem dX15_add_23 : decode cX15_add 23 = .ok (.istore 4, 2) := dc_54 (a := 4) (by decide +kernel)
theorem dX15_add_25 : decode cX15_add 25 = .ok (.iload 4, 2) := dc_21 (a := 4) (by decide +kernel)
theorem dX15_add_27 : decode cX15_add 27 = .ok (.iconst (-1), 1) := dc_2 (by decide +kernel)
theorem dX15_add_28 : decode cX15_add 28 = .ok (.if_icmp .ne 44, 3) := dc_160 (a := 0) (b := 44) (v := 44) (by decide +kernel)
theorem dX15_add_31 : decode cX15_add 31 = .ok (.aload_n 0, 1) := dc_42 (by decide +kernel)
theorem dX15_add_32 : decode cX15_add 32 = .ok (.aload_n 1, 1) := dc_43 (by decide +kernel)
theorem dX15_add_33 : decode cX15_add 33 = .ok (.getfield 92, 3) := dc_180 (a := 0) (b := 92) (n := 92) (by decide +kernel)
theorem dX15_add_36 : decode cX15_add 36 = .ok (.iload_n 3, 1) := dc_29 (by decide +kernel)
theorem dX15_add_37 : decode cX15_add 37 = .ok (.baload, 1) := dc_51 (by decide +kernel)
theorem dX15_add_38 : decode cX15_add 38 = .ok (.invokevirtual 69, 3) := dc_182 (a := 0) (b := 69) (n := 69) (by decide +kernel)
theorem dX15_add_41 : decode cX15_add 41 = .ok (.istore 4, 2) := dc_54 (a := 4) (by decide +kernel)
theorem dX15_add_43 : decode cX15_add 43 = .ok (.aload_n 0, 1) := dc_42 (by decide +kernel)
theorem dX15_add_44 : decode cX15_add 44 = .ok (.getfield 25, 3) := dc_180 (a := 0) (b := 25) (n := 25) (by decide +kernel)
theorem dX15_add_47 : decode cX15_add 47 = .ok (.iload 4, 2) := dc_21 (a := 4) (by decide +kernel)
theorem dX15_add_49 : decode cX15_add 49 = .ok (.iload_n 2, 1) := dc_28 (by decide +kernel)
theorem dX15_add_50 : decode cX15_add 50 = .ok (.iastore, 1) := dc_79 (by decide +kernel)
theorem dX15_add_51 : decode cX15_add 51 = .ok (.aload_n 0, 1) := dc_42 (by decide +kernel)
theorem dX15_add_52 : decode cX15_add 52 = .ok (.getfield 15, 3) := dc_180 (a := 0) (b := 15) (n := 15) (by decide +kernel)
theorem dX15_add_55 : decode cX15_add 55 = .ok (.iload 4, 2) := dc_21 (a := 4) (by decide +kernel)
theorem dX15_add_57 : decode cX15_add 57 = .ok (.aload_n 0, 1) := dc_42 (by decide +kernel)
theorem dX15_add_58 : decode cX15_add 58 = .ok (.getfield 9, 3) := dc_180 (a := 0) (b := 9) (n := 9) (by decide +kernel)
theorem dX15_add_61 : decode cX15_add 61 = .ok (.iload_n 2, 1) := dc_28 (by decide +kernel)
theorem dX15_add_62 : decode cX15_add 62 = .ok (.iaload, 1) := dc_46 (by decide +kernel)
theorem dX15_add_63 : decode cX15_add 63 = .ok (.iastore, 1) := dc_79 (by decide +kernel)
theorem dX15_add_64 : decode cX15_add 64 = .ok (.aload_n 0, 1) := dc_42 (by decide +kernel)
theorem dX15_add_65 : decode cX15_add 65 = .ok (.getfield 9, 3) := dc_180 (a := 0) (b := 9) (n := 9) (by decide +kernel)
theorem dX15_add_68 : decode cX15_add 68 = .ok (.iload_n 2, 1) := dc_28 (by decide +kernel)
theorem dX15_add_69 : decode cX15_add 69 = .ok (.iload 4, 2) := dc_21 (a := 4) (by decide +kernel)
theorem dX15_add_71 : decode cX15_add 71 = .ok (.iastore, 1) := dc_79 (by decide +kernel)
theorem dX15_add_72 : decode cX15_add 72 = .ok (.iload 4, 2) := dc_21 (a := 4) (by decide +kernel)
theorem dX15_add_74 : decode cX15_add 74 = .ok (.istore_n 2, 1) := dc_61 (by decide +kernel)
theorem dX15_add_75 : decode cX15_add 75 = .ok (.iinc 3 1, 3) := dc_132 (a := 3) (b := 1) (v := 1) (by decide +kernel)
theorem dX15_add_78 : decode cX15_add 78 = .ok (.goto (-74), 3) := dc_167 (a := 255) (b := 182) (v := -74) (by decide +kernel)
theorem dX15_add_81 : decode cX15_add 81 = .ok (.iconst (-1), 1) := dc_2 (by decide +kernel)
theorem dX15_add_82 : decode cX15_add 82 = .ok (.istore_n 3, 1) := dc_62 (by decide +kernel)
theorem dX15_add_83 : decode cX15_add 83 = .ok (.iconst 0, 1) := dc_3 (by decide +kernel)
theorem dX15_add_84 : decode cX15_add 84 = .ok (.istore 4, 2) := dc_54 (a := 4) (by decide +kernel)
theorem dX15_add_86 : decode cX15_add 86 = .ok (.iload 4, 2) := dc_21 (a := 4) (by decide +kernel)
theorem dX15_add_88 : decode cX15_add 88 = .ok (.aload_n 1, 1) := dc_43 (by decide +kernel)
theorem dX15_add_89 : decode cX15_add 89 = .ok (.getfield 87, 3) := dc_180 (a := 0) (b := 87) (n := 87) (by decide +kernel)
theorem dX15_add_92 : decode cX15_add 92 = .ok (.if_icmp .gt 39, 3) := dc_163 (a := 0) (b := 39) (v := 39) (by decide +kernel)
theorem dX15_add_95 : decode cX15_add 95 = .ok (.aload_n 1, 1) := dc_43 (by decide +kernel)
theorem dX15_add_96 : decode cX15_add 96 = .ok (.getfield 98, 3) := dc_180 (a := 0) (b := 98) (n := 98) (by decide +kernel)
theorem dX15_add_99 : decode cX15_add 99 = .ok (.iload 4, 2) := dc_21 (a := 4) (by decide +kernel)
theorem dX15_add_101 : decode cX15_add 101 = .ok (.baload, 1) := dc_51 (by decide +kernel)
theorem dX15_add_102 : decode cX15_add 102 = .ok (.ifCond .le 23, 3) := dc_158 (a := 0) (b := 23) (v := 23) (by decide +kernel)
theorem dX15_add_105 : decode cX15_add 105 = .ok (.aload_n 0, 1) := dc_42 (by decide +kernel)
theorem dX15_add_106 : decode cX15_add 106 = .ok (.aload_n 1, 1) := dc_43 (by decide +kernel)
theorem dX15_add_107 : decode cX15_add 107 = .ok (.getfield 87, 3) := dc_180 (a := 0) (b := 87) (n := 87) (by decide +kernel)
theorem dX15_add_110 : decode cX15_add 110 = .ok (.iload 4, 2) := dc_21 (a := 4) (by decide +kernel)
theorem dX15_add_112 : decode cX15_add 112 = .ok (.isub, 1) := dc_100 (by decide +kernel)
theorem dX15_add_113 : decode cX15_add 113 = .ok (.aload_n 1, 1) := dc_43 (by decide +kernel)
theorem dX15_add_114 : decode cX15_add 114 = .ok (.getfield 98, 3) := dc_180 (a := 0) (b := 98) (n := 98) (by decide +kernel)
theorem dX15_add_117 : decode cX15_add 117 = .ok (.iload 4, 2) := dc_21 (a := 4) (by decide +kernel)
theorem dX15_add_119 : decode cX15_add 119 = .ok (.baload, 1) := dc_51 (by decide +kernel)
theorem dX15_add_120 : decode cX15_add 120 = .ok (.iload_n 3, 1) := dc_29 (by decide +kernel)
theorem dX15_add_121 : decode cX15_add 121 = .ok (.invokevirtual 101, 3) := dc_182 (a := 0) (b := 101) (n := 101) (by decide +kernel)
theorem dX15_add_124 : decode cX15_add 124 = .ok (.istore_n 3, 1) := dc_62 (by decide +kernel)
theorem dX15_add_125 : decode cX15_add 125 = .ok (.iinc 4 1, 3) := dc_132 (a := 4) (b := 1) (v := 1) (by decide +kernel)
theorem dX15_add_128 : decode cX15_add 128 = .ok (.goto (-42), 3) := dc_167 (a := 255) (b := 214) (v := -42) (by decide +kernel)
theorem dX15_add_131 : decode cX15_add 131 = .ok (.aload_n 0, 1) := dc_42 (by decide +kernel)
theorem dX15_add_132 : decode cX15_add 132 = .ok (.getfield 22, 3) := dc_180 (a := 0) (b := 22) (n := 22) (by decide +kernel)
theorem dX15_add_135 : decode cX15_add 135 = .ok (.iload_n 2, 1) := dc_28 (by decide +kernel)
theorem dX15_add_136 : decode cX15_add 136 = .ok (.iload_n 3, 1) := dc_29 (by decide +kernel)
theorem dX15_add_137 : decode cX15_add 137 = .ok (.iastore, 1) := dc_79 (by decide +kernel)
theorem dX15_add_138 : decode cX15_add 138 = .ok (.aload_n 0, 1) := dc_42 (by decide +kernel)
theorem dX15_add_139 : decode cX15_add 139 = .ok (.getfield 50, 3) := dc_180 (a := 0) (b := 50) (n := 50) (by decide +kernel)
theorem dX15_add_142 : decode cX15_add 142 = .ok (.aload_n 0, 1) := dc_42 (by decide +kernel)
theorem dX15_add_143 : decode cX15_add 143 = .ok (.dup, 1) := dc_89 (by decide +kernel)
theorem dX15_add_144 : decode cX15_add 144 = .ok (.getfield 105, 3) := dc_180 (a := 0) (b := 105) (n := 105) (by decide +kernel)
theorem dX15_add_147 : decode cX15_add 147 = .ok (.dup_x1, 1) := dc_90 (by decide +kernel)
theorem dX15_add_148 : decode cX15_add 148 = .ok (.iconst 1, 1) := dc_4 (by decide +kernel)
theorem dX15_add_149 : decode cX15_add 149 = .ok (.iadd, 1) := dc_96 (by decide +kernel)
theorem dX15_add_150 : decode cX15_add 150 = .ok (.putfield 105, 3) := dc_181 (a := 0) (b := 105) (n := 105) (by decide +kernel)
theorem dX15_add_153 : decode cX15_add 153 = .ok (.iload_n 2, 1) := dc_28 (by decide +kernel)
theorem dX15_add_154 : decode cX15_add 154 = .ok (.iastore, 1) := dc_79 (by decide +kernel)
theorem dX15_add_155 : decode cX15_add 155 = .ok (.aload_n 0, 1) := dc_42 (by decide +kernel)
theorem dX15_add_156 : decode cX15_add 156 = .ok (.dup, 1) := dc_89 (by decide +kernel)
theorem dX15_add_157 : decode cX15_add 157 = .ok (.getfield 63, 3) := dc_180 (a := 0) (b := 63) (n := 63) (by decide +kernel)
theorem dX15_add_160 : decode cX15_add 160 = .ok (.iconst 1, 1) := dc_4 (by decide +kernel)
theorem dX15_add_161 : decode cX15_add 161 = .ok (.iadd, 1) := dc_96 (by decide +kernel)
theorem dX15_add_162 : decode cX15_add 162 = .ok (.putfield 63, 3) := dc_181 (a := 0) (b := 63) (n := 63) (by decide +kernel)
theorem dX15_add_165 : decode cX15_add 165 = .ok (.aload_n 0, 1) := dc_42 (by decide +kernel)
theorem dX15_add_166 : decode cX15_add 166 = .ok (.iconst 0, 1) := dc_3 (by decide +kernel)
theorem dX15_add_167 : decode cX15_add 167 = .ok (.putfield 73, 3) := dc_181 (a := 0) (b := 73) (n := 73) (by decide +kernel)
theorem dX15_add_170 : decode cX15_add 170 = .ok (.return_, 1) := dc_177 (by decide +kernel)
theorem GX15_105 {w : eW} {d : Nat} {Y : eY} {pc : Nat} {ls : eL} {st : List Value} {h : eH} {Q : eO → eH → Prop} {a : Nat} {x : Int32} (hf : g_I 14 h a 19 = some x) (hd : decode Y.2.1 pc = .ok (.getfield 105, 3)) (hY : Y.1.cls = RX15) (kk : wp w d Y (pc + 3) ls (.int x :: st) h Q) : wp w d Y pc ls (.ref a :: st) h Q := x_gI (ci := 14) (k := 19) hf hd rfl (by decide) (by rw [hY]; exact q978) kk
theorem GX15_50 {w : eW} {d : Nat} {Y : eY} {pc : Nat} {ls : eL} {st : List Value} {h : eH} {Q : eO → eH → Prop} {a : Nat} {x : Nat} (hf : g_A 14 h a 18 = some x) (hd : decode Y.2.1 pc = .ok (.getfield 50, 3)) (hY : Y.1.cls = RX15) (kk : wp w d Y (pc + 3) ls (.ref x :: st) h Q) : wp w d Y pc ls (.ref a :: st) h Q := x_gA (ci := 14) (k := 18) hf hd rfl (by decide) (by rw [hY]; exact q977) kk
theorem GX15_98 {w : eW} {d : Nat} {Y : eY} {pc : Nat} {ls : eL} {st : List Value} {h : eH} {Q : eO → eH → Prop} {a : Nat} {x : Nat} (hf : g_A 16 h a 1 = some x) (hd : decode Y.2.1 pc = .ok (.getfield 98, 3)) (hY : Y.1.cls = RX15) (kk : wp w d Y (pc + 3) ls (.ref x :: st) h Q) : wp w d Y pc ls (.ref a :: st) h Q := x_gAN (ci := 16) (k := 1) hf hd rfl (by decide) (by rw [hY]; exact q1094) kk
def fX15_add_b72 (N : Nat) (k4 : Nat → Nat → Int32 → Int32 → eH → Option (Unit × eH)) (l0 : Nat) (l1 : Nat) (l3 : Int32) (l4 : Int32) (h : eH) : Option (Unit × eH) :=
  k4 l0 l1 l4 (l3 + (1 : Int32)) h
theorem pX15_add_b72 {w : eW} {d : Nat} (hd : 3 ≤ d + 1) {N : Nat} {k4 : Nat → Nat → Int32 → Int32 → eH → Option (Unit × eH)} (hk4 : ∀ l0 l1 l2 l3 h q, k4 l0 l1 l2 l3 h = some q → wp w (d + 1) YX15_add 4 [some (.ref l0), some (.ref l1), some (.int l2), some (.int l3), none] [] h (e_is (e_rn c_V q))) {l0 : Nat} {l1 : Nat} {l3 : Int32} {l4 : Int32} {h : eH} {q} (hf : fX15_add_b72 N k4 l0 l1 l3 l4 h = some q) : wp w (d + 1) YX15_add 72 [some (.ref l0), some (.ref l1), none, some (.int l3), some (.int l4)] [] h (e_is (e_rn c_V q)) := by
  unfold fX15_add_b72 at hf
  refine w_iload dX15_add_72 rfl ?_
  refine w_istore_n dX15_add_74 rfl (by decide) (ls' := [some (.ref l0), some (.ref l1), some (.int l4), some (.int l3), some (.int l4)]) rfl ?_
  refine w_iinc dX15_add_75 (v := (l3 + (1 : Int32))) rfl rfl (by decide) (ls' := [some (.ref l0), some (.ref l1), some (.int l4), some (.int (l3 + (1 : Int32))), some (.int l4)]) rfl ?_
  refine w_goto 4 dX15_add_78 (by decide) ?_
  exact (hk4 _ _ _ _ _ _ hf).to ⟨rfl, rfl, rfl, rfl, trivial⟩
def fX15_add_b125 (N : Nat) (k86 : Nat → Nat → Int32 → Int32 → Int32 → eH → Option (Unit × eH)) (l0 : Nat) (l1 : Nat) (l2 : Int32) (l3 : Int32) (l4 : Int32) (h : eH) : Option (Unit × eH) :=
  k86 l0 l1 l2 l3 (l4 + (1 : Int32)) h
theorem pX15_add_b125 {w : eW} {d : Nat} (hd : 3 ≤ d + 1) {N : Nat} {k86 : Nat → Nat → Int32 → Int32 → Int32 → eH → Option (Unit × eH)} (hk86 : ∀ l0 l1 l2 l3 l4 h q, k86 l0 l1 l2 l3 l4 h = some q → wp w (d + 1) YX15_add 86 [some (.ref l0), some (.ref l1), some (.int l2), some (.int l3), some (.int l4)] [] h (e_is (e_rn c_V q))) {l0 : Nat} {l1 : Nat} {l2 : Int32} {l3 : Int32} {l4 : Int32} {h : eH} {q} (hf : fX15_add_b125 N k86 l0 l1 l2 l3 l4 h = some q) : wp w (d + 1) YX15_add 125 [some (.ref l0), some (.ref l1), some (.int l2), some (.int l3), some (.int l4)] [] h (e_is (e_rn c_V q)) := by
  unfold fX15_add_b125 at hf
  refine w_iinc dX15_add_125 (v := (l4 + (1 : Int32))) rfl rfl (by decide) (ls' := [some (.ref l0), some (.ref l1), some (.int l2), some (.int l3), some (.int (l4 + (1 : Int32)))]) rfl ?_
  refine w_goto 86 dX15_add_128 (by decide) ?_
  exact (hk86 _ _ _ _ _ _ _ hf).to ⟨rfl, rfl, rfl, rfl, rfl, trivial⟩
def fX15_add_b86 (N : Nat) : Nat → Nat → Nat → Int32 → Int32 → Int32 → eH → Option (Unit × eH)
  | 0, _, _, _, _, _, _ => none
  | n + 1, l0, l1, l2, l3, l4, h =>
    (g_I 16 h l1 2).bind fun x1 =>
    if x1 < l4 then
      (g_A 14 h l0 3).bind fun a4 =>
      (q_V 100 h a4 l2 (.int l3)).bind fun h6 =>
      (g_A 14 h6 l0 18).bind fun a8 =>
      (g_I 14 h6 l0 19).bind fun x10 =>
      (p_V 14 h6 l0 19 (.int (x10 + (1 : Int32)))).bind fun h12 =>
      (q_V 100 h12 a8 x10 (.int l2)).bind fun h14 =>
      (g_I 14 h14 l0 16).bind fun x16 =>
      (p_V 14 h14 l0 16 (.int (x16 + (1 : Int32)))).bind fun h18 =>
      (p_Z 14 h18 l0 15 (0 : Int32)).bind fun h20 =>
      some ((), h20)
    else
      (g_A 16 h l1 1).bind fun a22 =>
      (r_I 102 h a22 l4).bind fun x24 =>
      if x24 ≤ 0 then
        fX15_add_b125 N (fX15_add_b86 N n) l0 l1 l2 l3 l4 h
      else
        (g_I 16 h l1 2).bind fun x27 =>
        (g_A 16 h l1 1).bind fun a29 =>
        (r_I 102 h a29 l4).bind fun x31 =>
        (k_ok 14 h l0).bind fun _ =>
        (fX15_link N l0 (x27 - l4) x31 l3 h).bind fun q34 =>
        fX15_add_b125 N (fX15_add_b86 N n) l0 l1 l2 q34.1 l4 q34.2
theorem pX15_add_b86 {w : eW} {d : Nat} (hd : 3 ≤ d + 1) {N : Nat} : ∀ (n : Nat) l0 l1 l2 l3 l4 h q, fX15_add_b86 N n l0 l1 l2 l3 l4 h = some q → wp w (d + 1) YX15_add 86 [some (.ref l0), some (.ref l1), some (.int l2), some (.int l3), some (.int l4)] [] h (e_is (e_rn c_V q)) := by
  intro n
  induction n with
  | zero => intro l0 l1 l2 l3 l4 h q hf; simp [fX15_add_b86] at hf
  | succ n ih =>
    intro l0 l1 l2 l3 l4 h q hf
    rw [fX15_add_b86] at hf
    refine w_iload dX15_add_86 rfl ?_
    refine w_aload_n dX15_add_88 rfl rfl ?_
    obtain ⟨x1, b2, hf⟩ := Option.bind_eq_some_iff.mp hf
    refine GX15_87 b2 dX15_add_89 rfl ?_
    refine w_icmp_gt 131 dX15_add_92 (by decide) (fun c3 => ?_) (fun c3 => ?_)
    · replace hf := (if_pos (show x1 < l4 from c3)).symm.trans hf
      refine w_aload_n dX15_add_131 rfl rfl ?_
      obtain ⟨a4, b5, hf⟩ := Option.bind_eq_some_iff.mp hf
      refine GX15_22 b5 dX15_add_132 rfl ?_
      refine w_iload_n dX15_add_135 rfl rfl ?_
      refine w_iload_n dX15_add_136 rfl rfl ?_
      obtain ⟨h6, b7, hf⟩ := Option.bind_eq_some_iff.mp hf
      refine x_qI b7 dX15_add_137 ?_
      refine w_aload_n dX15_add_138 rfl rfl ?_
      obtain ⟨a8, b9, hf⟩ := Option.bind_eq_some_iff.mp hf
      refine GX15_50 b9 dX15_add_139 rfl ?_
      refine w_aload_n dX15_add_142 rfl rfl ?_
      refine w_dup dX15_add_143 rfl ?_
      obtain ⟨x10, b11, hf⟩ := Option.bind_eq_some_iff.mp hf
      refine GX15_105 b11 dX15_add_144 rfl ?_
      refine w_dup_x1 dX15_add_147 rfl rfl ?_
      refine w_iconst dX15_add_148 (v := 1) (by decide) ?_
      refine w_iadd dX15_add_149 ?_
      obtain ⟨h12, b13, hf⟩ := Option.bind_eq_some_iff.mp hf
      refine SX15_105 b13 dX15_add_150 rfl ?_
      refine w_iload_n dX15_add_153 rfl rfl ?_
      obtain ⟨h14, b15, hf⟩ := Option.bind_eq_some_iff.mp hf
      refine x_qI b15 dX15_add_154 ?_
      refine w_aload_n dX15_add_155 rfl rfl ?_
      refine w_dup dX15_add_156 rfl ?_
      obtain ⟨x16, b17, hf⟩ := Option.bind_eq_some_iff.mp hf
      refine GX15_63 b17 dX15_add_157 rfl ?_
      refine w_iconst dX15_add_160 (v := 1) (by decide) ?_
      refine w_iadd dX15_add_161 ?_
      obtain ⟨h18, b19, hf⟩ := Option.bind_eq_some_iff.mp hf
      refine SX15_63 b19 dX15_add_162 rfl ?_
      refine w_aload_n dX15_add_165 rfl rfl ?_
      refine w_iconst dX15_add_166 (v := 0) (by decide) ?_
      obtain ⟨h20, b21, hf⟩ := Option.bind_eq_some_iff.mp hf
      refine SX15_73 b21 dX15_add_167 rfl ?_
      cases hf
      exact w_vret dX15_add_170 rfl rfl
    · replace hf := (if_neg (show ¬ (x1 < l4) from c3)).symm.trans hf
      refine w_aload_n dX15_add_95 rfl rfl ?_
      obtain ⟨a22, b23, hf⟩ := Option.bind_eq_some_iff.mp hf
      refine GX15_98 b23 dX15_add_96 rfl ?_
      refine w_iload dX15_add_99 rfl ?_
      obtain ⟨x24, b25, hf⟩ := Option.bind_eq_some_iff.mp hf
      refine x_rB b25 dX15_add_101 ?_
      refine w_if_le 125 dX15_add_102 (by decide) (fun c26 => ?_) (fun c26 => ?_)
      · replace hf := (if_pos (show x24 ≤ 0 from c26)).symm.trans hf
        exact (pX15_add_b125 hd ih hf).to ⟨rfl, rfl, rfl, rfl, rfl, trivial⟩
      · replace hf := (if_neg (show ¬ (x24 ≤ 0) from c26)).symm.trans hf
        refine w_aload_n dX15_add_105 rfl rfl ?_
        refine w_aload_n dX15_add_106 rfl rfl ?_
        obtain ⟨x27, b28, hf⟩ := Option.bind_eq_some_iff.mp hf
        refine GX15_87 b28 dX15_add_107 rfl ?_
        refine w_iload dX15_add_110 rfl ?_
        refine w_isub dX15_add_112 ?_
        refine w_aload_n dX15_add_113 rfl rfl ?_
        obtain ⟨a29, b30, hf⟩ := Option.bind_eq_some_iff.mp hf
        refine GX15_98 b30 dX15_add_114 rfl ?_
        refine w_iload dX15_add_117 rfl ?_
        obtain ⟨x31, b32, hf⟩ := Option.bind_eq_some_iff.mp hf
        refine x_rB b32 dX15_add_119 ?_
        refine w_iload_n dX15_add_120 rfl rfl ?_
        obtain ⟨_, b33, hf⟩ := Option.bind_eq_some_iff.mp hf
        refine x_cnI hf (e_stV (Yc := YX15_link) (ci := 14) (av := [.int (x27 - l4), .int x31, .int l3]) (st := []) dX15_add_121 q2393 mX15_link rfl (k_ok_some b33).1 (k_ok_some b33).2) mX15_link.2.2.1 mX15_link.2.2.2.2.1 (Nat.le_of_ble_eq_true rfl) (Nat.le_of_ble_eq_true rfl) (fun q hq => pX15_link (by omega) hq) (fun q34 hf => ?_)
        refine w_istore_n dX15_add_124 rfl (by decide) (ls' := [some (.ref l0), some (.ref l1), some (.int l2), some (.int q34.1), some (.int l4)]) rfl ?_
        exact (pX15_add_b125 hd ih hf).to ⟨rfl, rfl, rfl, rfl, rfl, trivial⟩
def fX15_add_b4 (N : Nat) : Nat → Nat → Nat → Int32 → Int32 → eH → Option (Unit × eH)
  | 0, _, _, _, _, _ => none
  | n + 1, l0, l1, l2, l3, h =>
    (g_I 16 h l1 2).bind fun x1 =>
    if x1 ≤ l3 then
      fX15_add_b86 N N l0 l1 l2 (-1 : Int32) (0 : Int32) h
    else
      (g_A 16 h l1 0).bind fun a4 =>
      (r_I 102 h a4 l3).bind fun x6 =>
      (k_ok 14 h l0).bind fun _ =>
      (fX15_child N l0 l2 x6 h).bind fun q9 =>
      if ¬ q9.1 = (-1 : Int32) then
        fX15_add_b72 N (fX15_add_b4 N n) l0 l1 l3 q9.1 q9.2
      else
        (g_A 16 q9.2 l1 0).bind fun a11 =>
        (r_I 102 q9.2 a11 l3).bind fun x13 =>
        (k_ok 14 q9.2 l0).bind fun _ =>
        (fX15_fresh l0 x13 q9.2).bind fun q16 =>
        (g_A 14 q16.2 l0 4).bind fun a17 =>
        (q_V 100 q16.2 a17 q16.1 (.int l2)).bind fun h19 =>
        (g_A 14 h19 l0 1).bind fun a21 =>
        (g_A 14 h19 l0 0).bind fun a23 =>
        (r_I 100 h19 a23 l2).bind fun x25 =>
        (q_V 100 h19 a21 q16.1 (.int x25)).bind fun h27 =>
        (g_A 14 h27 l0 0).bind fun a29 =>
        (q_V 100 h27 a29 l2 (.int q16.1)).bind fun h31 =>
        fX15_add_b72 N (fX15_add_b4 N n) l0 l1 l3 q16.1 h31
theorem pX15_add_b4 {w : eW} {d : Nat} (hd : 3 ≤ d + 1) {N : Nat} : ∀ (n : Nat) l0 l1 l2 l3 h q, fX15_add_b4 N n l0 l1 l2 l3 h = some q → wp w (d + 1) YX15_add 4 [some (.ref l0), some (.ref l1), some (.int l2), some (.int l3), none] [] h (e_is (e_rn c_V q)) := by
  intro n
  induction n with
  | zero => intro l0 l1 l2 l3 h q hf; simp [fX15_add_b4] at hf
  | succ n ih =>
    intro l0 l1 l2 l3 h q hf
    rw [fX15_add_b4] at hf
    refine w_iload_n dX15_add_4 rfl rfl ?_
    refine w_aload_n dX15_add_5 rfl rfl ?_
    obtain ⟨x1, b2, hf⟩ := Option.bind_eq_some_iff.mp hf
    refine GX15_87 b2 dX15_add_6 rfl ?_
    refine w_icmp_ge 81 dX15_add_9 (by decide) (fun c3 => ?_) (fun c3 => ?_)
    · replace hf := (if_pos (show x1 ≤ l3 from c3)).symm.trans hf
      refine w_iconst dX15_add_81 (v := -1) (by decide) ?_
      refine w_istore_n dX15_add_82 rfl (by decide) (ls' := [some (.ref l0), some (.ref l1), some (.int l2), some (.int (-1 : Int32)), none]) rfl ?_
      refine w_iconst dX15_add_83 (v := 0) (by decide) ?_
      refine w_istore dX15_add_84 (by decide) (ls' := [some (.ref l0), some (.ref l1), some (.int l2), some (.int (-1 : Int32)), some (.int (0 : Int32))]) rfl ?_
      exact (pX15_add_b86 hd N _ _ _ _ _ _ _ hf).to ⟨rfl, rfl, rfl, rfl, rfl, trivial⟩
    · replace hf := (if_neg (show ¬ (x1 ≤ l3) from c3)).symm.trans hf
      refine w_aload_n dX15_add_12 rfl rfl ?_
      refine w_iload_n dX15_add_13 rfl rfl ?_
      refine w_aload_n dX15_add_14 rfl rfl ?_
      obtain ⟨a4, b5, hf⟩ := Option.bind_eq_some_iff.mp hf
      refine GX15_92 b5 dX15_add_15 rfl ?_
      refine w_iload_n dX15_add_18 rfl rfl ?_
      obtain ⟨x6, b7, hf⟩ := Option.bind_eq_some_iff.mp hf
      refine x_rB b7 dX15_add_19 ?_
      obtain ⟨_, b8, hf⟩ := Option.bind_eq_some_iff.mp hf
      refine x_cnI hf (e_stV (Yc := YX15_child) (ci := 14) (av := [.int l2, .int x6]) (st := []) dX15_add_20 q2385 mX15_child rfl (k_ok_some b8).1 (k_ok_some b8).2) mX15_child.2.2.1 mX15_child.2.2.2.2.1 (Nat.le_of_ble_eq_true rfl) (Nat.le_of_ble_eq_true rfl) (fun q hq => pX15_child (by omega) hq) (fun q9 hf => ?_)
      refine w_istore dX15_add_23 (by decide) (ls' := [some (.ref l0), some (.ref l1), some (.int l2), some (.int l3), some (.int q9.1)]) rfl ?_
      refine w_iload dX15_add_25 rfl ?_
      refine w_iconst dX15_add_27 (v := -1) (by decide) ?_
      refine w_icmp_ne 72 dX15_add_28 (by decide) (fun c10 => ?_) (fun c10 => ?_)
      · replace hf := (if_pos (show ¬ q9.1 = (-1 : Int32) from c10)).symm.trans hf
        exact (pX15_add_b72 hd ih hf).to ⟨rfl, rfl, rfl, rfl, trivial⟩
      · replace hf := (if_neg (show ¬ (¬ q9.1 = (-1 : Int32)) from (fun z => z c10))).symm.trans hf
        refine w_aload_n dX15_add_31 rfl rfl ?_
        refine w_aload_n dX15_add_32 rfl rfl ?_
        obtain ⟨a11, b12, hf⟩ := Option.bind_eq_some_iff.mp hf
        refine GX15_92 b12 dX15_add_33 rfl ?_
        refine w_iload_n dX15_add_36 rfl rfl ?_
        obtain ⟨x13, b14, hf⟩ := Option.bind_eq_some_iff.mp hf
        refine x_rB b14 dX15_add_37 ?_
        obtain ⟨_, b15, hf⟩ := Option.bind_eq_some_iff.mp hf
        refine x_cnI hf (e_stV (Yc := YX15_fresh) (ci := 14) (av := [.int x13]) (st := []) dX15_add_38 q946 mX15_fresh rfl (k_ok_some b15).1 (k_ok_some b15).2) mX15_fresh.2.2.1 mX15_fresh.2.2.2.2.1 (Nat.le_of_ble_eq_true rfl) (Nat.le_of_ble_eq_true rfl) (fun q hq => pX15_fresh (by omega) hq) (fun q16 hf => ?_)
        refine w_istore dX15_add_41 (by decide) (ls' := [some (.ref l0), some (.ref l1), some (.int l2), some (.int l3), some (.int q16.1)]) rfl ?_
        refine w_aload_n dX15_add_43 rfl rfl ?_
        obtain ⟨a17, b18, hf⟩ := Option.bind_eq_some_iff.mp hf
        refine GX15_25 b18 dX15_add_44 rfl ?_
        refine w_iload dX15_add_47 rfl ?_
        refine w_iload_n dX15_add_49 rfl rfl ?_
        obtain ⟨h19, b20, hf⟩ := Option.bind_eq_some_iff.mp hf
        refine x_qI b20 dX15_add_50 ?_
        refine w_aload_n dX15_add_51 rfl rfl ?_
        obtain ⟨a21, b22, hf⟩ := Option.bind_eq_some_iff.mp hf
        refine GX15_15 b22 dX15_add_52 rfl ?_
        refine w_iload dX15_add_55 rfl ?_
        refine w_aload_n dX15_add_57 rfl rfl ?_
        obtain ⟨a23, b24, hf⟩ := Option.bind_eq_some_iff.mp hf
        refine GX15_9 b24 dX15_add_58 rfl ?_
        refine w_iload_n dX15_add_61 rfl rfl ?_
        obtain ⟨x25, b26, hf⟩ := Option.bind_eq_some_iff.mp hf
        refine x_rI b26 dX15_add_62 ?_
        obtain ⟨h27, b28, hf⟩ := Option.bind_eq_some_iff.mp hf
        refine x_qI b28 dX15_add_63 ?_
        refine w_aload_n dX15_add_64 rfl rfl ?_
        obtain ⟨a29, b30, hf⟩ := Option.bind_eq_some_iff.mp hf
        refine GX15_9 b30 dX15_add_65 rfl ?_
        refine w_iload_n dX15_add_68 rfl rfl ?_
        refine w_iload dX15_add_69 rfl ?_
        obtain ⟨h31, b32, hf⟩ := Option.bind_eq_some_iff.mp hf
        refine x_qI b32 dX15_add_71 ?_
        exact (pX15_add_b72 hd ih hf).to ⟨rfl, rfl, rfl, rfl, trivial⟩
def fX15_add (N : Nat) (this : Nat) (p0 : Nat) (h : eH) : Option (Unit × eH) :=
  fX15_add_b4 N N this p0 (0 : Int32) (0 : Int32) h
theorem pX15_add {w : eW} {d : Nat} (hd : 3 ≤ d) {N : Nat} {this : Nat} {p0 : Nat} {h : eH} {q} (hf : fX15_add N this p0 h = some q) : wm w d YX15_add [.ref this, .ref p0] h (e_is (e_rn c_V q)) := by
  obtain ⟨d, rfl⟩ : ∃ e, d = e + 1 := ⟨d - 1, by omega⟩
  show wp w (d + 1) YX15_add 0 [some (.ref this), some (.ref p0), none, none, none] [] h _
  unfold fX15_add at hf
  refine w_iconst dX15_add_0 (v := 0) (by decide) ?_
  refine w_istore_n dX15_add_1 rfl (by decide) (ls' := [some (.ref this), some (.ref p0), some (.int (0 : Int32)), none, none]) rfl ?_
  refine w_iconst dX15_add_2 (v := 0) (by decide) ?_
  refine w_istore_n dX15_add_3 rfl (by decide) (ls' := [some (.ref this), some (.ref p0), some (.int (0 : Int32)), some (.int (0 : Int32)), none]) rfl ?_
  exact (pX15_add_b4 hd N _ _ _ _ _ _ hf).to ⟨rfl, rfl, rfl, rfl, trivial⟩
abbrev cX14_readPattern : ByteArray := prog_10_method_10_code
def yX14_readPattern : MethodName := ⟨RX14, "readPattern", "()V"⟩
def YX14_readPattern : eY := (yX14_readPattern, cX14_readPattern, 4, none, [])
theorem mX14_readPattern : e_mv YX14_readPattern RX14 0 := ⟨q2372, qs38, q2373, by decide, by decide +kernel, (e_sig (by decide +kernel))⟩
theorem dX14_readPattern_0 : decode cX14_readPattern 0 = .ok (.aload_n 0, 1) := dc_42 (by decide +kernel)
theorem dX14_readPattern_1 : decode cX14_readPattern 1 = .ok (.getfield 35, 3) := dc_180 (a := 0) (b := 35) (n := 35) (by decide +kernel)
theorem dX14_readPattern_4 : decode cX14_readPattern 4 = .ok (.istore_n 1, 1) := dc_60 (by decide +kernel)
theorem dX14_readPattern_5 : decode cX14_readPattern 5 = .ok (.aload_n 0, 1) := dc_42 (by decide +kernel)
theorem dX14_readPattern_6 : decode cX14_readPattern 6 = .ok (.getfield 28, 3) := dc_180 (a := 0) (b := 28) (n := 28) (by decide +kernel)
theorem dX14_readPattern_9 : decode cX14_readPattern 9 = .ok (.invokevirtual 73, 3) := dc_182 (a := 0) (b := 73) (n := 73) (by decide +kernel)
theorem dX14_readPattern_12 : decode cX14_readPattern 12 = .ok (.aload_n 0, 1) := dc_42 (by decide +kernel)
theorem dX14_readPattern_13 : decode cX14_readPattern 13 = .ok (.invokevirtual 53, 3) := dc_182 (a := 0) (b := 53) (n := 53) (by decide +kernel)
theorem dX14_readPattern_16 : decode cX14_readPattern 16 = .ok (.bipush 46, 2) := dc_16 (a := 46) (v := 46) (by decide +kernel)
theorem dX14_readPattern_18 : decode cX14_readPattern 18 = .ok (.if_icmp .ne 21, 3) := dc_160 (a := 0) (b := 21) (v := 21) (by decide +kernel)
theorem dX14_readPattern_21 : decode cX14_readPattern 21 = .ok (.aload_n 0, 1) := dc_42 (by decide +kernel)
theorem dX14_readPattern_22 : decode cX14_readPattern 22 = .ok (.getfield 28, 3) := dc_180 (a := 0) (b := 28) (n := 28) (by decide +kernel)
theorem dX14_readPattern_25 : decode cX14_readPattern 25 = .ok (.iconst 0, 1) := dc_3 (by decide +kernel)
theorem dX14_readPattern_26 : decode cX14_readPattern 26 = .ok (.invokevirtual 69, 3) := dc_182 (a := 0) (b := 69) (n := 69) (by decide +kernel)
theorem dX14_readPattern_29 : decode cX14_readPattern 29 = .ok (.aload_n 0, 1) := dc_42 (by decide +kernel)
theorem dX14_readPattern_30 : decode cX14_readPattern 30 = .ok (.dup, 1) := dc_89 (by decide +kernel)
theorem dX14_readPattern_31 : decode cX14_readPattern 31 = .ok (.getfield 35, 3) := dc_180 (a := 0) (b := 35) (n := 35) (by decide +kernel)
theorem dX14_readPattern_34 : decode cX14_readPattern 34 = .ok (.iconst 1, 1) := dc_4 (by decide +kernel)
theorem dX14_readPattern_35 : decode cX14_readPattern 35 = .ok (.iadd, 1) := dc_96 (by decide +kernel)
theorem dX14_readPattern_36 : decode cX14_readPattern 36 = .ok (.putfield 35, 3) := dc_181 (a := 0) (b := 35) (n := 35) (by decide +kernel)
theorem dX14_readPattern_39 : decode cX14_readPattern 39 = .ok (.iconst 0, 1) := dc_3 (by decide +kernel)
theorem dX14_readPattern_40 : decode cX14_readPattern 40 = .ok (.istore_n 2, 1) := dc_61 (by decide +kernel)
theorem dX14_readPattern_41 : decode cX14_readPattern 41 = .ok (.aload_n 0, 1) := dc_42 (by decide +kernel)
theorem dX14_readPattern_42 : decode cX14_readPattern 42 = .ok (.invokevirtual 53, 3) := dc_182 (a := 0) (b := 53) (n := 53) (by decide +kernel)
theorem dX14_readPattern_45 : decode cX14_readPattern 45 = .ok (.invokestatic 76, 3) := dc_184 (a := 0) (b := 76) (n := 76) (by decide +kernel)
theorem dX14_readPattern_48 : decode cX14_readPattern 48 = .ok (.ifCond .eq 7, 3) := dc_153 (a := 0) (b := 7) (v := 7) (by decide +kernel)
theorem dX14_readPattern_51 : decode cX14_readPattern 51 = .ok (.aload_n 0, 1) := dc_42 (by decide +kernel)
theorem dX14_readPattern_52 : decode cX14_readPattern 52 = .ok (.invokevirtual 80, 3) := dc_182 (a := 0) (b := 80) (n := 80) (by decide +kernel)
theorem dX14_readPattern_55 : decode cX14_readPattern 55 = .ok (.aload_n 0, 1) := dc_42 (by decide +kernel)
theorem dX14_readPattern_56 : decode cX14_readPattern 56 = .ok (.invokevirtual 83, 3) := dc_182 (a := 0) (b := 83) (n := 83) (by decide +kernel)
theorem dX14_readPattern_59 : decode cX14_readPattern 59 = .ok (.ifCond .ne 37, 3) := dc_154 (a := 0) (b := 37) (v := 37) (by decide +kernel)
theorem dX14_readPattern_62 : decode cX14_readPattern 62 = .ok (.aload_n 0, 1) := dc_42 (by decide +kernel)
theorem dX14_readPattern_63 : decode cX14_readPattern 63 = .ok (.invokevirtual 53, 3) := dc_182 (a := 0) (b := 53) (n := 53) (by decide +kernel)
theorem dX14_readPattern_66 : decode cX14_readPattern 66 = .ok (.bipush 46, 2) := dc_16 (a := 46) (v := 46) (by decide +kernel)
theorem dX14_readPattern_68 : decode cX14_readPattern 68 = .ok (.if_icmp .eq 28, 3) := dc_159 (a := 0) (b := 28) (v := 28) (by decide +kernel)
theorem dX14_readPattern_71 : decode cX14_readPattern 71 = .ok (.iinc 2 1, 3) := dc_132 (a := 2) (b := 1) (v := 1) (by decide +kernel)
theorem dX14_readPattern_74 : decode cX14_readPattern 74 = .ok (.aload_n 0, 1) := dc_42 (by decide +kernel)
theorem dX14_readPattern_75 : decode cX14_readPattern 75 = .ok (.iload_n 2, 1) := dc_28 (by decide +kernel)
theorem dX14_readPattern_76 : decode cX14_readPattern 76 = .ok (.invokevirtual 87, 3) := dc_182 (a := 0) (b := 87) (n := 87) (by decide +kernel)
theorem dX14_readPattern_79 : decode cX14_readPattern 79 = .ok (.aload_n 0, 1) := dc_42 (by decide +kernel)
theorem dX14_readPattern_80 : decode cX14_readPattern 80 = .ok (.invokevirtual 53, 3) := dc_182 (a := 0) (b := 53) (n := 53) (by decide +kernel)
theorem dX14_readPattern_83 : decode cX14_readPattern 83 = .ok (.invokestatic 76, 3) := dc_184 (a := 0) (b := 76) (n := 76) (by decide +kernel)
theorem dX14_readPattern_86 : decode cX14_readPattern 86 = .ok (.ifCond .eq (-31), 3) := dc_153 (a := 255) (b := 225) (v := -31) (by decide +kernel)
theorem dX14_readPattern_89 : decode cX14_readPattern 89 = .ok (.aload_n 0, 1) := dc_42 (by decide +kernel)
theorem dX14_readPattern_90 : decode cX14_readPattern 90 = .ok (.invokevirtual 80, 3) := dc_182 (a := 0) (b := 80) (n := 80) (by decide +kernel)
theorem dX14_readPattern_93 : decode cX14_readPattern 93 = .ok (.goto (-38), 3) := dc_167 (a := 255) (b := 218) (v := -38) (by decide +kernel)
theorem dX14_readPattern_96 : decode cX14_readPattern 96 = .ok (.aload_n 0, 1) := dc_42 (by decide +kernel)
theorem dX14_readPattern_97 : decode cX14_readPattern 97 = .ok (.iload_n 2, 1) := dc_28 (by decide +kernel)
theorem dX14_readPattern_98 : decode cX14_readPattern 98 = .ok (.ifCond .le 7, 3) := dc_158 (a := 0) (b := 7) (v := 7) (by decide +kernel)
theorem dX14_readPattern_101 : decode cX14_readPattern 101 = .ok (.iconst 1, 1) := dc_4 (by decide +kernel)
theorem dX14_readPattern_102 : decode cX14_readPattern 102 = .ok (.goto 4, 3) := dc_167 (a := 0) (b := 4) (v := 4) (by decide +kernel)
theorem dX14_readPattern_105 : decode cX14_readPattern 105 = .ok (.iconst 0, 1) := dc_3 (by decide +kernel)
theorem dX14_readPattern_106 : decode cX14_readPattern 106 = .ok (.iconst 1, 1) := dc_4 (by decide +kernel)
theorem dX14_readPattern_107 : decode cX14_readPattern 107 = .ok (.aload_n 0, 1) := dc_42 (by decide +kernel)
theorem dX14_readPattern_108 : decode cX14_readPattern 108 = .ok (.getfield 35, 3) := dc_180 (a := 0) (b := 35) (n := 35) (by decide +kernel)
theorem dX14_readPattern_111 : decode cX14_readPattern 111 = .ok (.invokevirtual 65, 3) := dc_182 (a := 0) (b := 65) (n := 65) (by decide +kernel)
theorem dX14_readPattern_114 : decode cX14_readPattern 114 = .ok (.aload_n 0, 1) := dc_42 (by decide +kernel)
theorem dX14_readPattern_115 : decode cX14_readPattern 115 = .ok (.invokevirtual 53, 3) := dc_182 (a := 0) (b := 53) (n := 53) (by decide +kernel)
theorem dX14_readPattern_118 : decode cX14_readPattern 118 = .ok (.bipush 46, 2) := dc_16 (a := 46) (v := 46) (by decide +kernel)
theorem dX14_readPattern_120 : decode cX14_readPattern 120 = .ok (.if_icmp .ne 7, 3) := dc_160 (a := 0) (b := 7) (v := 7) (by decide +kernel)
theorem dX14_readPattern_123 : decode cX14_readPattern 123 = .ok (.iconst 1, 1) := dc_4 (by decide +kernel)
theorem dX14_readPattern_124 : decode cX14_readPattern 124 = .ok (.goto 4, 3) := dc_167 (a := 0) (b := 4) (v := 4) (by decide +kernel)
theorem dX14_readPattern_127 : decode cX14_readPattern 127 = .ok (.iconst 0, 1) := dc_3 (by decide +kernel)
theorem dX14_readPattern_128 : decode cX14_readPattern 128 = .ok (.istore_n 3, 1) := dc_62 (by decide +kernel)
theorem dX14_readPattern_129 : decode cX14_readPattern 129 = .ok (.aload_n 0, 1) := dc_42 (by decide +kernel)
theorem dX14_readPattern_130 : decode cX14_readPattern 130 = .ok (.dup, 1) := dc_89 (by decide +kernel)
theorem dX14_readPattern_131 : decode cX14_readPattern 131 = .ok (.getfield 35, 3) := dc_180 (a := 0) (b := 35) (n := 35) (by decide +kernel)
theorem dX14_readPattern_134 : decode cX14_readPattern 134 = .ok (.iload_n 3, 1) := dc_29 (by decide +kernel)
theorem dX14_readPattern_135 : decode cX14_readPattern 135 = .ok (.ifCond .eq 7, 3) := dc_153 (a := 0) (b := 7) (v := 7) (by decide +kernel)
theorem dX14_readPattern_138 : decode cX14_readPattern 138 = .ok (.iconst 1, 1) := dc_4 (by decide +kernel)
theorem dX14_readPattern_139 : decode cX14_readPattern 139 = .ok (.goto 4, 3) := dc_167 (a := 0) (b := 4) (v := 4) (by decide +kernel)
theorem dX14_readPattern_142 : decode cX14_readPattern 142 = .ok (.iconst 0, 1) := dc_3 (by decide +kernel)
theorem dX14_readPattern_143 : decode cX14_readPattern 143 = .ok (.iadd, 1) := dc_96 (by decide +kernel)
theorem dX14_readPattern_144 : decode cX14_readPattern 144 = .ok (.putfield 35, 3) := dc_181 (a := 0) (b := 35) (n := 35) (by decide +kernel)
theorem dX14_readPattern_147 : decode cX14_readPattern 147 = .ok (.aload_n 0, 1) := dc_42 (by decide +kernel)
theorem dX14_readPattern_148 : decode cX14_readPattern 148 = .ok (.aload_n 0, 1) := dc_42 (by decide +kernel)
theorem dX14_readPattern_149 : decode cX14_readPattern 149 = .ok (.invokevirtual 83, 3) := dc_182 (a := 0) (b := 83) (n := 83) (by decide +kernel)
theorem dX14_readPattern_152 : decode cX14_readPattern 152 = .ok (.iconst 1, 1) := dc_4 (by decide +kernel)
theorem dX14_readPattern_153 : decode cX14_readPattern 153 = .ok (.aload_n 0, 1) := dc_42 (by decide +kernel)
theorem dX14_readPattern_154 : decode cX14_readPattern 154 = .ok (.getfield 35, 3) := dc_180 (a := 0) (b := 35) (n := 35) (by decide +kernel)
theorem dX14_readPattern_157 : decode cX14_readPattern 157 = .ok (.invokevirtual 65, 3) := dc_182 (a := 0) (b := 65) (n := 65) (by decide +kernel)
theorem dX14_readPattern_160 : decode cX14_readPattern 160 = .ok (.aload_n 0, 1) := dc_42 (by decide +kernel)
theorem dX14_readPattern_161 : decode cX14_readPattern 161 = .ok (.iload_n 2, 1) := dc_28 (by decide +kernel)
theorem dX14_readPattern_162 : decode cX14_readPattern 162 = .ok (.bipush 63, 2) := dc_16 (a := 63) (v := 63) (by decide +kernel)
theorem dX14_readPattern_164 : decode cX14_readPattern 164 = .ok (.if_icmp .gt 7, 3) := dc_163 (a := 0) (b := 7) (v := 7) (by decide +kernel)
theorem dX14_readPattern_167 : decode cX14_readPattern 167 = .ok (.iconst 1, 1) := dc_4 (by decide +kernel)
theorem dX14_readPattern_168 : decode cX14_readPattern 168 = .ok (.goto 4, 3) := dc_167 (a := 0) (b := 4) (v := 4) (by decide +kernel)
theorem dX14_readPattern_171 : decode cX14_readPattern 171 = .ok (.iconst 0, 1) := dc_3 (by decide +kernel)
theorem dX14_readPattern_172 : decode cX14_readPattern 172 = .ok (.iconst 2, 1) := dc_5 (by decide +kernel)
theorem dX14_readPattern_173 : decode cX14_readPattern 173 = .ok (.iload_n 1, 1) := dc_27 (by decide +kernel)
theorem dX14_readPattern_174 : decode cX14_readPattern 174 = .ok (.invokevirtual 65, 3) := dc_182 (a := 0) (b := 65) (n := 65) (by decide +kernel)
theorem dX14_readPattern_177 : decode cX14_readPattern 177 = .ok (.iload_n 3, 1) := dc_29 (by decide +kernel)
theorem dX14_readPattern_178 : decode cX14_readPattern 178 = .ok (.ifCond .eq 11, 3) := dc_153 (a := 0) (b := 11) (v := 11) (by decide +kernel)
theorem dX14_readPattern_181 : decode cX14_readPattern 181 = .ok (.aload_n 0, 1) := dc_42 (by decide +kernel)
theorem dX14_readPattern_182 : decode cX14_readPattern 182 = .ok (.getfield 28, 3) := dc_180 (a := 0) (b := 28) (n := 28) (by decide +kernel)
theorem dX14_readPattern_185 : decode cX14_readPattern 185 = .ok (.iconst 0, 1) := dc_3 (by decide +kernel)
theorem dX14_readPattern_186 : decode cX14_readPattern 186 = .ok (.invokevirtual 69, 3) := dc_182 (a := 0) (b := 69) (n := 69) (by decide +kernel)
theorem dX14_readPattern_189 : decode cX14_readPattern 189 = .ok (.aload_n 0, 1) := dc_42 (by decide +kernel)
theorem dX14_readPattern_190 : decode cX14_readPattern 190 = .ok (.aload_n 0, 1) := dc_42 (by decide +kernel)
theorem dX14_readPattern_191 : decode cX14_readPattern 191 = .ok (.getfield 12, 3) := dc_180 (a := 0) (b := 12) (n := 12) (by decide +kernel)
theorem dX14_readPattern_194 : decode cX14_readPattern 194 = .ok (.aload_n 0, 1) := dc_42 (by decide +kernel)
theorem dX14_readPattern_195 : decode cX14_readPattern 195 = .ok (.getfield 28, 3) := dc_180 (a := 0) (b := 28) (n := 28) (by decide +kernel)
theorem dX14_readPattern_198 : decode cX14_readPattern 198 = .ok (.invokevirtual 90, 3) := dc_182 (a := 0) (b := 90) (n := 90) (by decide +kernel)
theorem dX14_readPattern_201 : decode cX14_readPattern 201 = .ok (.ifCond .ne 7, 3) := dc_154 (a := 0) (b := 7) (v := 7) (by decide +kernel)
theorem dX14_readPattern_204 : decode cX14_readPattern 204 = .ok (.iconst 1, 1) := dc_4 (by decide +kernel)
theorem dX14_readPattern_205 : decode cX14_readPattern 205 = .ok (.goto 4, 3) := dc_167 (a := 0) (b := 4) (v := 4) (by decide +kernel)
theorem dX14_readPattern_208 : decode cX14_readPattern 208 = .ok (.iconst 0, 1) := dc_3 (by decide +kernel)
theorem dX14_readPattern_209 : decode cX14_readPattern 209 = .ok (.iconst 3, 1) := dc_6 (by decide +kernel)
theorem dX14_readPattern_210 : decode cX14_readPattern 210 = .ok (.iload_n 1, 1) := dc_27 (by decide +kernel)
theorem dX14_readPattern_211 : decode cX14_readPattern 211 = .ok (.invokevirtual 65, 3) := dc_182 (a := 0) (b := 65) (n := 65) (by decide +kernel)
theorem dX14_readPattern_214 : decode cX14_readPattern 214 = .ok (.aload_n 0, 1) := dc_42 (by decide +kernel)
theorem dX14_readPattern_215 : decode cX14_readPattern 215 = .ok (.getfield 12, 3) := dc_180 (a := 0) (b := 12) (n := 12) (by decide +kernel)
theorem dX14_readPattern_218 : decode cX14_readPattern 218 = .ok (.dup, 1) := dc_89 (by decide +kernel)
theorem dX14_readPattern_219 : decode cX14_readPattern 219 = .ok (.getfield 94, 3) := dc_180 (a := 0) (b := 94) (n := 94) (by decide +kernel)
theorem dX14_readPattern_222 : decode cX14_readPattern 222 = .ok (.iload_n 2, 1) := dc_28 (by decide +kernel)
theorem dX14_readPattern_223 : decode cX14_readPattern 223 = .ok (.iadd, 1) := dc_96 (by decide +kernel)
theorem dX14_readPattern_224 : decode cX14_readPattern 224 = .ok (.putfield 94, 3) := dc_181 (a := 0) (b := 94) (n := 94) (by decide +kernel)
theorem dX14_readPattern_227 : decode cX14_readPattern 227 = .ok (.aload_n 0, 1) := dc_42 (by decide +kernel)
theorem dX14_readPattern_228 : decode cX14_readPattern 228 = .ok (.aload_n 0, 1) := dc_42 (by decide +kernel)
theorem dX14_readPattern_229 : decode cX14_readPattern 229 = .ok (.getfield 12, 3) := dc_180 (a := 0) (b := 12) (n := 12) (by decide +kernel)
theorem dX14_readPattern_232 : decode cX14_readPattern 232 = .ok (.getfield 97, 3) := dc_180 (a := 0) (b := 97) (n := 97) (by decide +kernel)
theorem dX14_readPattern_235 : decode cX14_readPattern 235 = .ok (.sipush 1000, 3) := dc_17 (a := 3) (b := 232) (v := 1000) (by decide +kernel)
theorem dX14_readPattern_238 : decode cX14_readPattern 238 = .ok (.if_icmp .ge 20, 3) := dc_162 (a := 0) (b := 20) (v := 20) (by decide +kernel)
theorem dX14_readPattern_241 : decode cX14_readPattern 241 = .ok (.aload_n 0, 1) := dc_42 (by decide +kernel)
theorem dX14_readPattern_242 : decode cX14_readPattern 242 = .ok (.getfield 12, 3) := dc_180 (a := 0) (b := 12) (n := 12) (by decide +kernel)
theorem dX14_readPattern_245 : decode cX14_readPattern 245 = .ok (.getfield 94, 3) := dc_180 (a := 0) (b := 94) (n := 94) (by decide +kernel)
theorem dX14_readPattern_248 : decode cX14_readPattern 248 = .ok (.sipush 8000, 3) := dc_17 (a := 31) (b := 64) (v := 8000) (by decide +kernel)
theorem dX14_readPattern_251 : decode cX14_readPattern 251 = .ok (.if_icmp .gt 7, 3) := dc_163 (a := 0) (b := 7) (v := 7) (by decide +kernel)
theorem dX14_readPattern_254 : decode cX14_readPattern 254 = .ok (.iconst 1, 1) := dc_4 (by decide +kernel)
theorem dX14_readPattern_255 : decode cX14_readPattern 255 = .ok (.goto 4, 3) := dc_167 (a := 0) (b := 4) (v := 4) (by decide +kernel)
theorem dX14_readPattern_258 : decode cX14_readPattern 258 = .ok (.iconst 0, 1) := dc_3 (by decide +kernel)
theorem dX14_readPattern_259 : decode cX14_readPattern 259 = .ok (.iconst 4, 1) := dc_7 (by decide +kernel)
theorem dX14_readPattern_260 : decode cX14_readPattern 260 = .ok (.iload_n 1, 1) := dc_27 (by decide +kernel)
theorem dX14_readPattern_261 : decode cX14_readPattern 261 = .ok (.invokevirtual 65, 3) := dc_182 (a := 0) (b := 65) (n := 65) (by decide +kernel)
theorem dX14_readPattern_264 : decode cX14_readPattern 264 = .ok (.aload_n 0, 1) := dc_42 (by decide +kernel)
theorem dX14_readPattern_265 : decode cX14_readPattern 265 = .ok (.getfield 12, 3) := dc_180 (a := 0) (b := 12) (n := 12) (by decide +kernel)
theorem dX14_readPattern_268 : decode cX14_readPattern 268 = .ok (.aload_n 0, 1) := dc_42 (by decide +kernel)
theorem dX14_readPattern_269 : decode cX14_readPattern 269 = .ok (.getfield 28, 3) := dc_180 (a := 0) (b := 28) (n := 28) (by decide +kernel)
theorem dX14_readPattern_272 : decode cX14_readPattern 272 = .ok (.invokevirtual 100, 3) := dc_182 (a := 0) (b := 100) (n := 100) (by decide +kernel)
theorem dX14_readPattern_275 : decode cX14_readPattern 275 = .ok (.return_, 1) := dc_177 (by decide +kernel)
theorem GX14_94 {w : eW} {d : Nat} {Y : eY} {pc : Nat} {ls : eL} {st : List Value} {h : eH} {Q : eO → eH → Prop} {a : Nat} {x : Int32} (hf : g_I 14 h a 17 = some x) (hd : decode Y.2.1 pc = .ok (.getfield 94, 3)) (hY : Y.1.cls = RX14) (kk : wp w d Y (pc + 3) ls (.int x :: st) h Q) : wp w d Y pc ls (.ref a :: st) h Q := x_gIN (ci := 14) (k := 17) hf hd rfl (by decide) (by rw [hY]; exact q976) kk
theorem SX14_94 {w : eW} {d : Nat} {Y : eY} {pc : Nat} {ls : eL} {st : List Value} {h : eH} {Q : eO → eH → Prop} {a : Nat} {h' : eH} {x : Int32} (hf : p_V 14 h a 17 (.int x) = some h') (hd : decode Y.2.1 pc = .ok (.putfield 94, 3)) (hY : Y.1.cls = RX14) (kk : wp w d Y (pc + 3) ls st h' Q) : wp w d Y pc ls (.int x :: .ref a :: st) h Q := x_pIN (ci := 14) (k := 17) hf hd rfl (by decide) (by rw [hY]; exact q976) rfl rfl kk
def fX14_readPattern_b259 (N : Nat) (l0 : Nat) (l1 : Int32) (s0 : Nat) (s1 : Int32) (h : eH) : Option ((Unit ⊕ Nat) × eH) :=
  (k_ok 13 h s0).bind fun _ =>
  t_B (fX14_want s0 s1 (4 : Int32) l1 h) fun x2 h3 =>
  (g_A 13 h3 l0 0).bind fun a4 =>
  (g_A 13 h3 l0 2).bind fun a6 =>
  (k_ok 14 h3 a4).bind fun _ =>
  (fX15_add N a4 a6 h3).bind fun q9 =>
  some (.inl (), q9.2)
theorem pX14_readPattern_b259 {w : eW} {d : Nat} (hd : 8 ≤ d + 1) {N : Nat} {l0 : Nat} {l1 : Int32} {s0 : Nat} {s1 : Int32} {h : eH} {q} (hf : fX14_readPattern_b259 N l0 l1 s0 s1 h = some q) : wp w (d + 1) YX14_readPattern 259 [some (.ref l0), some (.int l1), none, none] [.int s1, .ref s0] h (e_is (e_rt c_V q)) := by
  unfold fX14_readPattern_b259 at hf
  refine w_iconst dX14_readPattern_259 (v := 4) (by decide) ?_
  refine w_iload_n dX14_readPattern_260 rfl rfl ?_
  obtain ⟨_, b1, hf⟩ := Option.bind_eq_some_iff.mp hf
  refine x_ctV hf (e_stV (Yc := YX14_want) (ci := 13) (av := [.int s1, .int (4 : Int32), .int l1]) (st := []) dX14_readPattern_261 q2339 mX14_want rfl (k_ok_some b1).1 (k_ok_some b1).2) mX14_want.2.2.1 mX14_want.2.2.2.2.1 (Nat.le_of_ble_eq_true rfl) (Nat.le_of_ble_eq_true rfl) rfl (fun q hq => pX14_want (by omega) hq) (fun x2 h3 hf => ?_)
  refine w_aload_n dX14_readPattern_264 rfl rfl ?_
  obtain ⟨a4, b5, hf⟩ := Option.bind_eq_some_iff.mp hf
  refine GX14_12 b5 dX14_readPattern_265 rfl ?_
  refine w_aload_n dX14_readPattern_268 rfl rfl ?_
  obtain ⟨a6, b7, hf⟩ := Option.bind_eq_some_iff.mp hf
  refine GX14_28 b7 dX14_readPattern_269 rfl ?_
  obtain ⟨_, b8, hf⟩ := Option.bind_eq_some_iff.mp hf
  refine x_cnV hf (e_stV (Yc := YX15_add) (ci := 14) (av := [.ref a6]) (st := []) dX14_readPattern_272 q2389 mX15_add rfl (k_ok_some b8).1 (k_ok_some b8).2) mX15_add.2.2.1 mX15_add.2.2.2.2.1 (Nat.le_of_ble_eq_true rfl) (Nat.le_of_ble_eq_true rfl) (fun q hq => pX15_add (by omega) hq) (fun q9 hf => ?_)
  cases hf
  exact w_vret dX14_readPattern_275 rfl rfl
def fX14_readPattern_b258 (N : Nat) (l0 : Nat) (l1 : Int32) (s0 : Nat) (h : eH) : Option ((Unit ⊕ Nat) × eH) :=
  fX14_readPattern_b259 N l0 l1 s0 (0 : Int32) h
theorem pX14_readPattern_b258 {w : eW} {d : Nat} (hd : 8 ≤ d + 1) {N : Nat} {l0 : Nat} {l1 : Int32} {s0 : Nat} {h : eH} {q} (hf : fX14_readPattern_b258 N l0 l1 s0 h = some q) : wp w (d + 1) YX14_readPattern 258 [some (.ref l0), some (.int l1), none, none] [.ref s0] h (e_is (e_rt c_V q)) := by
  unfold fX14_readPattern_b258 at hf
  refine w_iconst dX14_readPattern_258 (v := 0) (by decide) ?_
  exact (pX14_readPattern_b259 hd hf).to ⟨rfl, rfl, trivial⟩
def fX14_readPattern_b209 (N : Nat) (l0 : Nat) (l1 : Int32) (l2 : Int32) (s0 : Nat) (s1 : Int32) (h : eH) : Option ((Unit ⊕ Nat) × eH) :=
  (k_ok 13 h s0).bind fun _ =>
  t_B (fX14_want s0 s1 (3 : Int32) l1 h) fun x2 h3 =>
  (g_A 13 h3 l0 0).bind fun a4 =>
  (g_I 14 h3 a4 17).bind fun x6 =>
  (p_V 14 h3 a4 17 (.int (x6 + l2))).bind fun h8 =>
  (g_A 13 h8 l0 0).bind fun a10 =>
  (g_I 14 h8 a10 16).bind fun x12 =>
  if (1000 : Int32) ≤ x12 then
    fX14_readPattern_b258 N l0 l1 l0 h8
  else
    (g_A 13 h8 l0 0).bind fun a15 =>
    (g_I 14 h8 a15 17).bind fun x17 =>
    if (8000 : Int32) < x17 then
      fX14_readPattern_b258 N l0 l1 l0 h8
    else
      fX14_readPattern_b259 N l0 l1 l0 (1 : Int32) h8
theorem pX14_readPattern_b209 {w : eW} {d : Nat} (hd : 8 ≤ d + 1) {N : Nat} {l0 : Nat} {l1 : Int32} {l2 : Int32} {s0 : Nat} {s1 : Int32} {h : eH} {q} (hf : fX14_readPattern_b209 N l0 l1 l2 s0 s1 h = some q) : wp w (d + 1) YX14_readPattern 209 [some (.ref l0), some (.int l1), some (.int l2), none] [.int s1, .ref s0] h (e_is (e_rt c_V q)) := by
  unfold fX14_readPattern_b209 at hf
  refine w_iconst dX14_readPattern_209 (v := 3) (by decide) ?_
  refine w_iload_n dX14_readPattern_210 rfl rfl ?_
  obtain ⟨_, b1, hf⟩ := Option.bind_eq_some_iff.mp hf
  refine x_ctV hf (e_stV (Yc := YX14_want) (ci := 13) (av := [.int s1, .int (3 : Int32), .int l1]) (st := []) dX14_readPattern_211 q2339 mX14_want rfl (k_ok_some b1).1 (k_ok_some b1).2) mX14_want.2.2.1 mX14_want.2.2.2.2.1 (Nat.le_of_ble_eq_true rfl) (Nat.le_of_ble_eq_true rfl) rfl (fun q hq => pX14_want (by omega) hq) (fun x2 h3 hf => ?_)
  refine w_aload_n dX14_readPattern_214 rfl rfl ?_
  obtain ⟨a4, b5, hf⟩ := Option.bind_eq_some_iff.mp hf
  refine GX14_12 b5 dX14_readPattern_215 rfl ?_
  refine w_dup dX14_readPattern_218 rfl ?_
  obtain ⟨x6, b7, hf⟩ := Option.bind_eq_some_iff.mp hf
  refine GX14_94 b7 dX14_readPattern_219 rfl ?_
  refine w_iload_n dX14_readPattern_222 rfl rfl ?_
  refine w_iadd dX14_readPattern_223 ?_
  obtain ⟨h8, b9, hf⟩ := Option.bind_eq_some_iff.mp hf
  refine SX14_94 b9 dX14_readPattern_224 rfl ?_
  refine w_aload_n dX14_readPattern_227 rfl rfl ?_
  refine w_aload_n dX14_readPattern_228 rfl rfl ?_
  obtain ⟨a10, b11, hf⟩ := Option.bind_eq_some_iff.mp hf
  refine GX14_12 b11 dX14_readPattern_229 rfl ?_
  obtain ⟨x12, b13, hf⟩ := Option.bind_eq_some_iff.mp hf
  refine GX14_97 b13 dX14_readPattern_232 rfl ?_
  refine w_sipush dX14_readPattern_235 (v := 1000) (by decide) ?_
  refine w_icmp_ge 258 dX14_readPattern_238 (by decide) (fun c14 => ?_) (fun c14 => ?_)
  · replace hf := (if_pos (show (1000 : Int32) ≤ x12 from c14)).symm.trans hf
    exact (pX14_readPattern_b258 hd hf).to ⟨rfl, rfl, trivial⟩
  · replace hf := (if_neg (show ¬ ((1000 : Int32) ≤ x12) from c14)).symm.trans hf
    refine w_aload_n dX14_readPattern_241 rfl rfl ?_
    obtain ⟨a15, b16, hf⟩ := Option.bind_eq_some_iff.mp hf
    refine GX14_12 b16 dX14_readPattern_242 rfl ?_
    obtain ⟨x17, b18, hf⟩ := Option.bind_eq_some_iff.mp hf
    refine GX14_94 b18 dX14_readPattern_245 rfl ?_
    refine w_sipush dX14_readPattern_248 (v := 8000) (by decide) ?_
    refine w_icmp_gt 258 dX14_readPattern_251 (by decide) (fun c19 => ?_) (fun c19 => ?_)
    · replace hf := (if_pos (show (8000 : Int32) < x17 from c19)).symm.trans hf
      exact (pX14_readPattern_b258 hd hf).to ⟨rfl, rfl, trivial⟩
    · replace hf := (if_neg (show ¬ ((8000 : Int32) < x17) from c19)).symm.trans hf
      refine w_iconst dX14_readPattern_254 (v := 1) (by decide) ?_
      refine w_goto 259 dX14_readPattern_255 (by decide) ?_
      exact (pX14_readPattern_b259 hd hf).to ⟨rfl, rfl, trivial⟩
def fX14_readPattern_b189 (N : Nat) (l0 : Nat) (l1 : Int32) (l2 : Int32) (h : eH) : Option ((Unit ⊕ Nat) × eH) :=
  (g_A 13 h l0 0).bind fun a1 =>
  (g_A 13 h l0 2).bind fun a3 =>
  (k_ok 14 h a1).bind fun _ =>
  (fX15_has N a1 a3 h).bind fun q6 =>
  if ¬ q6.1 = 0 then
    fX14_readPattern_b209 N l0 l1 l2 l0 (0 : Int32) q6.2
  else
    fX14_readPattern_b209 N l0 l1 l2 l0 (1 : Int32) q6.2
theorem pX14_readPattern_b189 {w : eW} {d : Nat} (hd : 8 ≤ d + 1) {N : Nat} {l0 : Nat} {l1 : Int32} {l2 : Int32} {h : eH} {q} (hf : fX14_readPattern_b189 N l0 l1 l2 h = some q) : wp w (d + 1) YX14_readPattern 189 [some (.ref l0), some (.int l1), some (.int l2), none] [] h (e_is (e_rt c_V q)) := by
  unfold fX14_readPattern_b189 at hf
  refine w_aload_n dX14_readPattern_189 rfl rfl ?_
  refine w_aload_n dX14_readPattern_190 rfl rfl ?_
  obtain ⟨a1, b2, hf⟩ := Option.bind_eq_some_iff.mp hf
  refine GX14_12 b2 dX14_readPattern_191 rfl ?_
  refine w_aload_n dX14_readPattern_194 rfl rfl ?_
  obtain ⟨a3, b4, hf⟩ := Option.bind_eq_some_iff.mp hf
  refine GX14_28 b4 dX14_readPattern_195 rfl ?_
  obtain ⟨_, b5, hf⟩ := Option.bind_eq_some_iff.mp hf
  refine x_cnI hf (e_stV (Yc := YX15_has) (ci := 14) (av := [.ref a3]) (st := [.ref l0]) dX14_readPattern_198 q2381 mX15_has rfl (k_ok_some b5).1 (k_ok_some b5).2) mX15_has.2.2.1 mX15_has.2.2.2.2.1 (Nat.le_of_ble_eq_true rfl) (Nat.le_of_ble_eq_true rfl) (fun q hq => pX15_has (by omega) hq) (fun q6 hf => ?_)
  refine w_if_ne 208 dX14_readPattern_201 (by decide) (fun c7 => ?_) (fun c7 => ?_)
  · replace hf := (if_pos (show ¬ q6.1 = 0 from c7)).symm.trans hf
    refine w_iconst dX14_readPattern_208 (v := 0) (by decide) ?_
    exact (pX14_readPattern_b209 hd hf).to ⟨rfl, rfl, rfl, trivial⟩
  · replace hf := (if_neg (show ¬ (¬ q6.1 = 0) from (fun z => z c7))).symm.trans hf
    refine w_iconst dX14_readPattern_204 (v := 1) (by decide) ?_
    refine w_goto 209 dX14_readPattern_205 (by decide) ?_
    exact (pX14_readPattern_b209 hd hf).to ⟨rfl, rfl, rfl, trivial⟩
def fX14_readPattern_b172 (N : Nat) (l0 : Nat) (l1 : Int32) (l2 : Int32) (l3 : Int32) (s0 : Nat) (s1 : Int32) (h : eH) : Option ((Unit ⊕ Nat) × eH) :=
  (k_ok 13 h s0).bind fun _ =>
  t_B (fX14_want s0 s1 (2 : Int32) l1 h) fun x2 h3 =>
  if l3 = 0 then
    fX14_readPattern_b189 N l0 l1 l2 h3
  else
    (g_A 13 h3 l0 2).bind fun a5 =>
    (k_ok 16 h3 a5).bind fun _ =>
    (fX17_add a5 (0 : Int32) h3).bind fun q8 =>
    fX14_readPattern_b189 N l0 l1 l2 q8.2
theorem pX14_readPattern_b172 {w : eW} {d : Nat} (hd : 8 ≤ d + 1) {N : Nat} {l0 : Nat} {l1 : Int32} {l2 : Int32} {l3 : Int32} {s0 : Nat} {s1 : Int32} {h : eH} {q} (hf : fX14_readPattern_b172 N l0 l1 l2 l3 s0 s1 h = some q) : wp w (d + 1) YX14_readPattern 172 [some (.ref l0), some (.int l1), some (.int l2), some (.int l3)] [.int s1, .ref s0] h (e_is (e_rt c_V q)) := by
  unfold fX14_readPattern_b172 at hf
  refine w_iconst dX14_readPattern_172 (v := 2) (by decide) ?_
  refine w_iload_n dX14_readPattern_173 rfl rfl ?_
  obtain ⟨_, b1, hf⟩ := Option.bind_eq_some_iff.mp hf
  refine x_ctV hf (e_stV (Yc := YX14_want) (ci := 13) (av := [.int s1, .int (2 : Int32), .int l1]) (st := []) dX14_readPattern_174 q2339 mX14_want rfl (k_ok_some b1).1 (k_ok_some b1).2) mX14_want.2.2.1 mX14_want.2.2.2.2.1 (Nat.le_of_ble_eq_true rfl) (Nat.le_of_ble_eq_true rfl) rfl (fun q hq => pX14_want (by omega) hq) (fun x2 h3 hf => ?_)
  refine w_iload_n dX14_readPattern_177 rfl rfl ?_
  refine w_if_eq 189 dX14_readPattern_178 (by decide) (fun c4 => ?_) (fun c4 => ?_)
  · replace hf := (if_pos (show l3 = 0 from c4)).symm.trans hf
    exact (pX14_readPattern_b189 hd hf).to ⟨rfl, rfl, rfl, trivial⟩
  · replace hf := (if_neg (show ¬ (l3 = 0) from c4)).symm.trans hf
    refine w_aload_n dX14_readPattern_181 rfl rfl ?_
    obtain ⟨a5, b6, hf⟩ := Option.bind_eq_some_iff.mp hf
    refine GX14_28 b6 dX14_readPattern_182 rfl ?_
    refine w_iconst dX14_readPattern_185 (v := 0) (by decide) ?_
    obtain ⟨_, b7, hf⟩ := Option.bind_eq_some_iff.mp hf
    refine x_cnV hf (e_stV (Yc := YX17_add) (ci := 16) (av := [.int (0 : Int32)]) (st := []) dX14_readPattern_186 q2345 mX17_add rfl (k_ok_some b7).1 (k_ok_some b7).2) mX17_add.2.2.1 mX17_add.2.2.2.2.1 (Nat.le_of_ble_eq_true rfl) (Nat.le_of_ble_eq_true rfl) (fun q hq => pX17_add (by omega) hq) (fun q8 hf => ?_)
    exact (pX14_readPattern_b189 hd hf).to ⟨rfl, rfl, rfl, trivial⟩
def fX14_readPattern_b143 (N : Nat) (l0 : Nat) (l1 : Int32) (l2 : Int32) (l3 : Int32) (s0 : Nat) (s1 : Int32) (s2 : Int32) (h : eH) : Option ((Unit ⊕ Nat) × eH) :=
  (p_V 13 h s0 6 (.int (s1 + s2))).bind fun h1 =>
  (k_ok 13 h1 l0).bind fun _ =>
  (fX14_isOver l0 h1).bind fun q4 =>
  (g_I 13 q4.2 l0 6).bind fun x5 =>
  (k_ok 13 q4.2 l0).bind fun _ =>
  t_B (fX14_want l0 q4.1 (1 : Int32) x5 q4.2) fun x8 h9 =>
  if (63 : Int32) < l2 then
    fX14_readPattern_b172 N l0 l1 l2 l3 l0 (0 : Int32) h9
  else
    fX14_readPattern_b172 N l0 l1 l2 l3 l0 (1 : Int32) h9
theorem pX14_readPattern_b143 {w : eW} {d : Nat} (hd : 8 ≤ d + 1) {N : Nat} {l0 : Nat} {l1 : Int32} {l2 : Int32} {l3 : Int32} {s0 : Nat} {s1 : Int32} {s2 : Int32} {h : eH} {q} (hf : fX14_readPattern_b143 N l0 l1 l2 l3 s0 s1 s2 h = some q) : wp w (d + 1) YX14_readPattern 143 [some (.ref l0), some (.int l1), some (.int l2), some (.int l3)] [.int s2, .int s1, .ref s0] h (e_is (e_rt c_V q)) := by
  unfold fX14_readPattern_b143 at hf
  refine w_iadd dX14_readPattern_143 ?_
  obtain ⟨h1, b2, hf⟩ := Option.bind_eq_some_iff.mp hf
  refine SX14_35 b2 dX14_readPattern_144 rfl ?_
  refine w_aload_n dX14_readPattern_147 rfl rfl ?_
  refine w_aload_n dX14_readPattern_148 rfl rfl ?_
  obtain ⟨_, b3, hf⟩ := Option.bind_eq_some_iff.mp hf
  refine x_cnI hf (e_stV (Yc := YX14_isOver) (ci := 13) (av := []) (st := [.ref l0]) dX14_readPattern_149 q2349 mX14_isOver rfl (k_ok_some b3).1 (k_ok_some b3).2) mX14_isOver.2.2.1 mX14_isOver.2.2.2.2.1 (Nat.le_of_ble_eq_true rfl) (Nat.le_of_ble_eq_true rfl) (fun q hq => pX14_isOver (by omega) hq) (fun q4 hf => ?_)
  refine w_iconst dX14_readPattern_152 (v := 1) (by decide) ?_
  refine w_aload_n dX14_readPattern_153 rfl rfl ?_
  obtain ⟨x5, b6, hf⟩ := Option.bind_eq_some_iff.mp hf
  refine GX14_35 b6 dX14_readPattern_154 rfl ?_
  obtain ⟨_, b7, hf⟩ := Option.bind_eq_some_iff.mp hf
  refine x_ctV hf (e_stV (Yc := YX14_want) (ci := 13) (av := [.int q4.1, .int (1 : Int32), .int x5]) (st := []) dX14_readPattern_157 q2339 mX14_want rfl (k_ok_some b7).1 (k_ok_some b7).2) mX14_want.2.2.1 mX14_want.2.2.2.2.1 (Nat.le_of_ble_eq_true rfl) (Nat.le_of_ble_eq_true rfl) rfl (fun q hq => pX14_want (by omega) hq) (fun x8 h9 hf => ?_)
  refine w_aload_n dX14_readPattern_160 rfl rfl ?_
  refine w_iload_n dX14_readPattern_161 rfl rfl ?_
  refine w_bipush dX14_readPattern_162 (v := 63) (by decide) ?_
  refine w_icmp_gt 171 dX14_readPattern_164 (by decide) (fun c10 => ?_) (fun c10 => ?_)
  · replace hf := (if_pos (show (63 : Int32) < l2 from c10)).symm.trans hf
    refine w_iconst dX14_readPattern_171 (v := 0) (by decide) ?_
    exact (pX14_readPattern_b172 hd hf).to ⟨rfl, rfl, rfl, rfl, trivial⟩
  · replace hf := (if_neg (show ¬ ((63 : Int32) < l2) from c10)).symm.trans hf
    refine w_iconst dX14_readPattern_167 (v := 1) (by decide) ?_
    refine w_goto 172 dX14_readPattern_168 (by decide) ?_
    exact (pX14_readPattern_b172 hd hf).to ⟨rfl, rfl, rfl, rfl, trivial⟩
def fX14_readPattern_b128 (N : Nat) (l0 : Nat) (l1 : Int32) (l2 : Int32) (s0 : Int32) (h : eH) : Option ((Unit ⊕ Nat) × eH) :=
  (g_I 13 h l0 6).bind fun x1 =>
  if s0 = 0 then
    fX14_readPattern_b143 N l0 l1 l2 s0 l0 x1 (0 : Int32) h
  else
    fX14_readPattern_b143 N l0 l1 l2 s0 l0 x1 (1 : Int32) h
theorem pX14_readPattern_b128 {w : eW} {d : Nat} (hd : 8 ≤ d + 1) {N : Nat} {l0 : Nat} {l1 : Int32} {l2 : Int32} {s0 : Int32} {h : eH} {q} (hf : fX14_readPattern_b128 N l0 l1 l2 s0 h = some q) : wp w (d + 1) YX14_readPattern 128 [some (.ref l0), some (.int l1), some (.int l2), none] [.int s0] h (e_is (e_rt c_V q)) := by
  unfold fX14_readPattern_b128 at hf
  refine w_istore_n dX14_readPattern_128 rfl (by decide) (ls' := [some (.ref l0), some (.int l1), some (.int l2), some (.int s0)]) rfl ?_
  refine w_aload_n dX14_readPattern_129 rfl rfl ?_
  refine w_dup dX14_readPattern_130 rfl ?_
  obtain ⟨x1, b2, hf⟩ := Option.bind_eq_some_iff.mp hf
  refine GX14_35 b2 dX14_readPattern_131 rfl ?_
  refine w_iload_n dX14_readPattern_134 rfl rfl ?_
  refine w_if_eq 142 dX14_readPattern_135 (by decide) (fun c3 => ?_) (fun c3 => ?_)
  · replace hf := (if_pos (show s0 = 0 from c3)).symm.trans hf
    refine w_iconst dX14_readPattern_142 (v := 0) (by decide) ?_
    exact (pX14_readPattern_b143 hd hf).to ⟨rfl, rfl, rfl, rfl, trivial⟩
  · replace hf := (if_neg (show ¬ (s0 = 0) from c3)).symm.trans hf
    refine w_iconst dX14_readPattern_138 (v := 1) (by decide) ?_
    refine w_goto 143 dX14_readPattern_139 (by decide) ?_
    exact (pX14_readPattern_b143 hd hf).to ⟨rfl, rfl, rfl, rfl, trivial⟩
def fX14_readPattern_b106 (N : Nat) (l0 : Nat) (l1 : Int32) (l2 : Int32) (s0 : Nat) (s1 : Int32) (h : eH) : Option ((Unit ⊕ Nat) × eH) :=
  (g_I 13 h l0 6).bind fun x1 =>
  (k_ok 13 h s0).bind fun _ =>
  t_B (fX14_want s0 s1 (1 : Int32) x1 h) fun x4 h5 =>
  (k_ok 13 h5 l0).bind fun _ =>
  (fX14_next l0 h5).bind fun q7 =>
  if ¬ q7.1 = (46 : Int32) then
    fX14_readPattern_b128 N l0 l1 l2 (0 : Int32) q7.2
  else
    fX14_readPattern_b128 N l0 l1 l2 (1 : Int32) q7.2
theorem pX14_readPattern_b106 {w : eW} {d : Nat} (hd : 8 ≤ d + 1) {N : Nat} {l0 : Nat} {l1 : Int32} {l2 : Int32} {s0 : Nat} {s1 : Int32} {h : eH} {q} (hf : fX14_readPattern_b106 N l0 l1 l2 s0 s1 h = some q) : wp w (d + 1) YX14_readPattern 106 [some (.ref l0), some (.int l1), some (.int l2), none] [.int s1, .ref s0] h (e_is (e_rt c_V q)) := by
  unfold fX14_readPattern_b106 at hf
  refine w_iconst dX14_readPattern_106 (v := 1) (by decide) ?_
  refine w_aload_n dX14_readPattern_107 rfl rfl ?_
  obtain ⟨x1, b2, hf⟩ := Option.bind_eq_some_iff.mp hf
  refine GX14_35 b2 dX14_readPattern_108 rfl ?_
  obtain ⟨_, b3, hf⟩ := Option.bind_eq_some_iff.mp hf
  refine x_ctV hf (e_stV (Yc := YX14_want) (ci := 13) (av := [.int s1, .int (1 : Int32), .int x1]) (st := []) dX14_readPattern_111 q2339 mX14_want rfl (k_ok_some b3).1 (k_ok_some b3).2) mX14_want.2.2.1 mX14_want.2.2.2.2.1 (Nat.le_of_ble_eq_true rfl) (Nat.le_of_ble_eq_true rfl) rfl (fun q hq => pX14_want (by omega) hq) (fun x4 h5 hf => ?_)
  refine w_aload_n dX14_readPattern_114 rfl rfl ?_
  obtain ⟨_, b6, hf⟩ := Option.bind_eq_some_iff.mp hf
  refine x_cnI hf (e_stV (Yc := YX14_next) (ci := 13) (av := []) (st := []) dX14_readPattern_115 q2320 mX14_next rfl (k_ok_some b6).1 (k_ok_some b6).2) mX14_next.2.2.1 mX14_next.2.2.2.2.1 (Nat.le_of_ble_eq_true rfl) (Nat.le_of_ble_eq_true rfl) (fun q hq => pX14_next (by omega) hq) (fun q7 hf => ?_)
  refine w_bipush dX14_readPattern_118 (v := 46) (by decide) ?_
  refine w_icmp_ne 127 dX14_readPattern_120 (by decide) (fun c8 => ?_) (fun c8 => ?_)
  · replace hf := (if_pos (show ¬ q7.1 = (46 : Int32) from c8)).symm.trans hf
    refine w_iconst dX14_readPattern_127 (v := 0) (by decide) ?_
    exact (pX14_readPattern_b128 hd hf).to ⟨rfl, rfl, rfl, trivial⟩
  · replace hf := (if_neg (show ¬ (¬ q7.1 = (46 : Int32)) from (fun z => z c8))).symm.trans hf
    refine w_iconst dX14_readPattern_123 (v := 1) (by decide) ?_
    refine w_goto 128 dX14_readPattern_124 (by decide) ?_
    exact (pX14_readPattern_b128 hd hf).to ⟨rfl, rfl, rfl, trivial⟩
def fX14_readPattern_b96 (N : Nat) (l0 : Nat) (l1 : Int32) (l2 : Int32) (h : eH) : Option ((Unit ⊕ Nat) × eH) :=
  if l2 ≤ 0 then
    fX14_readPattern_b106 N l0 l1 l2 l0 (0 : Int32) h
  else
    fX14_readPattern_b106 N l0 l1 l2 l0 (1 : Int32) h
theorem pX14_readPattern_b96 {w : eW} {d : Nat} (hd : 8 ≤ d + 1) {N : Nat} {l0 : Nat} {l1 : Int32} {l2 : Int32} {h : eH} {q} (hf : fX14_readPattern_b96 N l0 l1 l2 h = some q) : wp w (d + 1) YX14_readPattern 96 [some (.ref l0), some (.int l1), some (.int l2), none] [] h (e_is (e_rt c_V q)) := by
  unfold fX14_readPattern_b96 at hf
  refine w_aload_n dX14_readPattern_96 rfl rfl ?_
  refine w_iload_n dX14_readPattern_97 rfl rfl ?_
  refine w_if_le 105 dX14_readPattern_98 (by decide) (fun c1 => ?_) (fun c1 => ?_)
  · replace hf := (if_pos (show l2 ≤ 0 from c1)).symm.trans hf
    refine w_iconst dX14_readPattern_105 (v := 0) (by decide) ?_
    exact (pX14_readPattern_b106 hd hf).to ⟨rfl, rfl, rfl, trivial⟩
  · replace hf := (if_neg (show ¬ (l2 ≤ 0) from c1)).symm.trans hf
    refine w_iconst dX14_readPattern_101 (v := 1) (by decide) ?_
    refine w_goto 106 dX14_readPattern_102 (by decide) ?_
    exact (pX14_readPattern_b106 hd hf).to ⟨rfl, rfl, rfl, trivial⟩
def fX14_readPattern_b55 (N : Nat) : Nat → Nat → Int32 → Int32 → eH → Option ((Unit ⊕ Nat) × eH)
  | 0, _, _, _, _ => none
  | n + 1, l0, l1, l2, h =>
    (k_ok 13 h l0).bind fun _ =>
    (fX14_isOver l0 h).bind fun q2 =>
    if ¬ q2.1 = 0 then
      fX14_readPattern_b96 N l0 l1 l2 q2.2
    else
      (k_ok 13 q2.2 l0).bind fun _ =>
      (fX14_next l0 q2.2).bind fun q5 =>
      if q5.1 = (46 : Int32) then
        fX14_readPattern_b96 N l0 l1 l2 q5.2
      else
        (k_ok 13 q5.2 l0).bind fun _ =>
        t_B (fX14_readLetter l0 (l2 + (1 : Int32)) q5.2) fun x8 h9 =>
        (k_ok 13 h9 l0).bind fun _ =>
        (fX14_next l0 h9).bind fun q11 =>
        (fX14_isDigit q11.1 q11.2).bind fun q12 =>
        if q12.1 = 0 then
          fX14_readPattern_b55 N n l0 l1 (l2 + (1 : Int32)) q12.2
        else
          (k_ok 13 q12.2 l0).bind fun _ =>
          (fX14_number l0 q12.2).bind fun q15 =>
          fX14_readPattern_b55 N n l0 l1 (l2 + (1 : Int32)) q15.2
theorem pX14_readPattern_b55 {w : eW} {d : Nat} (hd : 8 ≤ d + 1) {N : Nat} : ∀ (n : Nat) l0 l1 l2 h q, fX14_readPattern_b55 N n l0 l1 l2 h = some q → wp w (d + 1) YX14_readPattern 55 [some (.ref l0), some (.int l1), some (.int l2), none] [] h (e_is (e_rt c_V q)) := by
  intro n
  induction n with
  | zero => intro l0 l1 l2 h q hf; simp [fX14_readPattern_b55] at hf
  | succ n ih =>
    intro l0 l1 l2 h q hf
    rw [fX14_readPattern_b55] at hf
    refine w_aload_n dX14_readPattern_55 rfl rfl ?_
    obtain ⟨_, b1, hf⟩ := Option.bind_eq_some_iff.mp hf
    refine x_cnI hf (e_stV (Yc := YX14_isOver) (ci := 13) (av := []) (st := []) dX14_readPattern_56 q2349 mX14_isOver rfl (k_ok_some b1).1 (k_ok_some b1).2) mX14_isOver.2.2.1 mX14_isOver.2.2.2.2.1 (Nat.le_of_ble_eq_true rfl) (Nat.le_of_ble_eq_true rfl) (fun q hq => pX14_isOver (by omega) hq) (fun q2 hf => ?_)
    refine w_if_ne 96 dX14_readPattern_59 (by decide) (fun c3 => ?_) (fun c3 => ?_)
    · replace hf := (if_pos (show ¬ q2.1 = 0 from c3)).symm.trans hf
      exact (pX14_readPattern_b96 hd hf).to ⟨rfl, rfl, rfl, trivial⟩
    · replace hf := (if_neg (show ¬ (¬ q2.1 = 0) from (fun z => z c3))).symm.trans hf
      refine w_aload_n dX14_readPattern_62 rfl rfl ?_
      obtain ⟨_, b4, hf⟩ := Option.bind_eq_some_iff.mp hf
      refine x_cnI hf (e_stV (Yc := YX14_next) (ci := 13) (av := []) (st := []) dX14_readPattern_63 q2320 mX14_next rfl (k_ok_some b4).1 (k_ok_some b4).2) mX14_next.2.2.1 mX14_next.2.2.2.2.1 (Nat.le_of_ble_eq_true rfl) (Nat.le_of_ble_eq_true rfl) (fun q hq => pX14_next (by omega) hq) (fun q5 hf => ?_)
      refine w_bipush dX14_readPattern_66 (v := 46) (by decide) ?_
      refine w_icmp_eq 96 dX14_readPattern_68 (by decide) (fun c6 => ?_) (fun c6 => ?_)
      · replace hf := (if_pos (show q5.1 = (46 : Int32) from c6)).symm.trans hf
        exact (pX14_readPattern_b96 hd hf).to ⟨rfl, rfl, rfl, trivial⟩
      · replace hf := (if_neg (show ¬ (q5.1 = (46 : Int32)) from c6)).symm.trans hf
        refine w_iinc dX14_readPattern_71 (v := (l2 + (1 : Int32))) rfl rfl (by decide) (ls' := [some (.ref l0), some (.int l1), some (.int (l2 + (1 : Int32))), none]) rfl ?_
        refine w_aload_n dX14_readPattern_74 rfl rfl ?_
        refine w_iload_n dX14_readPattern_75 rfl rfl ?_
        obtain ⟨_, b7, hf⟩ := Option.bind_eq_some_iff.mp hf
        refine x_ctV hf (e_stV (Yc := YX14_readLetter) (ci := 13) (av := [.int (l2 + (1 : Int32))]) (st := []) dX14_readPattern_76 q2332 mX14_readLetter rfl (k_ok_some b7).1 (k_ok_some b7).2) mX14_readLetter.2.2.1 mX14_readLetter.2.2.2.2.1 (Nat.le_of_ble_eq_true rfl) (Nat.le_of_ble_eq_true rfl) rfl (fun q hq => pX14_readLetter (by omega) hq) (fun x8 h9 hf => ?_)
        refine w_aload_n dX14_readPattern_79 rfl rfl ?_
        obtain ⟨_, b10, hf⟩ := Option.bind_eq_some_iff.mp hf
        refine x_cnI hf (e_stV (Yc := YX14_next) (ci := 13) (av := []) (st := []) dX14_readPattern_80 q2320 mX14_next rfl (k_ok_some b10).1 (k_ok_some b10).2) mX14_next.2.2.1 mX14_next.2.2.2.2.1 (Nat.le_of_ble_eq_true rfl) (Nat.le_of_ble_eq_true rfl) (fun q hq => pX14_next (by omega) hq) (fun q11 hf => ?_)
        refine x_cnI hf (e_stS (Yc := YX14_isDigit) (av := [.int q11.1]) (st := []) dX14_readPattern_83 q2374 mX14_isDigit) mX14_isDigit.2.2.1 mX14_isDigit.2.2.2.2.1 (Nat.le_of_ble_eq_true rfl) (Nat.le_of_ble_eq_true rfl) (fun q hq => pX14_isDigit (by omega) hq) (fun q12 hf => ?_)
        refine w_if_eq 55 dX14_readPattern_86 (by decide) (fun c13 => ?_) (fun c13 => ?_)
        · replace hf := (if_pos (show q12.1 = 0 from c13)).symm.trans hf
          exact (ih _ _ _ _ _ hf).to ⟨rfl, rfl, rfl, trivial⟩
        · replace hf := (if_neg (show ¬ (q12.1 = 0) from c13)).symm.trans hf
          refine w_aload_n dX14_readPattern_89 rfl rfl ?_
          obtain ⟨_, b14, hf⟩ := Option.bind_eq_some_iff.mp hf
          refine x_cnV hf (e_stV (Yc := YX14_number) (ci := 13) (av := []) (st := []) dX14_readPattern_90 q2377 mX14_number rfl (k_ok_some b14).1 (k_ok_some b14).2) mX14_number.2.2.1 mX14_number.2.2.2.2.1 (Nat.le_of_ble_eq_true rfl) (Nat.le_of_ble_eq_true rfl) (fun q hq => pX14_number (by omega) hq) (fun q15 hf => ?_)
          refine w_goto 55 dX14_readPattern_93 (by decide) ?_
          exact (ih _ _ _ _ _ hf).to ⟨rfl, rfl, rfl, trivial⟩
def fX14_readPattern_b39 (N : Nat) (l0 : Nat) (l1 : Int32) (h : eH) : Option ((Unit ⊕ Nat) × eH) :=
  (k_ok 13 h l0).bind fun _ =>
  (fX14_next l0 h).bind fun q2 =>
  (fX14_isDigit q2.1 q2.2).bind fun q3 =>
  if q3.1 = 0 then
    fX14_readPattern_b55 N N l0 l1 (0 : Int32) q3.2
  else
    (k_ok 13 q3.2 l0).bind fun _ =>
    (fX14_number l0 q3.2).bind fun q6 =>
    fX14_readPattern_b55 N N l0 l1 (0 : Int32) q6.2
theorem pX14_readPattern_b39 {w : eW} {d : Nat} (hd : 8 ≤ d + 1) {N : Nat} {l0 : Nat} {l1 : Int32} {h : eH} {q} (hf : fX14_readPattern_b39 N l0 l1 h = some q) : wp w (d + 1) YX14_readPattern 39 [some (.ref l0), some (.int l1), none, none] [] h (e_is (e_rt c_V q)) := by
  unfold fX14_readPattern_b39 at hf
  refine w_iconst dX14_readPattern_39 (v := 0) (by decide) ?_
  refine w_istore_n dX14_readPattern_40 rfl (by decide) (ls' := [some (.ref l0), some (.int l1), some (.int (0 : Int32)), none]) rfl ?_
  refine w_aload_n dX14_readPattern_41 rfl rfl ?_
  obtain ⟨_, b1, hf⟩ := Option.bind_eq_some_iff.mp hf
  refine x_cnI hf (e_stV (Yc := YX14_next) (ci := 13) (av := []) (st := []) dX14_readPattern_42 q2320 mX14_next rfl (k_ok_some b1).1 (k_ok_some b1).2) mX14_next.2.2.1 mX14_next.2.2.2.2.1 (Nat.le_of_ble_eq_true rfl) (Nat.le_of_ble_eq_true rfl) (fun q hq => pX14_next (by omega) hq) (fun q2 hf => ?_)
  refine x_cnI hf (e_stS (Yc := YX14_isDigit) (av := [.int q2.1]) (st := []) dX14_readPattern_45 q2374 mX14_isDigit) mX14_isDigit.2.2.1 mX14_isDigit.2.2.2.2.1 (Nat.le_of_ble_eq_true rfl) (Nat.le_of_ble_eq_true rfl) (fun q hq => pX14_isDigit (by omega) hq) (fun q3 hf => ?_)
  refine w_if_eq 55 dX14_readPattern_48 (by decide) (fun c4 => ?_) (fun c4 => ?_)
  · replace hf := (if_pos (show q3.1 = 0 from c4)).symm.trans hf
    exact (pX14_readPattern_b55 hd N _ _ _ _ _ hf).to ⟨rfl, rfl, rfl, trivial⟩
  · replace hf := (if_neg (show ¬ (q3.1 = 0) from c4)).symm.trans hf
    refine w_aload_n dX14_readPattern_51 rfl rfl ?_
    obtain ⟨_, b5, hf⟩ := Option.bind_eq_some_iff.mp hf
    refine x_cnV hf (e_stV (Yc := YX14_number) (ci := 13) (av := []) (st := []) dX14_readPattern_52 q2377 mX14_number rfl (k_ok_some b5).1 (k_ok_some b5).2) mX14_number.2.2.1 mX14_number.2.2.2.2.1 (Nat.le_of_ble_eq_true rfl) (Nat.le_of_ble_eq_true rfl) (fun q hq => pX14_number (by omega) hq) (fun q6 hf => ?_)
    exact (pX14_readPattern_b55 hd N _ _ _ _ _ hf).to ⟨rfl, rfl, rfl, trivial⟩
def fX14_readPattern (N : Nat) (this : Nat) (h : eH) : Option ((Unit ⊕ Nat) × eH) :=
  (g_I 13 h this 6).bind fun x1 =>
  (g_A 13 h this 2).bind fun a3 =>
  (k_ok 16 h a3).bind fun _ =>
  (fX17_clear a3 h).bind fun q6 =>
  (k_ok 13 q6.2 this).bind fun _ =>
  (fX14_next this q6.2).bind fun q8 =>
  if ¬ q8.1 = (46 : Int32) then
    fX14_readPattern_b39 N this x1 q8.2
  else
    (g_A 13 q8.2 this 2).bind fun a10 =>
    (k_ok 16 q8.2 a10).bind fun _ =>
    (fX17_add a10 (0 : Int32) q8.2).bind fun q13 =>
    (g_I 13 q13.2 this 6).bind fun x14 =>
    (p_V 13 q13.2 this 6 (.int (x14 + (1 : Int32)))).bind fun h16 =>
    fX14_readPattern_b39 N this x1 h16
theorem pX14_readPattern {w : eW} {d : Nat} (hd : 8 ≤ d) {N : Nat} {this : Nat} {h : eH} {q} (hf : fX14_readPattern N this h = some q) : wm w d YX14_readPattern [.ref this] h (e_is (e_rt c_V q)) := by
  obtain ⟨d, rfl⟩ : ∃ e, d = e + 1 := ⟨d - 1, by omega⟩
  show wp w (d + 1) YX14_readPattern 0 [some (.ref this), none, none, none] [] h _
  unfold fX14_readPattern at hf
  refine w_aload_n dX14_readPattern_0 rfl rfl ?_
  obtain ⟨x1, b2, hf⟩ := Option.bind_eq_some_iff.mp hf
  refine GX14_35 b2 dX14_readPattern_1 rfl ?_
  refine w_istore_n dX14_readPattern_4 rfl (by decide) (ls' := [some (.ref this), some (.int x1), none, none]) rfl ?_
  refine w_aload_n dX14_readPattern_5 rfl rfl ?_
  obtain ⟨a3, b4, hf⟩ := Option.bind_eq_some_iff.mp hf
  refine GX14_28 b4 dX14_readPattern_6 rfl ?_
  obtain ⟨_, b5, hf⟩ := Option.bind_eq_some_iff.mp hf
  refine x_cnV hf (e_stV (Yc := YX17_clear) (ci := 16) (av := []) (st := []) dX14_readPattern_9 q2328 mX17_clear rfl (k_ok_some b5).1 (k_ok_some b5).2) mX17_clear.2.2.1 mX17_clear.2.2.2.2.1 (Nat.le_of_ble_eq_true rfl) (Nat.le_of_ble_eq_true rfl) (fun q hq => pX17_clear (by omega) hq) (fun q6 hf => ?_)
  refine w_aload_n dX14_readPattern_12 rfl rfl ?_
  obtain ⟨_, b7, hf⟩ := Option.bind_eq_some_iff.mp hf
  refine x_cnI hf (e_stV (Yc := YX14_next) (ci := 13) (av := []) (st := []) dX14_readPattern_13 q2320 mX14_next rfl (k_ok_some b7).1 (k_ok_some b7).2) mX14_next.2.2.1 mX14_next.2.2.2.2.1 (Nat.le_of_ble_eq_true rfl) (Nat.le_of_ble_eq_true rfl) (fun q hq => pX14_next (by omega) hq) (fun q8 hf => ?_)
  refine w_bipush dX14_readPattern_16 (v := 46) (by decide) ?_
  refine w_icmp_ne 39 dX14_readPattern_18 (by decide) (fun c9 => ?_) (fun c9 => ?_)
  · replace hf := (if_pos (show ¬ q8.1 = (46 : Int32) from c9)).symm.trans hf
    exact (pX14_readPattern_b39 hd hf).to ⟨rfl, rfl, trivial⟩
  · replace hf := (if_neg (show ¬ (¬ q8.1 = (46 : Int32)) from (fun z => z c9))).symm.trans hf
    refine w_aload_n dX14_readPattern_21 rfl rfl ?_
    obtain ⟨a10, b11, hf⟩ := Option.bind_eq_some_iff.mp hf
    refine GX14_28 b11 dX14_readPattern_22 rfl ?_
    refine w_iconst dX14_readPattern_25 (v := 0) (by decide) ?_
    obtain ⟨_, b12, hf⟩ := Option.bind_eq_some_iff.mp hf
    refine x_cnV hf (e_stV (Yc := YX17_add) (ci := 16) (av := [.int (0 : Int32)]) (st := []) dX14_readPattern_26 q2345 mX17_add rfl (k_ok_some b12).1 (k_ok_some b12).2) mX17_add.2.2.1 mX17_add.2.2.2.2.1 (Nat.le_of_ble_eq_true rfl) (Nat.le_of_ble_eq_true rfl) (fun q hq => pX17_add (by omega) hq) (fun q13 hf => ?_)
    refine w_aload_n dX14_readPattern_29 rfl rfl ?_
    refine w_dup dX14_readPattern_30 rfl ?_
    obtain ⟨x14, b15, hf⟩ := Option.bind_eq_some_iff.mp hf
    refine GX14_35 b15 dX14_readPattern_31 rfl ?_
    refine w_iconst dX14_readPattern_34 (v := 1) (by decide) ?_
    refine w_iadd dX14_readPattern_35 ?_
    obtain ⟨h16, b17, hf⟩ := Option.bind_eq_some_iff.mp hf
    refine SX14_35 b17 dX14_readPattern_36 rfl ?_
    exact (pX14_readPattern_b39 hd hf).to ⟨rfl, rfl, trivial⟩
abbrev cX15_undo : ByteArray := prog_33_method_9_code
def yX15_undo : MethodName := ⟨RX15, "undo", "()V"⟩
def YX15_undo : eY := (yX15_undo, cX15_undo, 2, none, [])
theorem mX15_undo : e_mv YX15_undo RX15 0 := ⟨q2398, q2399, q2400, by decide, by decide +kernel, (e_sig (by decide +kernel))⟩
theorem dX15_undo_0 : decode cX15_undo 0 = .ok (.iconst 0, 1) := dc_3 (by decide +kernel)
theorem dX15_undo_1 : decode cX15_undo 1 = .ok (.istore_n 1, 1) := dc_60 (by decide +kernel)
theorem dX15_undo_2 : decode cX15_undo 2 = .ok (.iload_n 1, 1) := dc_27 (by decide +kernel)
theorem dX15_undo_3 : decode cX15_undo 3 = .ok (.aload_n 0, 1) := dc_42 (by decide +kernel)
theorem dX15_undo_4 : decode cX15_undo 4 = .ok (.getfield 105, 3) := dc_180 (a := 0) (b := 105) (n := 105) (by decide +kernel)
theorem dX15_undo_7 : decode cX15_undo 7 = .ok (.if_icmp .ge 21, 3) := dc_162 (a := 0) (b := 21) (v := 21) (by decide +kernel)
theorem dX15_undo_10 : decode cX15_undo 10 = .ok (.aload_n 0, 1) := dc_42 (by decide +kernel)
theorem dX15_undo_11 : decode cX15_undo 11 = .ok (.getfield 22, 3) := dc_180 (a := 0) (b := 22) (n := 22) (by decide +kernel)
theorem dX15_undo_14 : decode cX15_undo 14 = .ok (.aload_n 0, 1) := dc_42 (by decide +kernel)
theorem dX15_undo_15 : decode cX15_undo 15 = .ok (.getfield 50, 3) := dc_180 (a := 0) (b := 50) (n := 50) (by decide +kernel)
theorem dX15_undo_18 : decode cX15_undo 18 = .ok (.iload_n 1, 1) := dc_27 (by decide +kernel)
theorem dX15_undo_19 : decode cX15_undo 19 = .ok (.iaload, 1) := dc_46 (by decide +kernel)
theorem dX15_undo_20 : decode cX15_undo 20 = .ok (.iconst 0, 1) := dc_3 (by decide +kernel)
theorem dX15_undo_21 : decode cX15_undo 21 = .ok (.iastore, 1) := dc_79 (by decide +kernel)
theorem dX15_undo_22 : decode cX15_undo 22 = .ok (.iinc 1 1, 3) := dc_132 (a := 1) (b := 1) (v := 1) (by decide +kernel)
theorem dX15_undo_25 : decode cX15_undo 25 = .ok (.goto (-23), 3) := dc_167 (a := 255) (b := 233) (v := -23) (by decide +kernel)
theorem dX15_undo_28 : decode cX15_undo 28 = .ok (.aload_n 0, 1) := dc_42 (by decide +kernel)
theorem dX15_undo_29 : decode cX15_undo 29 = .ok (.getfield 56, 3) := dc_180 (a := 0) (b := 56) (n := 56) (by decide +kernel)
theorem dX15_undo_32 : decode cX15_undo 32 = .ok (.aload_n 0, 1) := dc_42 (by decide +kernel)
theorem dX15_undo_33 : decode cX15_undo 33 = .ok (.getfield 108, 3) := dc_180 (a := 0) (b := 108) (n := 108) (by decide +kernel)
theorem dX15_undo_36 : decode cX15_undo 36 = .ok (.if_icmp .le 39, 3) := dc_164 (a := 0) (b := 39) (v := 39) (by decide +kernel)
theorem dX15_undo_39 : decode cX15_undo 39 = .ok (.aload_n 0, 1) := dc_42 (by decide +kernel)
theorem dX15_undo_40 : decode cX15_undo 40 = .ok (.dup, 1) := dc_89 (by decide +kernel)
theorem dX15_undo_41 : decode cX15_undo 41 = .ok (.getfield 56, 3) := dc_180 (a := 0) (b := 56) (n := 56) (by decide +kernel)
theorem dX15_undo_44 : decode cX15_undo 44 = .ok (.iconst 1, 1) := dc_4 (by decide +kernel)
theorem dX15_undo_45 : decode cX15_undo 45 = .ok (.isub, 1) := dc_100 (by decide +kernel)
theorem dX15_undo_46 : decode cX15_undo 46 = .ok (.putfield 56, 3) := dc_181 (a := 0) (b := 56) (n := 56) (by decide +kernel)
theorem dX15_undo_49 : decode cX15_undo 49 = .ok (.aload_n 0, 1) := dc_42 (by decide +kernel)
theorem dX15_undo_50 : decode cX15_undo 50 = .ok (.getfield 9, 3) := dc_180 (a := 0) (b := 9) (n := 9) (by decide +kernel)
theorem dX15_undo_53 : decode cX15_undo 53 = .ok (.aload_n 0, 1) := dc_42 (by decide +kernel)
theorem dX15_undo_54 : decode cX15_undo 54 = .ok (.getfield 25, 3) := dc_180 (a := 0) (b := 25) (n := 25) (by decide +kernel)
theorem dX15_undo_57 : decode cX15_undo 57 = .ok (.aload_n 0, 1) := dc_42 (by decide +kernel)
theorem dX15_undo_58 : decode cX15_undo 58 = .ok (.getfield 56, 3) := dc_180 (a := 0) (b := 56) (n := 56) (by decide +kernel)
theorem dX15_undo_61 : decode cX15_undo 61 = .ok (.iaload, 1) := dc_46 (by decide +kernel)
theorem dX15_undo_62 : decode cX15_undo 62 = .ok (.aload_n 0, 1) := dc_42 (by decide +kernel)
theorem dX15_undo_63 : decode cX15_undo 63 = .ok (.getfield 15, 3) := dc_180 (a := 0) (b := 15) (n := 15) (by decide +kernel)
theorem dX15_undo_66 : decode cX15_undo 66 = .ok (.aload_n 0, 1) := dc_42 (by decide +kernel)
theorem dX15_undo_67 : decode cX15_undo 67 = .ok (.getfield 56, 3) := dc_180 (a := 0) (b := 56) (n := 56) (by decide +kernel)
theorem dX15_undo_70 : decode cX15_undo 70 = .ok (.iaload, 1) := dc_46 (by decide +kernel)
theorem dX15_undo_71 : decode cX15_undo 71 = .ok (.iastore, 1) := dc_79 (by decide +kernel)
theorem dX15_undo_72 : decode cX15_undo 72 = .ok (.goto (-44), 3) := dc_167 (a := 255) (b := 212) (v := -44) (by decide +kernel)
theorem dX15_undo_75 : decode cX15_undo 75 = .ok (.aload_n 0, 1) := dc_42 (by decide +kernel)
theorem dX15_undo_76 : decode cX15_undo 76 = .ok (.aload_n 0, 1) := dc_42 (by decide +kernel)
theorem dX15_undo_77 : decode cX15_undo 77 = .ok (.getfield 111, 3) := dc_180 (a := 0) (b := 111) (n := 111) (by decide +kernel)
theorem dX15_undo_80 : decode cX15_undo 80 = .ok (.putfield 60, 3) := dc_181 (a := 0) (b := 60) (n := 60) (by decide +kernel)
theorem dX15_undo_83 : decode cX15_undo 83 = .ok (.aload_n 0, 1) := dc_42 (by decide +kernel)
theorem dX15_undo_84 : decode cX15_undo 84 = .ok (.aload_n 0, 1) := dc_42 (by decide +kernel)
theorem dX15_undo_85 : decode cX15_undo 85 = .ok (.getfield 114, 3) := dc_180 (a := 0) (b := 114) (n := 114) (by decide +kernel)
theorem dX15_undo_88 : decode cX15_undo 88 = .ok (.putfield 63, 3) := dc_181 (a := 0) (b := 63) (n := 63) (by decide +kernel)
theorem dX15_undo_91 : decode cX15_undo 91 = .ok (.aload_n 0, 1) := dc_42 (by decide +kernel)
theorem dX15_undo_92 : decode cX15_undo 92 = .ok (.aload_n 0, 1) := dc_42 (by decide +kernel)
theorem dX15_undo_93 : decode cX15_undo 93 = .ok (.getfield 117, 3) := dc_180 (a := 0) (b := 117) (n := 117) (by decide +kernel)
theorem dX15_undo_96 : decode cX15_undo 96 = .ok (.putfield 66, 3) := dc_181 (a := 0) (b := 66) (n := 66) (by decide +kernel)
theorem dX15_undo_99 : decode cX15_undo 99 = .ok (.aload_n 0, 1) := dc_42 (by decide +kernel)
theorem dX15_undo_100 : decode cX15_undo 100 = .ok (.aload_n 0, 1) := dc_42 (by decide +kernel)
theorem dX15_undo_101 : decode cX15_undo 101 = .ok (.getfield 120, 3) := dc_180 (a := 0) (b := 120) (n := 120) (by decide +kernel)
theorem dX15_undo_104 : decode cX15_undo 104 = .ok (.putfield 73, 3) := dc_181 (a := 0) (b := 73) (n := 73) (by decide +kernel)
theorem dX15_undo_107 : decode cX15_undo 107 = .ok (.return_, 1) := dc_177 (by decide +kernel)
theorem GX15_108 {w : eW} {d : Nat} {Y : eY} {pc : Nat} {ls : eL} {st : List Value} {h : eH} {Q : eO → eH → Prop} {a : Nat} {x : Int32} (hf : g_I 14 h a 20 = some x) (hd : decode Y.2.1 pc = .ok (.getfield 108, 3)) (hY : Y.1.cls = RX15) (kk : wp w d Y (pc + 3) ls (.int x :: st) h Q) : wp w d Y pc ls (.ref a :: st) h Q := x_gI (ci := 14) (k := 20) hf hd rfl (by decide) (by rw [hY]; exact q979) kk
theorem GX15_111 {w : eW} {d : Nat} {Y : eY} {pc : Nat} {ls : eL} {st : List Value} {h : eH} {Q : eO → eH → Prop} {a : Nat} {x : Int32} (hf : g_I 14 h a 21 = some x) (hd : decode Y.2.1 pc = .ok (.getfield 111, 3)) (hY : Y.1.cls = RX15) (kk : wp w d Y (pc + 3) ls (.int x :: st) h Q) : wp w d Y pc ls (.ref a :: st) h Q := x_gI (ci := 14) (k := 21) hf hd rfl (by decide) (by rw [hY]; exact q980) kk
theorem GX15_114 {w : eW} {d : Nat} {Y : eY} {pc : Nat} {ls : eL} {st : List Value} {h : eH} {Q : eO → eH → Prop} {a : Nat} {x : Int32} (hf : g_I 14 h a 22 = some x) (hd : decode Y.2.1 pc = .ok (.getfield 114, 3)) (hY : Y.1.cls = RX15) (kk : wp w d Y (pc + 3) ls (.int x :: st) h Q) : wp w d Y pc ls (.ref a :: st) h Q := x_gI (ci := 14) (k := 22) hf hd rfl (by decide) (by rw [hY]; exact q981) kk
theorem GX15_117 {w : eW} {d : Nat} {Y : eY} {pc : Nat} {ls : eL} {st : List Value} {h : eH} {Q : eO → eH → Prop} {a : Nat} {x : Int32} (hf : g_I 14 h a 23 = some x) (hd : decode Y.2.1 pc = .ok (.getfield 117, 3)) (hY : Y.1.cls = RX15) (kk : wp w d Y (pc + 3) ls (.int x :: st) h Q) : wp w d Y pc ls (.ref a :: st) h Q := x_gI (ci := 14) (k := 23) hf hd rfl (by decide) (by rw [hY]; exact q982) kk
theorem GX15_120 {w : eW} {d : Nat} {Y : eY} {pc : Nat} {ls : eL} {st : List Value} {h : eH} {Q : eO → eH → Prop} {a : Nat} {x : Int32} (hf : g_I 14 h a 24 = some x) (hd : decode Y.2.1 pc = .ok (.getfield 120, 3)) (hY : Y.1.cls = RX15) (kk : wp w d Y (pc + 3) ls (.int x :: st) h Q) : wp w d Y pc ls (.ref a :: st) h Q := x_gI (ci := 14) (k := 24) hf hd rfl (by decide) (by rw [hY]; exact q983) kk
def fX15_undo_b28 (N : Nat) : Nat → Nat → eH → Option (Unit × eH)
  | 0, _, _ => none
  | n + 1, l0, h =>
    (g_I 14 h l0 5).bind fun x1 =>
    (g_I 14 h l0 20).bind fun x3 =>
    if x1 ≤ x3 then
      (g_I 14 h l0 21).bind fun x6 =>
      (p_V 14 h l0 9 (.int x6)).bind fun h8 =>
      (g_I 14 h8 l0 22).bind fun x10 =>
      (p_V 14 h8 l0 16 (.int x10)).bind fun h12 =>
      (g_I 14 h12 l0 23).bind fun x14 =>
      (p_V 14 h12 l0 17 (.int x14)).bind fun h16 =>
      (g_I 14 h16 l0 24).bind fun x18 =>
      (p_Z 14 h16 l0 15 x18).bind fun h20 =>
      some ((), h20)
    else
      (g_I 14 h l0 5).bind fun x22 =>
      (p_V 14 h l0 5 (.int (x22 - (1 : Int32)))).bind fun h24 =>
      (g_A 14 h24 l0 0).bind fun a26 =>
      (g_A 14 h24 l0 4).bind fun a28 =>
      (g_I 14 h24 l0 5).bind fun x30 =>
      (r_I 100 h24 a28 x30).bind fun x32 =>
      (g_A 14 h24 l0 1).bind fun a34 =>
      (g_I 14 h24 l0 5).bind fun x36 =>
      (r_I 100 h24 a34 x36).bind fun x38 =>
      (q_V 100 h24 a26 x32 (.int x38)).bind fun h40 =>
      fX15_undo_b28 N n l0 h40
theorem pX15_undo_b28 {w : eW} {d : Nat} (hd : 0 ≤ d) {N : Nat} : ∀ (n : Nat) l0 h q, fX15_undo_b28 N n l0 h = some q → wp w d YX15_undo 28 [some (.ref l0), none] [] h (e_is (e_rn c_V q)) := by
  intro n
  induction n with
  | zero => intro l0 h q hf; simp [fX15_undo_b28] at hf
  | succ n ih =>
    intro l0 h q hf
    rw [fX15_undo_b28] at hf
    refine w_aload_n dX15_undo_28 rfl rfl ?_
    obtain ⟨x1, b2, hf⟩ := Option.bind_eq_some_iff.mp hf
    refine GX15_56 b2 dX15_undo_29 rfl ?_
    refine w_aload_n dX15_undo_32 rfl rfl ?_
    obtain ⟨x3, b4, hf⟩ := Option.bind_eq_some_iff.mp hf
    refine GX15_108 b4 dX15_undo_33 rfl ?_
    refine w_icmp_le 75 dX15_undo_36 (by decide) (fun c5 => ?_) (fun c5 => ?_)
    · replace hf := (if_pos (show x1 ≤ x3 from c5)).symm.trans hf
      refine w_aload_n dX15_undo_75 rfl rfl ?_
      refine w_aload_n dX15_undo_76 rfl rfl ?_
      obtain ⟨x6, b7, hf⟩ := Option.bind_eq_some_iff.mp hf
      refine GX15_111 b7 dX15_undo_77 rfl ?_
      obtain ⟨h8, b9, hf⟩ := Option.bind_eq_some_iff.mp hf
      refine SX15_60 b9 dX15_undo_80 rfl ?_
      refine w_aload_n dX15_undo_83 rfl rfl ?_
      refine w_aload_n dX15_undo_84 rfl rfl ?_
      obtain ⟨x10, b11, hf⟩ := Option.bind_eq_some_iff.mp hf
      refine GX15_114 b11 dX15_undo_85 rfl ?_
      obtain ⟨h12, b13, hf⟩ := Option.bind_eq_some_iff.mp hf
      refine SX15_63 b13 dX15_undo_88 rfl ?_
      refine w_aload_n dX15_undo_91 rfl rfl ?_
      refine w_aload_n dX15_undo_92 rfl rfl ?_
      obtain ⟨x14, b15, hf⟩ := Option.bind_eq_some_iff.mp hf
      refine GX15_117 b15 dX15_undo_93 rfl ?_
      obtain ⟨h16, b17, hf⟩ := Option.bind_eq_some_iff.mp hf
      refine SX15_66 b17 dX15_undo_96 rfl ?_
      refine w_aload_n dX15_undo_99 rfl rfl ?_
      refine w_aload_n dX15_undo_100 rfl rfl ?_
      obtain ⟨x18, b19, hf⟩ := Option.bind_eq_some_iff.mp hf
      refine GX15_120 b19 dX15_undo_101 rfl ?_
      obtain ⟨h20, b21, hf⟩ := Option.bind_eq_some_iff.mp hf
      refine SX15_73 b21 dX15_undo_104 rfl ?_
      cases hf
      exact w_vret dX15_undo_107 rfl rfl
    · replace hf := (if_neg (show ¬ (x1 ≤ x3) from c5)).symm.trans hf
      refine w_aload_n dX15_undo_39 rfl rfl ?_
      refine w_dup dX15_undo_40 rfl ?_
      obtain ⟨x22, b23, hf⟩ := Option.bind_eq_some_iff.mp hf
      refine GX15_56 b23 dX15_undo_41 rfl ?_
      refine w_iconst dX15_undo_44 (v := 1) (by decide) ?_
      refine w_isub dX15_undo_45 ?_
      obtain ⟨h24, b25, hf⟩ := Option.bind_eq_some_iff.mp hf
      refine SX15_56 b25 dX15_undo_46 rfl ?_
      refine w_aload_n dX15_undo_49 rfl rfl ?_
      obtain ⟨a26, b27, hf⟩ := Option.bind_eq_some_iff.mp hf
      refine GX15_9 b27 dX15_undo_50 rfl ?_
      refine w_aload_n dX15_undo_53 rfl rfl ?_
      obtain ⟨a28, b29, hf⟩ := Option.bind_eq_some_iff.mp hf
      refine GX15_25 b29 dX15_undo_54 rfl ?_
      refine w_aload_n dX15_undo_57 rfl rfl ?_
      obtain ⟨x30, b31, hf⟩ := Option.bind_eq_some_iff.mp hf
      refine GX15_56 b31 dX15_undo_58 rfl ?_
      obtain ⟨x32, b33, hf⟩ := Option.bind_eq_some_iff.mp hf
      refine x_rI b33 dX15_undo_61 ?_
      refine w_aload_n dX15_undo_62 rfl rfl ?_
      obtain ⟨a34, b35, hf⟩ := Option.bind_eq_some_iff.mp hf
      refine GX15_15 b35 dX15_undo_63 rfl ?_
      refine w_aload_n dX15_undo_66 rfl rfl ?_
      obtain ⟨x36, b37, hf⟩ := Option.bind_eq_some_iff.mp hf
      refine GX15_56 b37 dX15_undo_67 rfl ?_
      obtain ⟨x38, b39, hf⟩ := Option.bind_eq_some_iff.mp hf
      refine x_rI b39 dX15_undo_70 ?_
      obtain ⟨h40, b41, hf⟩ := Option.bind_eq_some_iff.mp hf
      refine x_qI b41 dX15_undo_71 ?_
      refine w_goto 28 dX15_undo_72 (by decide) ?_
      exact (ih _ _ _ hf).to ⟨rfl, trivial⟩
def fX15_undo_b2 (N : Nat) : Nat → Nat → Int32 → eH → Option (Unit × eH)
  | 0, _, _, _ => none
  | n + 1, l0, l1, h =>
    (g_I 14 h l0 19).bind fun x1 =>
    if x1 ≤ l1 then
      fX15_undo_b28 N N l0 h
    else
      (g_A 14 h l0 3).bind fun a4 =>
      (g_A 14 h l0 18).bind fun a6 =>
      (r_I 100 h a6 l1).bind fun x8 =>
      (q_V 100 h a4 x8 (.int (0 : Int32))).bind fun h10 =>
      fX15_undo_b2 N n l0 (l1 + (1 : Int32)) h10
theorem pX15_undo_b2 {w : eW} {d : Nat} (hd : 0 ≤ d) {N : Nat} : ∀ (n : Nat) l0 l1 h q, fX15_undo_b2 N n l0 l1 h = some q → wp w d YX15_undo 2 [some (.ref l0), some (.int l1)] [] h (e_is (e_rn c_V q)) := by
  intro n
  induction n with
  | zero => intro l0 l1 h q hf; simp [fX15_undo_b2] at hf
  | succ n ih =>
    intro l0 l1 h q hf
    rw [fX15_undo_b2] at hf
    refine w_iload_n dX15_undo_2 rfl rfl ?_
    refine w_aload_n dX15_undo_3 rfl rfl ?_
    obtain ⟨x1, b2, hf⟩ := Option.bind_eq_some_iff.mp hf
    refine GX15_105 b2 dX15_undo_4 rfl ?_
    refine w_icmp_ge 28 dX15_undo_7 (by decide) (fun c3 => ?_) (fun c3 => ?_)
    · replace hf := (if_pos (show x1 ≤ l1 from c3)).symm.trans hf
      exact (pX15_undo_b28 hd N _ _ _ hf).to ⟨rfl, trivial⟩
    · replace hf := (if_neg (show ¬ (x1 ≤ l1) from c3)).symm.trans hf
      refine w_aload_n dX15_undo_10 rfl rfl ?_
      obtain ⟨a4, b5, hf⟩ := Option.bind_eq_some_iff.mp hf
      refine GX15_22 b5 dX15_undo_11 rfl ?_
      refine w_aload_n dX15_undo_14 rfl rfl ?_
      obtain ⟨a6, b7, hf⟩ := Option.bind_eq_some_iff.mp hf
      refine GX15_50 b7 dX15_undo_15 rfl ?_
      refine w_iload_n dX15_undo_18 rfl rfl ?_
      obtain ⟨x8, b9, hf⟩ := Option.bind_eq_some_iff.mp hf
      refine x_rI b9 dX15_undo_19 ?_
      refine w_iconst dX15_undo_20 (v := 0) (by decide) ?_
      obtain ⟨h10, b11, hf⟩ := Option.bind_eq_some_iff.mp hf
      refine x_qI b11 dX15_undo_21 ?_
      refine w_iinc dX15_undo_22 (v := (l1 + (1 : Int32))) rfl rfl (by decide) (ls' := [some (.ref l0), some (.int (l1 + (1 : Int32)))]) rfl ?_
      refine w_goto 2 dX15_undo_25 (by decide) ?_
      exact (ih _ _ _ _ hf).to ⟨rfl, rfl, trivial⟩
def fX15_undo (N : Nat) (this : Nat) (h : eH) : Option (Unit × eH) :=
  fX15_undo_b2 N N this (0 : Int32) h
theorem pX15_undo {w : eW} {d : Nat} (hd : 0 ≤ d) {N : Nat} {this : Nat} {h : eH} {q} (hf : fX15_undo N this h = some q) : wm w d YX15_undo [.ref this] h (e_is (e_rn c_V q)) := by
  show wp w d YX15_undo 0 [some (.ref this), none] [] h _
  unfold fX15_undo at hf
  refine w_iconst dX15_undo_0 (v := 0) (by decide) ?_
  refine w_istore_n dX15_undo_1 rfl (by decide) (ls' := [some (.ref this), some (.int (0 : Int32))]) rfl ?_
  exact (pX15_undo_b2 hd N _ _ _ _ hf).to ⟨rfl, rfl, trivial⟩
abbrev cX16_undo : ByteArray := prog_32_method_8_code
def yX16_undo : MethodName := ⟨RX16, "undo", "(LTypeHouse$Letters;)V"⟩
def YX16_undo : eY := (yX16_undo, cX16_undo, 3, none, [])
theorem mX16_undo : e_mv YX16_undo RX16 1 := ⟨q2402, q2403, q2404, by decide, by decide +kernel, (e_sig (by decide +kernel))⟩
theorem dX16_undo_0 : decode cX16_undo 0 = .ok (.aload_n 0, 1) := dc_42 (by decide +kernel)
theorem dX16_undo_1 : decode cX16_undo 1 = .ok (.getfield 63, 3) := dc_180 (a := 0) (b := 63) (n := 63) (by decide +kernel)
theorem dX16_undo_4 : decode cX16_undo 4 = .ok (.ifCond .le 39, 3) := dc_158 (a := 0) (b := 39) (v := 39) (by decide +kernel)
theorem dX16_undo_7 : decode cX16_undo 7 = .ok (.aload_n 0, 1) := dc_42 (by decide +kernel)
theorem dX16_undo_8 : decode cX16_undo 8 = .ok (.dup, 1) := dc_89 (by decide +kernel)
theorem dX16_undo_9 : decode cX16_undo 9 = .ok (.getfield 63, 3) := dc_180 (a := 0) (b := 63) (n := 63) (by decide +kernel)
theorem dX16_undo_12 : decode cX16_undo 12 = .ok (.iconst 1, 1) := dc_4 (by decide +kernel)
theorem dX16_undo_13 : decode cX16_undo 13 = .ok (.isub, 1) := dc_100 (by decide +kernel)
theorem dX16_undo_14 : decode cX16_undo 14 = .ok (.putfield 63, 3) := dc_181 (a := 0) (b := 63) (n := 63) (by decide +kernel)
theorem dX16_undo_17 : decode cX16_undo 17 = .ok (.aload_n 0, 1) := dc_42 (by decide +kernel)
theorem dX16_undo_18 : decode cX16_undo 18 = .ok (.getfield 21, 3) := dc_180 (a := 0) (b := 21) (n := 21) (by decide +kernel)
theorem dX16_undo_21 : decode cX16_undo 21 = .ok (.aload_n 0, 1) := dc_42 (by decide +kernel)
theorem dX16_undo_22 : decode cX16_undo 22 = .ok (.getfield 30, 3) := dc_180 (a := 0) (b := 30) (n := 30) (by decide +kernel)
theorem dX16_undo_25 : decode cX16_undo 25 = .ok (.aload_n 0, 1) := dc_42 (by decide +kernel)
theorem dX16_undo_26 : decode cX16_undo 26 = .ok (.getfield 63, 3) := dc_180 (a := 0) (b := 63) (n := 63) (by decide +kernel)
theorem dX16_undo_29 : decode cX16_undo 29 = .ok (.iaload, 1) := dc_46 (by decide +kernel)
theorem dX16_undo_30 : decode cX16_undo 30 = .ok (.aload_n 0, 1) := dc_42 (by decide +kernel)
theorem dX16_undo_31 : decode cX16_undo 31 = .ok (.getfield 33, 3) := dc_180 (a := 0) (b := 33) (n := 33) (by decide +kernel)
theorem dX16_undo_34 : decode cX16_undo 34 = .ok (.aload_n 0, 1) := dc_42 (by decide +kernel)
theorem dX16_undo_35 : decode cX16_undo 35 = .ok (.getfield 63, 3) := dc_180 (a := 0) (b := 63) (n := 63) (by decide +kernel)
theorem dX16_undo_38 : decode cX16_undo 38 = .ok (.laload, 1) := dc_47 (by decide +kernel)
theorem dX16_undo_39 : decode cX16_undo 39 = .ok (.lastore, 1) := dc_80 (by decide +kernel)
theorem dX16_undo_40 : decode cX16_undo 40 = .ok (.goto (-40), 3) := dc_167 (a := 255) (b := 216) (v := -40) (by decide +kernel)
theorem dX16_undo_43 : decode cX16_undo 43 = .ok (.aload_n 0, 1) := dc_42 (by decide +kernel)
theorem dX16_undo_44 : decode cX16_undo 44 = .ok (.getfield 36, 3) := dc_180 (a := 0) (b := 36) (n := 36) (by decide +kernel)
theorem dX16_undo_47 : decode cX16_undo 47 = .ok (.aload_n 0, 1) := dc_42 (by decide +kernel)
theorem dX16_undo_48 : decode cX16_undo 48 = .ok (.getfield 69, 3) := dc_180 (a := 0) (b := 69) (n := 69) (by decide +kernel)
theorem dX16_undo_51 : decode cX16_undo 51 = .ok (.if_icmp .le 76, 3) := dc_164 (a := 0) (b := 76) (v := 76) (by decide +kernel)
theorem dX16_undo_54 : decode cX16_undo 54 = .ok (.aload_n 1, 1) := dc_43 (by decide +kernel)
theorem dX16_undo_55 : decode cX16_undo 55 = .ok (.invokevirtual 75, 3) := dc_182 (a := 0) (b := 75) (n := 75) (by decide +kernel)
theorem dX16_undo_58 : decode cX16_undo 58 = .ok (.iconst 0, 1) := dc_3 (by decide +kernel)
theorem dX16_undo_59 : decode cX16_undo 59 = .ok (.istore_n 2, 1) := dc_61 (by decide +kernel)
theorem dX16_undo_60 : decode cX16_undo 60 = .ok (.iload_n 2, 1) := dc_28 (by decide +kernel)
theorem dX16_undo_61 : decode cX16_undo 61 = .ok (.aload_n 0, 1) := dc_42 (by decide +kernel)
theorem dX16_undo_62 : decode cX16_undo 62 = .ok (.getfield 18, 3) := dc_180 (a := 0) (b := 18) (n := 18) (by decide +kernel)
theorem dX16_undo_65 : decode cX16_undo 65 = .ok (.aload_n 0, 1) := dc_42 (by decide +kernel)
theorem dX16_undo_66 : decode cX16_undo 66 = .ok (.getfield 36, 3) := dc_180 (a := 0) (b := 36) (n := 36) (by decide +kernel)
theorem dX16_undo_69 : decode cX16_undo 69 = .ok (.iconst 1, 1) := dc_4 (by decide +kernel)
theorem dX16_undo_70 : decode cX16_undo 70 = .ok (.isub, 1) := dc_100 (by decide +kernel)
theorem dX16_undo_71 : decode cX16_undo 71 = .ok (.iaload, 1) := dc_46 (by decide +kernel)
theorem dX16_undo_72 : decode cX16_undo 72 = .ok (.if_icmp .ge 31, 3) := dc_162 (a := 0) (b := 31) (v := 31) (by decide +kernel)
theorem dX16_undo_75 : decode cX16_undo 75 = .ok (.aload_n 1, 1) := dc_43 (by decide +kernel)
theorem dX16_undo_76 : decode cX16_undo 76 = .ok (.aload_n 0, 1) := dc_42 (by decide +kernel)
theorem dX16_undo_77 : decode cX16_undo 77 = .ok (.getfield 25, 3) := dc_180 (a := 0) (b := 25) (n := 25) (by decide +kernel)
theorem dX16_undo_80 : decode cX16_undo 80 = .ok (.aload_n 0, 1) := dc_42 (by decide +kernel)
theorem dX16_undo_81 : decode cX16_undo 81 = .ok (.getfield 15, 3) := dc_180 (a := 0) (b := 15) (n := 15) (by decide +kernel)
theorem dX16_undo_84 : decode cX16_undo 84 = .ok (.aload_n 0, 1) := dc_42 (by decide +kernel)
theorem dX16_undo_85 : decode cX16_undo 85 = .ok (.getfield 36, 3) := dc_180 (a := 0) (b := 36) (n := 36) (by decide +kernel)
theorem dX16_undo_88 : decode cX16_undo 88 = .ok (.iconst 1, 1) := dc_4 (by decide +kernel)
theorem dX16_undo_89 : decode cX16_undo 89 = .ok (.isub, 1) := dc_100 (by decide +kernel)
theorem dX16_undo_90 : decode cX16_undo 90 = .ok (.iaload, 1) := dc_46 (by decide +kernel)
theorem dX16_undo_91 : decode cX16_undo 91 = .ok (.iload_n 2, 1) := dc_28 (by decide +kernel)
theorem dX16_undo_92 : decode cX16_undo 92 = .ok (.iadd, 1) := dc_96 (by decide +kernel)
theorem dX16_undo_93 : decode cX16_undo 93 = .ok (.baload, 1) := dc_51 (by decide +kernel)
theorem dX16_undo_94 : decode cX16_undo 94 = .ok (.invokevirtual 78, 3) := dc_182 (a := 0) (b := 78) (n := 78) (by decide +kernel)
theorem dX16_undo_97 : decode cX16_undo 97 = .ok (.iinc 2 1, 3) := dc_132 (a := 2) (b := 1) (v := 1) (by decide +kernel)
theorem dX16_undo_100 : decode cX16_undo 100 = .ok (.goto (-40), 3) := dc_167 (a := 255) (b := 216) (v := -40) (by decide +kernel)
theorem dX16_undo_103 : decode cX16_undo 103 = .ok (.aload_n 0, 1) := dc_42 (by decide +kernel)
theorem dX16_undo_104 : decode cX16_undo 104 = .ok (.getfield 11, 3) := dc_180 (a := 0) (b := 11) (n := 11) (by decide +kernel)
theorem dX16_undo_107 : decode cX16_undo 107 = .ok (.aload_n 0, 1) := dc_42 (by decide +kernel)
theorem dX16_undo_108 : decode cX16_undo 108 = .ok (.aload_n 1, 1) := dc_43 (by decide +kernel)
theorem dX16_undo_109 : decode cX16_undo 109 = .ok (.invokevirtual 53, 3) := dc_182 (a := 0) (b := 53) (n := 53) (by decide +kernel)
theorem dX16_undo_112 : decode cX16_undo 112 = .ok (.iconst 0, 1) := dc_3 (by decide +kernel)
theorem dX16_undo_113 : decode cX16_undo 113 = .ok (.iastore, 1) := dc_79 (by decide +kernel)
theorem dX16_undo_114 : decode cX16_undo 114 = .ok (.aload_n 0, 1) := dc_42 (by decide +kernel)
theorem dX16_undo_115 : decode cX16_undo 115 = .ok (.dup, 1) := dc_89 (by decide +kernel)
theorem dX16_undo_116 : decode cX16_undo 116 = .ok (.getfield 36, 3) := dc_180 (a := 0) (b := 36) (n := 36) (by decide +kernel)
theorem dX16_undo_119 : decode cX16_undo 119 = .ok (.iconst 1, 1) := dc_4 (by decide +kernel)
theorem dX16_undo_120 : decode cX16_undo 120 = .ok (.isub, 1) := dc_100 (by decide +kernel)
theorem dX16_undo_121 : decode cX16_undo 121 = .ok (.putfield 36, 3) := dc_181 (a := 0) (b := 36) (n := 36) (by decide +kernel)
theorem dX16_undo_124 : decode cX16_undo 124 = .ok (.goto (-81), 3) := dc_167 (a := 255) (b := 175) (v := -81) (by decide +kernel)
theorem dX16_undo_127 : decode cX16_undo 127 = .ok (.aload_n 0, 1) := dc_42 (by decide +kernel)
theorem dX16_undo_128 : decode cX16_undo 128 = .ok (.aload_n 0, 1) := dc_42 (by decide +kernel)
theorem dX16_undo_129 : decode cX16_undo 129 = .ok (.getfield 72, 3) := dc_180 (a := 0) (b := 72) (n := 72) (by decide +kernel)
theorem dX16_undo_132 : decode cX16_undo 132 = .ok (.putfield 40, 3) := dc_181 (a := 0) (b := 40) (n := 40) (by decide +kernel)
theorem dX16_undo_135 : decode cX16_undo 135 = .ok (.return_, 1) := dc_177 (by decide +kernel)
theorem GX16_69 {w : eW} {d : Nat} {Y : eY} {pc : Nat} {ls : eL} {st : List Value} {h : eH} {Q : eO → eH → Prop} {a : Nat} {x : Int32} (hf : g_I 15 h a 7 = some x) (hd : decode Y.2.1 pc = .ok (.getfield 69, 3)) (hY : Y.1.cls = RX16) (kk : wp w d Y (pc + 3) ls (.int x :: st) h Q) : wp w d Y pc ls (.ref a :: st) h Q := x_gI (ci := 15) (k := 7) hf hd rfl (by decide) (by rw [hY]; exact q1051) kk
theorem GX16_72 {w : eW} {d : Nat} {Y : eY} {pc : Nat} {ls : eL} {st : List Value} {h : eH} {Q : eO → eH → Prop} {a : Nat} {x : Int32} (hf : g_I 15 h a 8 = some x) (hd : decode Y.2.1 pc = .ok (.getfield 72, 3)) (hY : Y.1.cls = RX16) (kk : wp w d Y (pc + 3) ls (.int x :: st) h Q) : wp w d Y pc ls (.ref a :: st) h Q := x_gI (ci := 15) (k := 8) hf hd rfl (by decide) (by rw [hY]; exact q1052) kk
def fX16_undo_b60 (N : Nat) (k43 : Nat → Nat → eH → Option (Unit × eH)) : Nat → Nat → Nat → Int32 → eH → Option (Unit × eH)
  | 0, _, _, _, _ => none
  | n + 1, l0, l1, l2, h =>
    (g_A 15 h l0 2).bind fun a1 =>
    (g_I 15 h l0 5).bind fun x3 =>
    (r_I 100 h a1 (x3 - (1 : Int32))).bind fun x5 =>
    if x5 ≤ l2 then
      (g_A 15 h l0 0).bind fun a8 =>
      (k_ok 15 h l0).bind fun _ =>
      (fX16_seek N l0 l1 h).bind fun q11 =>
      (q_V 100 q11.2 a8 q11.1 (.int (0 : Int32))).bind fun h12 =>
      (g_I 15 h12 l0 5).bind fun x14 =>
      (p_V 15 h12 l0 5 (.int (x14 - (1 : Int32)))).bind fun h16 =>
      k43 l0 l1 h16
    else
      (g_A 15 h l0 4).bind fun a18 =>
      (g_A 15 h l0 1).bind fun a20 =>
      (g_I 15 h l0 5).bind fun x22 =>
      (r_I 100 h a20 (x22 - (1 : Int32))).bind fun x24 =>
      (r_I 102 h a18 (x24 + l2)).bind fun x26 =>
      (k_ok 16 h l1).bind fun _ =>
      (fX17_add l1 x26 h).bind fun q29 =>
      fX16_undo_b60 N k43 n l0 l1 (l2 + (1 : Int32)) q29.2
theorem pX16_undo_b60 {w : eW} {d : Nat} (hd : 2 ≤ d + 1) {N : Nat} {k43 : Nat → Nat → eH → Option (Unit × eH)} (hk43 : ∀ l0 l1 h q, k43 l0 l1 h = some q → wp w (d + 1) YX16_undo 43 [some (.ref l0), some (.ref l1), none] [] h (e_is (e_rn c_V q))) : ∀ (n : Nat) l0 l1 l2 h q, fX16_undo_b60 N k43 n l0 l1 l2 h = some q → wp w (d + 1) YX16_undo 60 [some (.ref l0), some (.ref l1), some (.int l2)] [] h (e_is (e_rn c_V q)) := by
  intro n
  induction n with
  | zero => intro l0 l1 l2 h q hf; simp [fX16_undo_b60] at hf
  | succ n ih =>
    intro l0 l1 l2 h q hf
    rw [fX16_undo_b60] at hf
    refine w_iload_n dX16_undo_60 rfl rfl ?_
    refine w_aload_n dX16_undo_61 rfl rfl ?_
    obtain ⟨a1, b2, hf⟩ := Option.bind_eq_some_iff.mp hf
    refine GX16_18 b2 dX16_undo_62 rfl ?_
    refine w_aload_n dX16_undo_65 rfl rfl ?_
    obtain ⟨x3, b4, hf⟩ := Option.bind_eq_some_iff.mp hf
    refine GX16_36 b4 dX16_undo_66 rfl ?_
    refine w_iconst dX16_undo_69 (v := 1) (by decide) ?_
    refine w_isub dX16_undo_70 ?_
    obtain ⟨x5, b6, hf⟩ := Option.bind_eq_some_iff.mp hf
    refine x_rI b6 dX16_undo_71 ?_
    refine w_icmp_ge 103 dX16_undo_72 (by decide) (fun c7 => ?_) (fun c7 => ?_)
    · replace hf := (if_pos (show x5 ≤ l2 from c7)).symm.trans hf
      refine w_aload_n dX16_undo_103 rfl rfl ?_
      obtain ⟨a8, b9, hf⟩ := Option.bind_eq_some_iff.mp hf
      refine GX16_11 b9 dX16_undo_104 rfl ?_
      refine w_aload_n dX16_undo_107 rfl rfl ?_
      refine w_aload_n dX16_undo_108 rfl rfl ?_
      obtain ⟨_, b10, hf⟩ := Option.bind_eq_some_iff.mp hf
      refine x_cnI hf (e_stV (Yc := YX16_seek) (ci := 15) (av := [.ref l1]) (st := [.ref a8]) dX16_undo_109 q2357 mX16_seek rfl (k_ok_some b10).1 (k_ok_some b10).2) mX16_seek.2.2.1 mX16_seek.2.2.2.2.1 (Nat.le_of_ble_eq_true rfl) (Nat.le_of_ble_eq_true rfl) (fun q hq => pX16_seek (by omega) hq) (fun q11 hf => ?_)
      refine w_iconst dX16_undo_112 (v := 0) (by decide) ?_
      obtain ⟨h12, b13, hf⟩ := Option.bind_eq_some_iff.mp hf
      refine x_qI b13 dX16_undo_113 ?_
      refine w_aload_n dX16_undo_114 rfl rfl ?_
      refine w_dup dX16_undo_115 rfl ?_
      obtain ⟨x14, b15, hf⟩ := Option.bind_eq_some_iff.mp hf
      refine GX16_36 b15 dX16_undo_116 rfl ?_
      refine w_iconst dX16_undo_119 (v := 1) (by decide) ?_
      refine w_isub dX16_undo_120 ?_
      obtain ⟨h16, b17, hf⟩ := Option.bind_eq_some_iff.mp hf
      refine SX16_36 b17 dX16_undo_121 rfl ?_
      refine w_goto 43 dX16_undo_124 (by decide) ?_
      exact (hk43 _ _ _ _ hf).to ⟨rfl, rfl, trivial⟩
    · replace hf := (if_neg (show ¬ (x5 ≤ l2) from c7)).symm.trans hf
      refine w_aload_n dX16_undo_75 rfl rfl ?_
      refine w_aload_n dX16_undo_76 rfl rfl ?_
      obtain ⟨a18, b19, hf⟩ := Option.bind_eq_some_iff.mp hf
      refine GX16_25 b19 dX16_undo_77 rfl ?_
      refine w_aload_n dX16_undo_80 rfl rfl ?_
      obtain ⟨a20, b21, hf⟩ := Option.bind_eq_some_iff.mp hf
      refine GX16_15 b21 dX16_undo_81 rfl ?_
      refine w_aload_n dX16_undo_84 rfl rfl ?_
      obtain ⟨x22, b23, hf⟩ := Option.bind_eq_some_iff.mp hf
      refine GX16_36 b23 dX16_undo_85 rfl ?_
      refine w_iconst dX16_undo_88 (v := 1) (by decide) ?_
      refine w_isub dX16_undo_89 ?_
      obtain ⟨x24, b25, hf⟩ := Option.bind_eq_some_iff.mp hf
      refine x_rI b25 dX16_undo_90 ?_
      refine w_iload_n dX16_undo_91 rfl rfl ?_
      refine w_iadd dX16_undo_92 ?_
      obtain ⟨x26, b27, hf⟩ := Option.bind_eq_some_iff.mp hf
      refine x_rB b27 dX16_undo_93 ?_
      obtain ⟨_, b28, hf⟩ := Option.bind_eq_some_iff.mp hf
      refine x_cnV hf (e_stV (Yc := YX17_add) (ci := 16) (av := [.int x26]) (st := []) dX16_undo_94 q2406 mX17_add rfl (k_ok_some b28).1 (k_ok_some b28).2) mX17_add.2.2.1 mX17_add.2.2.2.2.1 (Nat.le_of_ble_eq_true rfl) (Nat.le_of_ble_eq_true rfl) (fun q hq => pX17_add (by omega) hq) (fun q29 hf => ?_)
      refine w_iinc dX16_undo_97 (v := (l2 + (1 : Int32))) rfl rfl (by decide) (ls' := [some (.ref l0), some (.ref l1), some (.int (l2 + (1 : Int32)))]) rfl ?_
      refine w_goto 60 dX16_undo_100 (by decide) ?_
      exact (ih _ _ _ _ _ hf).to ⟨rfl, rfl, rfl, trivial⟩
def fX16_undo_b43 (N : Nat) : Nat → Nat → Nat → eH → Option (Unit × eH)
  | 0, _, _, _ => none
  | n + 1, l0, l1, h =>
    (g_I 15 h l0 5).bind fun x1 =>
    (g_I 15 h l0 7).bind fun x3 =>
    if x1 ≤ x3 then
      (g_I 15 h l0 8).bind fun x6 =>
      (p_V 15 h l0 6 (.int x6)).bind fun h8 =>
      some ((), h8)
    else
      (k_ok 16 h l1).bind fun _ =>
      (fX17_clear l1 h).bind fun q11 =>
      fX16_undo_b60 N (fX16_undo_b43 N n) N l0 l1 (0 : Int32) q11.2
theorem pX16_undo_b43 {w : eW} {d : Nat} (hd : 2 ≤ d + 1) {N : Nat} : ∀ (n : Nat) l0 l1 h q, fX16_undo_b43 N n l0 l1 h = some q → wp w (d + 1) YX16_undo 43 [some (.ref l0), some (.ref l1), none] [] h (e_is (e_rn c_V q)) := by
  intro n
  induction n with
  | zero => intro l0 l1 h q hf; simp [fX16_undo_b43] at hf
  | succ n ih =>
    intro l0 l1 h q hf
    rw [fX16_undo_b43] at hf
    refine w_aload_n dX16_undo_43 rfl rfl ?_
    obtain ⟨x1, b2, hf⟩ := Option.bind_eq_some_iff.mp hf
    refine GX16_36 b2 dX16_undo_44 rfl ?_
    refine w_aload_n dX16_undo_47 rfl rfl ?_
    obtain ⟨x3, b4, hf⟩ := Option.bind_eq_some_iff.mp hf
    refine GX16_69 b4 dX16_undo_48 rfl ?_
    refine w_icmp_le 127 dX16_undo_51 (by decide) (fun c5 => ?_) (fun c5 => ?_)
    · replace hf := (if_pos (show x1 ≤ x3 from c5)).symm.trans hf
      refine w_aload_n dX16_undo_127 rfl rfl ?_
      refine w_aload_n dX16_undo_128 rfl rfl ?_
      obtain ⟨x6, b7, hf⟩ := Option.bind_eq_some_iff.mp hf
      refine GX16_72 b7 dX16_undo_129 rfl ?_
      obtain ⟨h8, b9, hf⟩ := Option.bind_eq_some_iff.mp hf
      refine SX16_40 b9 dX16_undo_132 rfl ?_
      cases hf
      exact w_vret dX16_undo_135 rfl rfl
    · replace hf := (if_neg (show ¬ (x1 ≤ x3) from c5)).symm.trans hf
      refine w_aload_n dX16_undo_54 rfl rfl ?_
      obtain ⟨_, b10, hf⟩ := Option.bind_eq_some_iff.mp hf
      refine x_cnV hf (e_stV (Yc := YX17_clear) (ci := 16) (av := []) (st := []) dX16_undo_55 q2405 mX17_clear rfl (k_ok_some b10).1 (k_ok_some b10).2) mX17_clear.2.2.1 mX17_clear.2.2.2.2.1 (Nat.le_of_ble_eq_true rfl) (Nat.le_of_ble_eq_true rfl) (fun q hq => pX17_clear (by omega) hq) (fun q11 hf => ?_)
      refine w_iconst dX16_undo_58 (v := 0) (by decide) ?_
      refine w_istore_n dX16_undo_59 rfl (by decide) (ls' := [some (.ref l0), some (.ref l1), some (.int (0 : Int32))]) rfl ?_
      exact (pX16_undo_b60 hd ih N _ _ _ _ _ hf).to ⟨rfl, rfl, rfl, trivial⟩
def fX16_undo_b0 (N : Nat) : Nat → Nat → Nat → eH → Option (Unit × eH)
  | 0, _, _, _ => none
  | n + 1, l0, l1, h =>
    (g_I 15 h l0 11).bind fun x1 =>
    if x1 ≤ 0 then
      fX16_undo_b43 N N l0 l1 h
    else
      (g_I 15 h l0 11).bind fun x4 =>
      (p_V 15 h l0 11 (.int (x4 - (1 : Int32)))).bind fun h6 =>
      (g_A 15 h6 l0 3).bind fun a8 =>
      (g_A 15 h6 l0 9).bind fun a10 =>
      (g_I 15 h6 l0 11).bind fun x12 =>
      (r_I 100 h6 a10 x12).bind fun x14 =>
      (g_A 15 h6 l0 10).bind fun a16 =>
      (g_I 15 h6 l0 11).bind fun x18 =>
      (r_J h6 a16 x18).bind fun x20 =>
      (q_V 101 h6 a8 x14 (.long x20)).bind fun h22 =>
      fX16_undo_b0 N n l0 l1 h22
theorem pX16_undo_b0 {w : eW} {d : Nat} (hd : 2 ≤ d + 1) {N : Nat} : ∀ (n : Nat) l0 l1 h q, fX16_undo_b0 N n l0 l1 h = some q → wp w (d + 1) YX16_undo 0 [some (.ref l0), some (.ref l1), none] [] h (e_is (e_rn c_V q)) := by
  intro n
  induction n with
  | zero => intro l0 l1 h q hf; simp [fX16_undo_b0] at hf
  | succ n ih =>
    intro l0 l1 h q hf
    rw [fX16_undo_b0] at hf
    refine w_aload_n dX16_undo_0 rfl rfl ?_
    obtain ⟨x1, b2, hf⟩ := Option.bind_eq_some_iff.mp hf
    refine GX16_63 b2 dX16_undo_1 rfl ?_
    refine w_if_le 43 dX16_undo_4 (by decide) (fun c3 => ?_) (fun c3 => ?_)
    · replace hf := (if_pos (show x1 ≤ 0 from c3)).symm.trans hf
      exact (pX16_undo_b43 hd N _ _ _ _ hf).to ⟨rfl, rfl, trivial⟩
    · replace hf := (if_neg (show ¬ (x1 ≤ 0) from c3)).symm.trans hf
      refine w_aload_n dX16_undo_7 rfl rfl ?_
      refine w_dup dX16_undo_8 rfl ?_
      obtain ⟨x4, b5, hf⟩ := Option.bind_eq_some_iff.mp hf
      refine GX16_63 b5 dX16_undo_9 rfl ?_
      refine w_iconst dX16_undo_12 (v := 1) (by decide) ?_
      refine w_isub dX16_undo_13 ?_
      obtain ⟨h6, b7, hf⟩ := Option.bind_eq_some_iff.mp hf
      refine SX16_63 b7 dX16_undo_14 rfl ?_
      refine w_aload_n dX16_undo_17 rfl rfl ?_
      obtain ⟨a8, b9, hf⟩ := Option.bind_eq_some_iff.mp hf
      refine GX16_21 b9 dX16_undo_18 rfl ?_
      refine w_aload_n dX16_undo_21 rfl rfl ?_
      obtain ⟨a10, b11, hf⟩ := Option.bind_eq_some_iff.mp hf
      refine GX16_30 b11 dX16_undo_22 rfl ?_
      refine w_aload_n dX16_undo_25 rfl rfl ?_
      obtain ⟨x12, b13, hf⟩ := Option.bind_eq_some_iff.mp hf
      refine GX16_63 b13 dX16_undo_26 rfl ?_
      obtain ⟨x14, b15, hf⟩ := Option.bind_eq_some_iff.mp hf
      refine x_rI b15 dX16_undo_29 ?_
      refine w_aload_n dX16_undo_30 rfl rfl ?_
      obtain ⟨a16, b17, hf⟩ := Option.bind_eq_some_iff.mp hf
      refine GX16_33 b17 dX16_undo_31 rfl ?_
      refine w_aload_n dX16_undo_34 rfl rfl ?_
      obtain ⟨x18, b19, hf⟩ := Option.bind_eq_some_iff.mp hf
      refine GX16_63 b19 dX16_undo_35 rfl ?_
      obtain ⟨x20, b21, hf⟩ := Option.bind_eq_some_iff.mp hf
      refine x_rJ b21 dX16_undo_38 ?_
      obtain ⟨h22, b23, hf⟩ := Option.bind_eq_some_iff.mp hf
      refine x_qJ b23 dX16_undo_39 ?_
      refine w_goto 0 dX16_undo_40 (by decide) ?_
      exact (ih _ _ _ _ hf).to ⟨rfl, rfl, trivial⟩
def fX16_undo (N : Nat) (this : Nat) (p0 : Nat) (h : eH) : Option (Unit × eH) :=
  fX16_undo_b0 N N this p0 h
theorem pX16_undo {w : eW} {d : Nat} (hd : 2 ≤ d) {N : Nat} {this : Nat} {p0 : Nat} {h : eH} {q} (hf : fX16_undo N this p0 h = some q) : wm w d YX16_undo [.ref this, .ref p0] h (e_is (e_rn c_V q)) := by
  obtain ⟨d, rfl⟩ : ∃ e, d = e + 1 := ⟨d - 1, by omega⟩
  show wp w (d + 1) YX16_undo 0 [some (.ref this), some (.ref p0), none] [] h _
  unfold fX16_undo at hf
  exact (pX16_undo_b0 hd N _ _ _ _ hf).to ⟨rfl, rfl, trivial⟩
abbrev cX14_read : ByteArray := prog_10_method_12_code
def yX14_read : MethodName := ⟨RX14, "read", "([BIZ)I"⟩
def YX14_read : eY := (yX14_read, cX14_read, 6, (Option.some FieldType.int), [(32, 72, 75, 50)])
theorem mX14_read : e_mv YX14_read RX14 3 := ⟨q2304, q2305, q2306, by decide, by decide +kernel, (e_sig (by decide +kernel))⟩
theorem dX14_read_0 : decode cX14_read 0 = .ok (.aload_n 0, 1) := dc_42 (by decide +kernel)
theorem dX14_read_1 : decode cX14_read 1 = .ok (.aload_n 1, 1) := dc_43 (by decide +kernel)
theorem dX14_read_2 : decode cX14_read 2 = .ok (.putfield 42, 3) := dc_181 (a := 0) (b := 42) (n := 42) (by decide +kernel)
theorem dX14_read_5 : decode cX14_read 5 = .ok (.aload_n 0, 1) := dc_42 (by decide +kernel)
theorem dX14_read_6 : decode cX14_read 6 = .ok (.iload_n 2, 1) := dc_28 (by decide +kernel)
theorem dX14_read_7 : decode cX14_read 7 = .ok (.putfield 39, 3) := dc_181 (a := 0) (b := 39) (n := 39) (by decide +kernel)
theorem dX14_read_10 : decode cX14_read 10 = .ok (.aload_n 0, 1) := dc_42 (by decide +kernel)
theorem dX14_read_11 : decode cX14_read 11 = .ok (.iconst 0, 1) := dc_3 (by decide +kernel)
theorem dX14_read_12 : decode cX14_read 12 = .ok (.putfield 35, 3) := dc_181 (a := 0) (b := 35) (n := 35) (by decide +kernel)
theorem dX14_read_15 : decode cX14_read 15 = .ok (.iconst 0, 1) := dc_3 (by decide +kernel)
theorem dX14_read_16 : decode cX14_read 16 = .ok (.istore 4, 2) := dc_54 (a := 4) (by decide +kernel)
theorem dX14_read_18 : decode cX14_read 18 = .ok (.aload_n 0, 1) := dc_42 (by decide +kernel)
theorem dX14_read_19 : decode cX14_read 19 = .ok (.getfield 12, 3) := dc_180 (a := 0) (b := 12) (n := 12) (by decide +kernel)
theorem dX14_read_22 : decode cX14_read 22 = .ok (.invokevirtual 114, 3) := dc_182 (a := 0) (b := 114) (n := 114) (by decide +kernel)
theorem dX14_read_25 : decode cX14_read 25 = .ok (.aload_n 0, 1) := dc_42 (by decide +kernel)
theorem dX14_read_26 : decode cX14_read 26 = .ok (.getfield 21, 3) := dc_180 (a := 0) (b := 21) (n := 21) (by decide +kernel)
theorem dX14_read_29 : decode cX14_read 29 = .ok (.invokevirtual 117, 3) := dc_182 (a := 0) (b := 117) (n := 117) (by decide +kernel)
theorem dX14_read_32 : decode cX14_read 32 = .ok (.aload_n 0, 1) := dc_42 (by decide +kernel)
theorem dX14_read_33 : decode cX14_read 33 = .ok (.invokevirtual 118, 3) := dc_182 (a := 0) (b := 118) (n := 118) (by decide +kernel)
theorem dX14_read_36 : decode cX14_read 36 = .ok (.aload_n 0, 1) := dc_42 (by decide +kernel)
theorem dX14_read_37 : decode cX14_read 37 = .ok (.getfield 35, 3) := dc_180 (a := 0) (b := 35) (n := 35) (by decide +kernel)
theorem dX14_read_40 : decode cX14_read 40 = .ok (.aload_n 0, 1) := dc_42 (by decide +kernel)
theorem dX14_read_41 : decode cX14_read 41 = .ok (.getfield 39, 3) := dc_180 (a := 0) (b := 39) (n := 39) (by decide +kernel)
theorem dX14_read_44 : decode cX14_read 44 = .ok (.if_icmp .ge 28, 3) := dc_162 (a := 0) (b := 28) (v := 28) (by decide +kernel)
theorem dX14_read_47 : decode cX14_read 47 = .ok (.iload_n 3, 1) := dc_29 (by decide +kernel)
theorem dX14_read_48 : decode cX14_read 48 = .ok (.ifCond .eq 10, 3) := dc_153 (a := 0) (b := 10) (v := 10) (by decide +kernel)
theorem dX14_read_51 : decode cX14_read 51 = .ok (.aload_n 0, 1) := dc_42 (by decide +kernel)
theorem dX14_read_52 : decode cX14_read 52 = .ok (.invokevirtual 121, 3) := dc_182 (a := 0) (b := 121) (n := 121) (by decide +kernel)
theorem dX14_read_55 : decode cX14_read 55 = .ok (.goto 7, 3) := dc_167 (a := 0) (b := 7) (v := 7) (by decide +kernel)
theorem dX14_read_58 : decode cX14_read 58 = .ok (.aload_n 0, 1) := dc_42 (by decide +kernel)
theorem dX14_read_59 : decode cX14_read 59 = .ok (.invokevirtual 124, 3) := dc_182 (a := 0) (b := 124) (n := 124) (by decide +kernel)
theorem dX14_read_62 : decode cX14_read 62 = .ok (.iinc 4 1, 3) := dc_132 (a := 4) (b := 1) (v := 1) (by decide +kernel)
theorem dX14_read_65 : decode cX14_read 65 = .ok (.aload_n 0, 1) := dc_42 (by decide +kernel)
theorem dX14_read_66 : decode cX14_read 66 = .ok (.invokevirtual 118, 3) := dc_182 (a := 0) (b := 118) (n := 118) (by decide +kernel)
theorem dX14_read_69 : decode cX14_read 69 = .ok (.goto (-33), 3) := dc_167 (a := 255) (b := 223) (v := -33) (by decide +kernel)
theorem dX14_read_72 : decode cX14_read 72 = .ok (.goto 29, 3) := dc_167 (a := 0) (b := 29) (v := 29) (by decide +kernel)
theorem dX14_read_75 : decode cX14_read 75 = .ok (.astore 5, 2) := dc_58 (a := 5) (by decide +kernel)
theorem dX14_read_77 : decode cX14_read 77 = .ok (.aload_n 0, 1) := dc_42 (by decide +kernel)
theorem dX14_read_78 : decode cX14_read 78 = .ok (.getfield 47, 3) := dc_180 (a := 0) (b := 47) (n := 47) (by decide +kernel)
theorem dX14_read_81 : decode cX14_read 81 = .ok (.istore 4, 2) := dc_54 (a := 4) (by decide +kernel)
theorem dX14_read_83 : decode cX14_read 83 = .ok (.aload_n 0, 1) := dc_42 (by decide +kernel)
theorem dX14_read_84 : decode cX14_read 84 = .ok (.getfield 12, 3) := dc_180 (a := 0) (b := 12) (n := 12) (by decide +kernel)
theorem dX14_read_87 : decode cX14_read 87 = .ok (.invokevirtual 127, 3) := dc_182 (a := 0) (b := 127) (n := 127) (by decide +kernel)
theorem dX14_read_90 : decode cX14_read 90 = .ok (.aload_n 0, 1) := dc_42 (by decide +kernel)
theorem dX14_read_91 : decode cX14_read 91 = .ok (.getfield 21, 3) := dc_180 (a := 0) (b := 21) (n := 21) (by decide +kernel)
theorem dX14_read_94 : decode cX14_read 94 = .ok (.aload_n 0, 1) := dc_42 (by decide +kernel)
theorem dX14_read_95 : decode cX14_read 95 = .ok (.getfield 28, 3) := dc_180 (a := 0) (b := 28) (n := 28) (by decide +kernel)
theorem dX14_read_98 : decode cX14_read 98 = .ok (.invokevirtual 130, 3) := dc_182 (a := 0) (b := 130) (n := 130) (by decide +kernel)
theorem dX14_read_101 : decode cX14_read 101 = .ok (.iload 4, 2) := dc_21 (a := 4) (by decide +kernel)
theorem dX14_read_103 : decode cX14_read 103 = .ok (.ireturn, 1) := dc_172 (by decide +kernel)
theorem GX14_47 {w : eW} {d : Nat} {Y : eY} {pc : Nat} {ls : eL} {st : List Value} {h : eH} {Q : eO → eH → Prop} {a : Nat} {x : Int32} (hf : g_I 13 h a 7 = some x) (hd : decode Y.2.1 pc = .ok (.getfield 47, 3)) (hY : Y.1.cls = RX14) (kk : wp w d Y (pc + 3) ls (.int x :: st) h Q) : wp w d Y pc ls (.ref a :: st) h Q := x_gI (ci := 13) (k := 7) hf hd rfl (by decide) (by rw [hY]; exact q1113) kk
theorem SX14_39 {w : eW} {d : Nat} {Y : eY} {pc : Nat} {ls : eL} {st : List Value} {h : eH} {Q : eO → eH → Prop} {a : Nat} {h' : eH} {x : Int32} (hf : p_V 13 h a 5 (.int x) = some h') (hd : decode Y.2.1 pc = .ok (.putfield 39, 3)) (hY : Y.1.cls = RX14) (kk : wp w d Y (pc + 3) ls st h' Q) : wp w d Y pc ls (.int x :: .ref a :: st) h Q := x_pI (ci := 13) (k := 5) hf hd rfl (by decide) (by rw [hY]; exact q1111) rfl rfl kk
theorem SX14_42 {w : eW} {d : Nat} {Y : eY} {pc : Nat} {ls : eL} {st : List Value} {h : eH} {Q : eO → eH → Prop} {a : Nat} {h' : eH} {x : Nat} (hf : p_V 13 h a 4 (.ref x) = some h') (hd : decode Y.2.1 pc = .ok (.putfield 42, 3)) (hY : Y.1.cls = RX14) (kk : wp w d Y (pc + 3) ls st h' Q) : wp w d Y pc ls (.ref x :: .ref a :: st) h Q := x_pA (ci := 13) (k := 4) hf hd rfl (by decide) (by rw [hY]; exact q1110) rfl rfl rfl rfl kk
def fX14_read_b62 (N : Nat) (k36 : Nat → Int32 → Int32 → eH → Option (Int32 × eH)) (l0 : Nat) (l3 : Int32) (l4 : Int32) (h : eH) : Option (Int32 × eH) :=
  (k_ok 13 h l0).bind fun _ =>
  (fX14_spaces N l0 h).bind fun q2 =>
  k36 l0 l3 (l4 + (1 : Int32)) q2.2
theorem pX14_read_b62 {w : eW} {d : Nat} (hd : 9 ≤ d + 1) {N : Nat} {k36 : Nat → Int32 → Int32 → eH → Option (Int32 × eH)} (hk36 : ∀ l0 l3 l4 h q, k36 l0 l3 l4 h = some q → wp w (d + 1) YX14_read 36 [some (.ref l0), none, none, some (.int l3), some (.int l4), none] [] h (e_is (e_rn c_I q))) {l0 : Nat} {l3 : Int32} {l4 : Int32} {h : eH} {q} (hf : fX14_read_b62 N k36 l0 l3 l4 h = some q) : wp w (d + 1) YX14_read 62 [some (.ref l0), none, none, some (.int l3), some (.int l4), none] [] h (e_is (e_rn c_I q)) := by
  unfold fX14_read_b62 at hf
  refine w_iinc dX14_read_62 (v := (l4 + (1 : Int32))) rfl rfl (by decide) (ls' := [some (.ref l0), none, none, some (.int l3), some (.int (l4 + (1 : Int32))), none]) rfl ?_
  refine w_aload_n dX14_read_65 rfl rfl ?_
  obtain ⟨_, b1, hf⟩ := Option.bind_eq_some_iff.mp hf
  refine x_cnV hf (e_stV (Yc := YX14_spaces) (ci := 13) (av := []) (st := []) dX14_read_66 q2316 mX14_spaces rfl (k_ok_some b1).1 (k_ok_some b1).2) mX14_spaces.2.2.1 mX14_spaces.2.2.2.2.1 (Nat.le_of_ble_eq_true rfl) (Nat.le_of_ble_eq_true rfl) (fun q hq => pX14_spaces (by omega) hq) (fun q2 hf => ?_)
  refine w_goto 36 dX14_read_69 (by decide) ?_
  exact (hk36 _ _ _ _ _ hf).to ⟨rfl, rfl, rfl, trivial⟩
def fX14_read_b101 (N : Nat) (l4 : Int32) (h : eH) : Option (Int32 × eH) :=
  some (l4, h)
theorem pX14_read_b101 {w : eW} {d : Nat} (hd : 9 ≤ d + 1) {N : Nat} {l4 : Int32} {h : eH} {q} (hf : fX14_read_b101 N l4 h = some q) : wp w (d + 1) YX14_read 101 [none, none, none, none, some (.int l4), none] [] h (e_is (e_rn c_I q)) := by
  unfold fX14_read_b101 at hf
  refine w_iload dX14_read_101 rfl ?_
  cases hf
  exact w_iret dX14_read_103 rfl rfl rfl
def fX14_read_b75 (N : Nat) (l0 : Nat) (s0 : Nat) (h : eH) : Option (Int32 × eH) :=
  (g_I 13 h l0 7).bind fun x1 =>
  (g_A 13 h l0 0).bind fun a3 =>
  (k_ok 14 h a3).bind fun _ =>
  (fX15_undo N a3 h).bind fun q6 =>
  (g_A 13 q6.2 l0 1).bind fun a7 =>
  (g_A 13 q6.2 l0 2).bind fun a9 =>
  (k_ok 15 q6.2 a7).bind fun _ =>
  (fX16_undo N a7 a9 q6.2).bind fun q12 =>
  fX14_read_b101 N x1 q12.2
theorem pX14_read_b75 {w : eW} {d : Nat} (hd : 9 ≤ d + 1) {N : Nat} {l0 : Nat} {s0 : Nat} {h : eH} {q} (hf : fX14_read_b75 N l0 s0 h = some q) : wp w (d + 1) YX14_read 75 [some (.ref l0), none, none, none, none, none] [.ref s0] h (e_is (e_rn c_I q)) := by
  unfold fX14_read_b75 at hf
  refine w_astore dX14_read_75 (by decide) (ls' := [some (.ref l0), none, none, none, none, some (.ref s0)]) rfl ?_
  refine w_aload_n dX14_read_77 rfl rfl ?_
  obtain ⟨x1, b2, hf⟩ := Option.bind_eq_some_iff.mp hf
  refine GX14_47 b2 dX14_read_78 rfl ?_
  refine w_istore dX14_read_81 (by decide) (ls' := [some (.ref l0), none, none, none, some (.int x1), some (.ref s0)]) rfl ?_
  refine w_aload_n dX14_read_83 rfl rfl ?_
  obtain ⟨a3, b4, hf⟩ := Option.bind_eq_some_iff.mp hf
  refine GX14_12 b4 dX14_read_84 rfl ?_
  obtain ⟨_, b5, hf⟩ := Option.bind_eq_some_iff.mp hf
  refine x_cnV hf (e_stV (Yc := YX15_undo) (ci := 14) (av := []) (st := []) dX14_read_87 q2397 mX15_undo rfl (k_ok_some b5).1 (k_ok_some b5).2) mX15_undo.2.2.1 mX15_undo.2.2.2.2.1 (Nat.le_of_ble_eq_true rfl) (Nat.le_of_ble_eq_true rfl) (fun q hq => pX15_undo (by omega) hq) (fun q6 hf => ?_)
  refine w_aload_n dX14_read_90 rfl rfl ?_
  obtain ⟨a7, b8, hf⟩ := Option.bind_eq_some_iff.mp hf
  refine GX14_21 b8 dX14_read_91 rfl ?_
  refine w_aload_n dX14_read_94 rfl rfl ?_
  obtain ⟨a9, b10, hf⟩ := Option.bind_eq_some_iff.mp hf
  refine GX14_28 b10 dX14_read_95 rfl ?_
  obtain ⟨_, b11, hf⟩ := Option.bind_eq_some_iff.mp hf
  refine x_cnV hf (e_stV (Yc := YX16_undo) (ci := 15) (av := [.ref a9]) (st := []) dX14_read_98 q2401 mX16_undo rfl (k_ok_some b11).1 (k_ok_some b11).2) mX16_undo.2.2.1 mX16_undo.2.2.2.2.1 (Nat.le_of_ble_eq_true rfl) (Nat.le_of_ble_eq_true rfl) (fun q hq => pX16_undo (by omega) hq) (fun q12 hf => ?_)
  exact (pX14_read_b101 hd hf).to ⟨rfl, trivial⟩
def fX14_read_b36 (N : Nat) : Nat → Nat → Int32 → Int32 → eH → Option (Int32 × eH)
  | 0, _, _, _, _ => none
  | n + 1, l0, l3, l4, h =>
    (g_I 13 h l0 6).bind fun x1 =>
    (g_I 13 h l0 5).bind fun x3 =>
    if x3 ≤ x1 then
      fX14_read_b101 N l4 h
    else
      if l3 = 0 then
        (k_ok 13 h l0).bind fun _ =>
        t_C 50 (fX14_readPattern N l0 h) (kt := fun a10 h11 =>
          fX14_read_b75 N l0 a10 h11
          ) (k := fun x8 h9 =>
        fX14_read_b62 N (fX14_read_b36 N n) l0 l3 l4 h9
        )
      else
        (k_ok 13 h l0).bind fun _ =>
        t_C 50 (fX14_readWord N l0 h) (kt := fun a15 h16 =>
          fX14_read_b75 N l0 a15 h16
          ) (k := fun x13 h14 =>
        fX14_read_b62 N (fX14_read_b36 N n) l0 l3 l4 h14
        )
theorem pX14_read_b36 {w : eW} {d : Nat} (hd : 9 ≤ d + 1) {N : Nat} : ∀ (n : Nat) l0 l3 l4 h q, fX14_read_b36 N n l0 l3 l4 h = some q → wp w (d + 1) YX14_read 36 [some (.ref l0), none, none, some (.int l3), some (.int l4), none] [] h (e_is (e_rn c_I q)) := by
  intro n
  induction n with
  | zero => intro l0 l3 l4 h q hf; simp [fX14_read_b36] at hf
  | succ n ih =>
    intro l0 l3 l4 h q hf
    rw [fX14_read_b36] at hf
    refine w_aload_n dX14_read_36 rfl rfl ?_
    obtain ⟨x1, b2, hf⟩ := Option.bind_eq_some_iff.mp hf
    refine GX14_35 b2 dX14_read_37 rfl ?_
    refine w_aload_n dX14_read_40 rfl rfl ?_
    obtain ⟨x3, b4, hf⟩ := Option.bind_eq_some_iff.mp hf
    refine GX14_39 b4 dX14_read_41 rfl ?_
    refine w_icmp_ge 72 dX14_read_44 (by decide) (fun c5 => ?_) (fun c5 => ?_)
    · replace hf := (if_pos (show x3 ≤ x1 from c5)).symm.trans hf
      refine w_goto 101 dX14_read_72 (by decide) ?_
      exact (pX14_read_b101 hd hf).to ⟨rfl, trivial⟩
    · replace hf := (if_neg (show ¬ (x3 ≤ x1) from c5)).symm.trans hf
      refine w_iload_n dX14_read_47 rfl rfl ?_
      refine w_if_eq 58 dX14_read_48 (by decide) (fun c6 => ?_) (fun c6 => ?_)
      · replace hf := (if_pos (show l3 = 0 from c6)).symm.trans hf
        refine w_aload_n dX14_read_58 rfl rfl ?_
        obtain ⟨_, b7, hf⟩ := Option.bind_eq_some_iff.mp hf
        refine x_ccV hf (e_stV (Yc := YX14_readPattern) (ci := 13) (av := []) (st := []) dX14_read_59 q2370 mX14_readPattern rfl (k_ok_some b7).1 (k_ok_some b7).2) mX14_readPattern.2.2.1 mX14_readPattern.2.2.2.2.1 (Nat.le_of_ble_eq_true rfl) (Nat.le_of_ble_eq_true rfl) rfl (by decide) (by decide) (Nat.le_of_ble_eq_true rfl) (Nat.le_of_ble_eq_true rfl) q2307 (fun q hq => pX14_readPattern (by omega) hq) (fun a10 h11 hf => ?_) (fun x8 h9 hf => ?_)
        · exact (pX14_read_b75 hd hf).to ⟨rfl, trivial⟩
        exact (pX14_read_b62 hd ih hf).to ⟨rfl, rfl, rfl, trivial⟩
      · replace hf := (if_neg (show ¬ (l3 = 0) from c6)).symm.trans hf
        refine w_aload_n dX14_read_51 rfl rfl ?_
        obtain ⟨_, b12, hf⟩ := Option.bind_eq_some_iff.mp hf
        refine x_ccV hf (e_stV (Yc := YX14_readWord) (ci := 13) (av := []) (st := []) dX14_read_52 q2324 mX14_readWord rfl (k_ok_some b12).1 (k_ok_some b12).2) mX14_readWord.2.2.1 mX14_readWord.2.2.2.2.1 (Nat.le_of_ble_eq_true rfl) (Nat.le_of_ble_eq_true rfl) rfl (by decide) (by decide) (Nat.le_of_ble_eq_true rfl) (Nat.le_of_ble_eq_true rfl) q2307 (fun q hq => pX14_readWord (by omega) hq) (fun a15 h16 hf => ?_) (fun x13 h14 hf => ?_)
        · exact (pX14_read_b75 hd hf).to ⟨rfl, trivial⟩
        refine w_goto 62 dX14_read_55 (by decide) ?_
        exact (pX14_read_b62 hd ih hf).to ⟨rfl, rfl, rfl, trivial⟩
def fX14_read (N : Nat) (this : Nat) (p0 : Nat) (p1 : Int32) (p2 : Int32) (h : eH) : Option (Int32 × eH) :=
  (p_V 13 h this 4 (.ref p0)).bind fun h1 =>
  (p_V 13 h1 this 5 (.int p1)).bind fun h3 =>
  (p_V 13 h3 this 6 (.int (0 : Int32))).bind fun h5 =>
  (g_A 13 h5 this 0).bind fun a7 =>
  (k_ok 14 h5 a7).bind fun _ =>
  (fX15_mark a7 h5).bind fun q10 =>
  (g_A 13 q10.2 this 1).bind fun a11 =>
  (k_ok 15 q10.2 a11).bind fun _ =>
  (fX16_mark a11 q10.2).bind fun q14 =>
  (k_ok 13 q14.2 this).bind fun _ =>
  (fX14_spaces N this q14.2).bind fun q16 =>
  fX14_read_b36 N N this p2 (0 : Int32) q16.2
theorem pX14_read {w : eW} {d : Nat} (hd : 9 ≤ d) {N : Nat} {this : Nat} {p0 : Nat} {p1 : Int32} {p2 : Int32} {h : eH} {q} (hf : fX14_read N this p0 p1 p2 h = some q) : wm w d YX14_read [.ref this, .ref p0, .int p1, .int p2] h (e_is (e_rn c_I q)) := by
  obtain ⟨d, rfl⟩ : ∃ e, d = e + 1 := ⟨d - 1, by omega⟩
  show wp w (d + 1) YX14_read 0 [some (.ref this), some (.ref p0), some (.int p1), some (.int p2), none, none] [] h _
  unfold fX14_read at hf
  refine w_aload_n dX14_read_0 rfl rfl ?_
  refine w_aload_n dX14_read_1 rfl rfl ?_
  obtain ⟨h1, b2, hf⟩ := Option.bind_eq_some_iff.mp hf
  refine SX14_42 b2 dX14_read_2 rfl ?_
  refine w_aload_n dX14_read_5 rfl rfl ?_
  refine w_iload_n dX14_read_6 rfl rfl ?_
  obtain ⟨h3, b4, hf⟩ := Option.bind_eq_some_iff.mp hf
  refine SX14_39 b4 dX14_read_7 rfl ?_
  refine w_aload_n dX14_read_10 rfl rfl ?_
  refine w_iconst dX14_read_11 (v := 0) (by decide) ?_
  obtain ⟨h5, b6, hf⟩ := Option.bind_eq_some_iff.mp hf
  refine SX14_35 b6 dX14_read_12 rfl ?_
  refine w_iconst dX14_read_15 (v := 0) (by decide) ?_
  refine w_istore dX14_read_16 (by decide) (ls' := [some (.ref this), some (.ref p0), some (.int p1), some (.int p2), some (.int (0 : Int32)), none]) rfl ?_
  refine w_aload_n dX14_read_18 rfl rfl ?_
  obtain ⟨a7, b8, hf⟩ := Option.bind_eq_some_iff.mp hf
  refine GX14_12 b8 dX14_read_19 rfl ?_
  obtain ⟨_, b9, hf⟩ := Option.bind_eq_some_iff.mp hf
  refine x_cnV hf (e_stV (Yc := YX15_mark) (ci := 14) (av := []) (st := []) dX14_read_22 q2308 mX15_mark rfl (k_ok_some b9).1 (k_ok_some b9).2) mX15_mark.2.2.1 mX15_mark.2.2.2.2.1 (Nat.le_of_ble_eq_true rfl) (Nat.le_of_ble_eq_true rfl) (fun q hq => pX15_mark (by omega) hq) (fun q10 hf => ?_)
  refine w_aload_n dX14_read_25 rfl rfl ?_
  obtain ⟨a11, b12, hf⟩ := Option.bind_eq_some_iff.mp hf
  refine GX14_21 b12 dX14_read_26 rfl ?_
  obtain ⟨_, b13, hf⟩ := Option.bind_eq_some_iff.mp hf
  refine x_cnV hf (e_stV (Yc := YX16_mark) (ci := 15) (av := []) (st := []) dX14_read_29 q2312 mX16_mark rfl (k_ok_some b13).1 (k_ok_some b13).2) mX16_mark.2.2.1 mX16_mark.2.2.2.2.1 (Nat.le_of_ble_eq_true rfl) (Nat.le_of_ble_eq_true rfl) (fun q hq => pX16_mark (by omega) hq) (fun q14 hf => ?_)
  refine w_aload_n dX14_read_32 rfl rfl ?_
  obtain ⟨_, b15, hf⟩ := Option.bind_eq_some_iff.mp hf
  refine x_cnV hf (e_stV (Yc := YX14_spaces) (ci := 13) (av := []) (st := []) dX14_read_33 q2316 mX14_spaces rfl (k_ok_some b15).1 (k_ok_some b15).2) mX14_spaces.2.2.1 mX14_spaces.2.2.2.2.1 (Nat.le_of_ble_eq_true rfl) (Nat.le_of_ble_eq_true rfl) (fun q hq => pX14_spaces (by omega) hq) (fun q16 hf => ?_)
  exact (pX14_read_b36 hd N _ _ _ _ _ hf).to ⟨rfl, rfl, rfl, trivial⟩
abbrev cX11_nextLine : ByteArray := prog_29_method_3_code
def yX11_nextLine : MethodName := ⟨RX11, "nextLine", "()Z"⟩
def YX11_nextLine : eY := (yX11_nextLine, cX11_nextLine, 1, (Option.some FieldType.boolean), [])
theorem mX11_nextLine : e_mv YX11_nextLine RX11 0 := ⟨q2431, qs44, q2432, by decide, by decide +kernel, (e_sig (by decide +kernel))⟩
theorem dX11_nextLine_0 : decode cX11_nextLine 0 = .ok (.aload_n 0, 1) := dc_42 (by decide +kernel)
theorem dX11_nextLine_1 : decode cX11_nextLine 1 = .ok (.getfield 28, 3) := dc_180 (a := 0) (b := 28) (n := 28) (by decide +kernel)
theorem dX11_nextLine_4 : decode cX11_nextLine 4 = .ok (.aload_n 0, 1) := dc_42 (by decide +kernel)
theorem dX11_nextLine_5 : decode cX11_nextLine 5 = .ok (.getfield 41, 3) := dc_180 (a := 0) (b := 41) (n := 41) (by decide +kernel)
theorem dX11_nextLine_8 : decode cX11_nextLine 8 = .ok (.if_icmp .lt 5, 3) := dc_161 (a := 0) (b := 5) (v := 5) (by decide +kernel)
theorem dX11_nextLine_11 : decode cX11_nextLine 11 = .ok (.iconst 0, 1) := dc_3 (by decide +kernel)
theorem dX11_nextLine_12 : decode cX11_nextLine 12 = .ok (.ireturn, 1) := dc_172 (by decide +kernel)
theorem dX11_nextLine_13 : decode cX11_nextLine 13 = .ok (.aload_n 0, 1) := dc_42 (by decide +kernel)
theorem dX11_nextLine_14 : decode cX11_nextLine 14 = .ok (.aload_n 0, 1) := dc_42 (by decide +kernel)
theorem dX11_nextLine_15 : decode cX11_nextLine 15 = .ok (.getfield 28, 3) := dc_180 (a := 0) (b := 28) (n := 28) (by decide +kernel)
theorem dX11_nextLine_18 : decode cX11_nextLine 18 = .ok (.putfield 32, 3) := dc_181 (a := 0) (b := 32) (n := 32) (by decide +kernel)
theorem dX11_nextLine_21 : decode cX11_nextLine 21 = .ok (.aload_n 0, 1) := dc_42 (by decide +kernel)
theorem dX11_nextLine_22 : decode cX11_nextLine 22 = .ok (.aload_n 0, 1) := dc_42 (by decide +kernel)
theorem dX11_nextLine_23 : decode cX11_nextLine 23 = .ok (.getfield 32, 3) := dc_180 (a := 0) (b := 32) (n := 32) (by decide +kernel)
theorem dX11_nextLine_26 : decode cX11_nextLine 26 = .ok (.putfield 35, 3) := dc_181 (a := 0) (b := 35) (n := 35) (by decide +kernel)
theorem dX11_nextLine_29 : decode cX11_nextLine 29 = .ok (.aload_n 0, 1) := dc_42 (by decide +kernel)
theorem dX11_nextLine_30 : decode cX11_nextLine 30 = .ok (.getfield 35, 3) := dc_180 (a := 0) (b := 35) (n := 35) (by decide +kernel)
theorem dX11_nextLine_33 : decode cX11_nextLine 33 = .ok (.aload_n 0, 1) := dc_42 (by decide +kernel)
theorem dX11_nextLine_34 : decode cX11_nextLine 34 = .ok (.getfield 41, 3) := dc_180 (a := 0) (b := 41) (n := 41) (by decide +kernel)
theorem dX11_nextLine_37 : decode cX11_nextLine 37 = .ok (.if_icmp .ge 30, 3) := dc_162 (a := 0) (b := 30) (v := 30) (by decide +kernel)
theorem dX11_nextLine_40 : decode cX11_nextLine 40 = .ok (.aload_n 0, 1) := dc_42 (by decide +kernel)
theorem dX11_nextLine_41 : decode cX11_nextLine 41 = .ok (.getfield 10, 3) := dc_180 (a := 0) (b := 10) (n := 10) (by decide +kernel)
theorem dX11_nextLine_44 : decode cX11_nextLine 44 = .ok (.aload_n 0, 1) := dc_42 (by decide +kernel)
theorem dX11_nextLine_45 : decode cX11_nextLine 45 = .ok (.getfield 35, 3) := dc_180 (a := 0) (b := 35) (n := 35) (by decide +kernel)
theorem dX11_nextLine_48 : decode cX11_nextLine 48 = .ok (.baload, 1) := dc_51 (by decide +kernel)
theorem dX11_nextLine_49 : decode cX11_nextLine 49 = .ok (.bipush 10, 2) := dc_16 (a := 10) (v := 10) (by decide +kernel)
theorem dX11_nextLine_51 : decode cX11_nextLine 51 = .ok (.if_icmp .eq 16, 3) := dc_159 (a := 0) (b := 16) (v := 16) (by decide +kernel)
theorem dX11_nextLine_54 : decode cX11_nextLine 54 = .ok (.aload_n 0, 1) := dc_42 (by decide +kernel)
theorem dX11_nextLine_55 : decode cX11_nextLine 55 = .ok (.dup, 1) := dc_89 (by decide +kernel)
theorem dX11_nextLine_56 : decode cX11_nextLine 56 = .ok (.getfield 35, 3) := dc_180 (a := 0) (b := 35) (n := 35) (by decide +kernel)
theorem dX11_nextLine_59 : decode cX11_nextLine 59 = .ok (.iconst 1, 1) := dc_4 (by decide +kernel)
theorem dX11_nextLine_60 : decode cX11_nextLine 60 = .ok (.iadd, 1) := dc_96 (by decide +kernel)
theorem dX11_nextLine_61 : decode cX11_nextLine 61 = .ok (.putfield 35, 3) := dc_181 (a := 0) (b := 35) (n := 35) (by decide +kernel)
theorem dX11_nextLine_64 : decode cX11_nextLine 64 = .ok (.goto (-35), 3) := dc_167 (a := 255) (b := 221) (v := -35) (by decide +kernel)
theorem dX11_nextLine_67 : decode cX11_nextLine 67 = .ok (.aload_n 0, 1) := dc_42 (by decide +kernel)
theorem dX11_nextLine_68 : decode cX11_nextLine 68 = .ok (.aload_n 0, 1) := dc_42 (by decide +kernel)
theorem dX11_nextLine_69 : decode cX11_nextLine 69 = .ok (.getfield 35, 3) := dc_180 (a := 0) (b := 35) (n := 35) (by decide +kernel)
theorem dX11_nextLine_72 : decode cX11_nextLine 72 = .ok (.iconst 1, 1) := dc_4 (by decide +kernel)
theorem dX11_nextLine_73 : decode cX11_nextLine 73 = .ok (.iadd, 1) := dc_96 (by decide +kernel)
theorem dX11_nextLine_74 : decode cX11_nextLine 74 = .ok (.putfield 28, 3) := dc_181 (a := 0) (b := 28) (n := 28) (by decide +kernel)
theorem dX11_nextLine_77 : decode cX11_nextLine 77 = .ok (.aload_n 0, 1) := dc_42 (by decide +kernel)
theorem dX11_nextLine_78 : decode cX11_nextLine 78 = .ok (.getfield 35, 3) := dc_180 (a := 0) (b := 35) (n := 35) (by decide +kernel)
theorem dX11_nextLine_81 : decode cX11_nextLine 81 = .ok (.aload_n 0, 1) := dc_42 (by decide +kernel)
theorem dX11_nextLine_82 : decode cX11_nextLine 82 = .ok (.getfield 32, 3) := dc_180 (a := 0) (b := 32) (n := 32) (by decide +kernel)
theorem dX11_nextLine_85 : decode cX11_nextLine 85 = .ok (.if_icmp .le 32, 3) := dc_164 (a := 0) (b := 32) (v := 32) (by decide +kernel)
theorem dX11_nextLine_88 : decode cX11_nextLine 88 = .ok (.aload_n 0, 1) := dc_42 (by decide +kernel)
theorem dX11_nextLine_89 : decode cX11_nextLine 89 = .ok (.getfield 10, 3) := dc_180 (a := 0) (b := 10) (n := 10) (by decide +kernel)
theorem dX11_nextLine_92 : decode cX11_nextLine 92 = .ok (.aload_n 0, 1) := dc_42 (by decide +kernel)
theorem dX11_nextLine_93 : decode cX11_nextLine 93 = .ok (.getfield 35, 3) := dc_180 (a := 0) (b := 35) (n := 35) (by decide +kernel)
theorem dX11_nextLine_96 : decode cX11_nextLine 96 = .ok (.iconst 1, 1) := dc_4 (by decide +kernel)
theorem dX11_nextLine_97 : decode cX11_nextLine 97 = .ok (.isub, 1) := dc_100 (by decide +kernel)
theorem dX11_nextLine_98 : decode cX11_nextLine 98 = .ok (.baload, 1) := dc_51 (by decide +kernel)
theorem dX11_nextLine_99 : decode cX11_nextLine 99 = .ok (.bipush 32, 2) := dc_16 (a := 32) (v := 32) (by decide +kernel)
theorem dX11_nextLine_101 : decode cX11_nextLine 101 = .ok (.if_icmp .ne 16, 3) := dc_160 (a := 0) (b := 16) (v := 16) (by decide +kernel)
theorem dX11_nextLine_104 : decode cX11_nextLine 104 = .ok (.aload_n 0, 1) := dc_42 (by decide +kernel)
theorem dX11_nextLine_105 : decode cX11_nextLine 105 = .ok (.dup, 1) := dc_89 (by decide +kernel)
theorem dX11_nextLine_106 : decode cX11_nextLine 106 = .ok (.getfield 35, 3) := dc_180 (a := 0) (b := 35) (n := 35) (by decide +kernel)
theorem dX11_nextLine_109 : decode cX11_nextLine 109 = .ok (.iconst 1, 1) := dc_4 (by decide +kernel)
theorem dX11_nextLine_110 : decode cX11_nextLine 110 = .ok (.isub, 1) := dc_100 (by decide +kernel)
theorem dX11_nextLine_111 : decode cX11_nextLine 111 = .ok (.putfield 35, 3) := dc_181 (a := 0) (b := 35) (n := 35) (by decide +kernel)
theorem dX11_nextLine_114 : decode cX11_nextLine 114 = .ok (.goto (-37), 3) := dc_167 (a := 255) (b := 219) (v := -37) (by decide +kernel)
theorem dX11_nextLine_117 : decode cX11_nextLine 117 = .ok (.aload_n 0, 1) := dc_42 (by decide +kernel)
theorem dX11_nextLine_118 : decode cX11_nextLine 118 = .ok (.iconst 0, 1) := dc_3 (by decide +kernel)
theorem dX11_nextLine_119 : decode cX11_nextLine 119 = .ok (.putfield 44, 3) := dc_181 (a := 0) (b := 44) (n := 44) (by decide +kernel)
theorem dX11_nextLine_122 : decode cX11_nextLine 122 = .ok (.aload_n 0, 1) := dc_42 (by decide +kernel)
theorem dX11_nextLine_123 : decode cX11_nextLine 123 = .ok (.dup, 1) := dc_89 (by decide +kernel)
theorem dX11_nextLine_124 : decode cX11_nextLine 124 = .ok (.getfield 38, 3) := dc_180 (a := 0) (b := 38) (n := 38) (by decide +kernel)
theorem dX11_nextLine_127 : decode cX11_nextLine 127 = .ok (.iconst 1, 1) := dc_4 (by decide +kernel)
theorem dX11_nextLine_128 : decode cX11_nextLine 128 = .ok (.iadd, 1) := dc_96 (by decide +kernel)
theorem dX11_nextLine_129 : decode cX11_nextLine 129 = .ok (.putfield 38, 3) := dc_181 (a := 0) (b := 38) (n := 38) (by decide +kernel)
theorem dX11_nextLine_132 : decode cX11_nextLine 132 = .ok (.iconst 1, 1) := dc_4 (by decide +kernel)
theorem dX11_nextLine_133 : decode cX11_nextLine 133 = .ok (.ireturn, 1) := dc_172 (by decide +kernel)
theorem GX11_10 {w : eW} {d : Nat} {Y : eY} {pc : Nat} {ls : eL} {st : List Value} {h : eH} {Q : eO → eH → Prop} {a : Nat} {x : Nat} (hf : g_A 10 h a 3 = some x) (hd : decode Y.2.1 pc = .ok (.getfield 10, 3)) (hY : Y.1.cls = RX11) (kk : wp w d Y (pc + 3) ls (.ref x :: st) h Q) : wp w d Y pc ls (.ref a :: st) h Q := x_gA (ci := 10) (k := 3) hf hd rfl (by decide) (by rw [hY]; exact q740) kk
theorem GX11_28 {w : eW} {d : Nat} {Y : eY} {pc : Nat} {ls : eL} {st : List Value} {h : eH} {Q : eO → eH → Prop} {a : Nat} {x : Int32} (hf : g_I 10 h a 5 = some x) (hd : decode Y.2.1 pc = .ok (.getfield 28, 3)) (hY : Y.1.cls = RX11) (kk : wp w d Y (pc + 3) ls (.int x :: st) h Q) : wp w d Y pc ls (.ref a :: st) h Q := x_gI (ci := 10) (k := 5) hf hd rfl (by decide) (by rw [hY]; exact q744) kk
theorem GX11_32 {w : eW} {d : Nat} {Y : eY} {pc : Nat} {ls : eL} {st : List Value} {h : eH} {Q : eO → eH → Prop} {a : Nat} {x : Int32} (hf : g_I 10 h a 6 = some x) (hd : decode Y.2.1 pc = .ok (.getfield 32, 3)) (hY : Y.1.cls = RX11) (kk : wp w d Y (pc + 3) ls (.int x :: st) h Q) : wp w d Y pc ls (.ref a :: st) h Q := x_gI (ci := 10) (k := 6) hf hd rfl (by decide) (by rw [hY]; exact q745) kk
theorem GX11_35 {w : eW} {d : Nat} {Y : eY} {pc : Nat} {ls : eL} {st : List Value} {h : eH} {Q : eO → eH → Prop} {a : Nat} {x : Int32} (hf : g_I 10 h a 7 = some x) (hd : decode Y.2.1 pc = .ok (.getfield 35, 3)) (hY : Y.1.cls = RX11) (kk : wp w d Y (pc + 3) ls (.int x :: st) h Q) : wp w d Y pc ls (.ref a :: st) h Q := x_gI (ci := 10) (k := 7) hf hd rfl (by decide) (by rw [hY]; exact q746) kk
theorem GX11_38 {w : eW} {d : Nat} {Y : eY} {pc : Nat} {ls : eL} {st : List Value} {h : eH} {Q : eO → eH → Prop} {a : Nat} {x : Int32} (hf : g_I 10 h a 9 = some x) (hd : decode Y.2.1 pc = .ok (.getfield 38, 3)) (hY : Y.1.cls = RX11) (kk : wp w d Y (pc + 3) ls (.int x :: st) h Q) : wp w d Y pc ls (.ref a :: st) h Q := x_gI (ci := 10) (k := 9) hf hd rfl (by decide) (by rw [hY]; exact q748) kk
theorem GX11_41 {w : eW} {d : Nat} {Y : eY} {pc : Nat} {ls : eL} {st : List Value} {h : eH} {Q : eO → eH → Prop} {a : Nat} {x : Int32} (hf : g_I 10 h a 4 = some x) (hd : decode Y.2.1 pc = .ok (.getfield 41, 3)) (hY : Y.1.cls = RX11) (kk : wp w d Y (pc + 3) ls (.int x :: st) h Q) : wp w d Y pc ls (.ref a :: st) h Q := x_gI (ci := 10) (k := 4) hf hd rfl (by decide) (by rw [hY]; exact q742) kk
theorem SX11_44 {w : eW} {d : Nat} {Y : eY} {pc : Nat} {ls : eL} {st : List Value} {h : eH} {Q : eO → eH → Prop} {a : Nat} {h' : eH} {x : Int32} (hf : p_V 10 h a 8 (.int x) = some h') (hd : decode Y.2.1 pc = .ok (.putfield 44, 3)) (hY : Y.1.cls = RX11) (kk : wp w d Y (pc + 3) ls st h' Q) : wp w d Y pc ls (.int x :: .ref a :: st) h Q := x_pI (ci := 10) (k := 8) hf hd rfl (by decide) (by rw [hY]; exact q747) rfl rfl kk
def fX11_nextLine_b117 (N : Nat) (l0 : Nat) (h : eH) : Option (Int32 × eH) :=
  (p_V 10 h l0 8 (.int (0 : Int32))).bind fun h1 =>
  (g_I 10 h1 l0 9).bind fun x3 =>
  (p_V 10 h1 l0 9 (.int (x3 + (1 : Int32)))).bind fun h5 =>
  some ((1 : Int32), h5)
theorem pX11_nextLine_b117 {w : eW} {d : Nat} (hd : 0 ≤ d) {N : Nat} {l0 : Nat} {h : eH} {q} (hf : fX11_nextLine_b117 N l0 h = some q) : wp w d YX11_nextLine 117 [some (.ref l0)] [] h (e_is (e_rn c_I q)) := by
  unfold fX11_nextLine_b117 at hf
  refine w_aload_n dX11_nextLine_117 rfl rfl ?_
  refine w_iconst dX11_nextLine_118 (v := 0) (by decide) ?_
  obtain ⟨h1, b2, hf⟩ := Option.bind_eq_some_iff.mp hf
  refine SX11_44 b2 dX11_nextLine_119 rfl ?_
  refine w_aload_n dX11_nextLine_122 rfl rfl ?_
  refine w_dup dX11_nextLine_123 rfl ?_
  obtain ⟨x3, b4, hf⟩ := Option.bind_eq_some_iff.mp hf
  refine GX11_38 b4 dX11_nextLine_124 rfl ?_
  refine w_iconst dX11_nextLine_127 (v := 1) (by decide) ?_
  refine w_iadd dX11_nextLine_128 ?_
  obtain ⟨h5, b6, hf⟩ := Option.bind_eq_some_iff.mp hf
  refine SX11_38 b6 dX11_nextLine_129 rfl ?_
  refine w_iconst dX11_nextLine_132 (v := 1) (by decide) ?_
  cases hf
  exact w_iret dX11_nextLine_133 rfl rfl rfl
def fX11_nextLine_b77 (N : Nat) : Nat → Nat → eH → Option (Int32 × eH)
  | 0, _, _ => none
  | n + 1, l0, h =>
    (g_I 10 h l0 7).bind fun x1 =>
    (g_I 10 h l0 6).bind fun x3 =>
    if x1 ≤ x3 then
      fX11_nextLine_b117 N l0 h
    else
      (g_A 10 h l0 3).bind fun a6 =>
      (g_I 10 h l0 7).bind fun x8 =>
      (r_I 102 h a6 (x8 - (1 : Int32))).bind fun x10 =>
      if ¬ x10 = (32 : Int32) then
        fX11_nextLine_b117 N l0 h
      else
        (g_I 10 h l0 7).bind fun x13 =>
        (p_V 10 h l0 7 (.int (x13 - (1 : Int32)))).bind fun h15 =>
        fX11_nextLine_b77 N n l0 h15
theorem pX11_nextLine_b77 {w : eW} {d : Nat} (hd : 0 ≤ d) {N : Nat} : ∀ (n : Nat) l0 h q, fX11_nextLine_b77 N n l0 h = some q → wp w d YX11_nextLine 77 [some (.ref l0)] [] h (e_is (e_rn c_I q)) := by
  intro n
  induction n with
  | zero => intro l0 h q hf; simp [fX11_nextLine_b77] at hf
  | succ n ih =>
    intro l0 h q hf
    rw [fX11_nextLine_b77] at hf
    refine w_aload_n dX11_nextLine_77 rfl rfl ?_
    obtain ⟨x1, b2, hf⟩ := Option.bind_eq_some_iff.mp hf
    refine GX11_35 b2 dX11_nextLine_78 rfl ?_
    refine w_aload_n dX11_nextLine_81 rfl rfl ?_
    obtain ⟨x3, b4, hf⟩ := Option.bind_eq_some_iff.mp hf
    refine GX11_32 b4 dX11_nextLine_82 rfl ?_
    refine w_icmp_le 117 dX11_nextLine_85 (by decide) (fun c5 => ?_) (fun c5 => ?_)
    · replace hf := (if_pos (show x1 ≤ x3 from c5)).symm.trans hf
      exact (pX11_nextLine_b117 hd hf).to ⟨rfl, trivial⟩
    · replace hf := (if_neg (show ¬ (x1 ≤ x3) from c5)).symm.trans hf
      refine w_aload_n dX11_nextLine_88 rfl rfl ?_
      obtain ⟨a6, b7, hf⟩ := Option.bind_eq_some_iff.mp hf
      refine GX11_10 b7 dX11_nextLine_89 rfl ?_
      refine w_aload_n dX11_nextLine_92 rfl rfl ?_
      obtain ⟨x8, b9, hf⟩ := Option.bind_eq_some_iff.mp hf
      refine GX11_35 b9 dX11_nextLine_93 rfl ?_
      refine w_iconst dX11_nextLine_96 (v := 1) (by decide) ?_
      refine w_isub dX11_nextLine_97 ?_
      obtain ⟨x10, b11, hf⟩ := Option.bind_eq_some_iff.mp hf
      refine x_rB b11 dX11_nextLine_98 ?_
      refine w_bipush dX11_nextLine_99 (v := 32) (by decide) ?_
      refine w_icmp_ne 117 dX11_nextLine_101 (by decide) (fun c12 => ?_) (fun c12 => ?_)
      · replace hf := (if_pos (show ¬ x10 = (32 : Int32) from c12)).symm.trans hf
        exact (pX11_nextLine_b117 hd hf).to ⟨rfl, trivial⟩
      · replace hf := (if_neg (show ¬ (¬ x10 = (32 : Int32)) from (fun z => z c12))).symm.trans hf
        refine w_aload_n dX11_nextLine_104 rfl rfl ?_
        refine w_dup dX11_nextLine_105 rfl ?_
        obtain ⟨x13, b14, hf⟩ := Option.bind_eq_some_iff.mp hf
        refine GX11_35 b14 dX11_nextLine_106 rfl ?_
        refine w_iconst dX11_nextLine_109 (v := 1) (by decide) ?_
        refine w_isub dX11_nextLine_110 ?_
        obtain ⟨h15, b16, hf⟩ := Option.bind_eq_some_iff.mp hf
        refine SX11_35 b16 dX11_nextLine_111 rfl ?_
        refine w_goto 77 dX11_nextLine_114 (by decide) ?_
        exact (ih _ _ _ hf).to ⟨rfl, trivial⟩
def fX11_nextLine_b67 (N : Nat) (l0 : Nat) (h : eH) : Option (Int32 × eH) :=
  (g_I 10 h l0 7).bind fun x1 =>
  (p_V 10 h l0 5 (.int (x1 + (1 : Int32)))).bind fun h3 =>
  fX11_nextLine_b77 N N l0 h3
theorem pX11_nextLine_b67 {w : eW} {d : Nat} (hd : 0 ≤ d) {N : Nat} {l0 : Nat} {h : eH} {q} (hf : fX11_nextLine_b67 N l0 h = some q) : wp w d YX11_nextLine 67 [some (.ref l0)] [] h (e_is (e_rn c_I q)) := by
  unfold fX11_nextLine_b67 at hf
  refine w_aload_n dX11_nextLine_67 rfl rfl ?_
  refine w_aload_n dX11_nextLine_68 rfl rfl ?_
  obtain ⟨x1, b2, hf⟩ := Option.bind_eq_some_iff.mp hf
  refine GX11_35 b2 dX11_nextLine_69 rfl ?_
  refine w_iconst dX11_nextLine_72 (v := 1) (by decide) ?_
  refine w_iadd dX11_nextLine_73 ?_
  obtain ⟨h3, b4, hf⟩ := Option.bind_eq_some_iff.mp hf
  refine SX11_28 b4 dX11_nextLine_74 rfl ?_
  exact (pX11_nextLine_b77 hd N _ _ _ hf).to ⟨rfl, trivial⟩
def fX11_nextLine_b29 (N : Nat) : Nat → Nat → eH → Option (Int32 × eH)
  | 0, _, _ => none
  | n + 1, l0, h =>
    (g_I 10 h l0 7).bind fun x1 =>
    (g_I 10 h l0 4).bind fun x3 =>
    if x3 ≤ x1 then
      fX11_nextLine_b67 N l0 h
    else
      (g_A 10 h l0 3).bind fun a6 =>
      (g_I 10 h l0 7).bind fun x8 =>
      (r_I 102 h a6 x8).bind fun x10 =>
      if x10 = (10 : Int32) then
        fX11_nextLine_b67 N l0 h
      else
        (g_I 10 h l0 7).bind fun x13 =>
        (p_V 10 h l0 7 (.int (x13 + (1 : Int32)))).bind fun h15 =>
        fX11_nextLine_b29 N n l0 h15
theorem pX11_nextLine_b29 {w : eW} {d : Nat} (hd : 0 ≤ d) {N : Nat} : ∀ (n : Nat) l0 h q, fX11_nextLine_b29 N n l0 h = some q → wp w d YX11_nextLine 29 [some (.ref l0)] [] h (e_is (e_rn c_I q)) := by
  intro n
  induction n with
  | zero => intro l0 h q hf; simp [fX11_nextLine_b29] at hf
  | succ n ih =>
    intro l0 h q hf
    rw [fX11_nextLine_b29] at hf
    refine w_aload_n dX11_nextLine_29 rfl rfl ?_
    obtain ⟨x1, b2, hf⟩ := Option.bind_eq_some_iff.mp hf
    refine GX11_35 b2 dX11_nextLine_30 rfl ?_
    refine w_aload_n dX11_nextLine_33 rfl rfl ?_
    obtain ⟨x3, b4, hf⟩ := Option.bind_eq_some_iff.mp hf
    refine GX11_41 b4 dX11_nextLine_34 rfl ?_
    refine w_icmp_ge 67 dX11_nextLine_37 (by decide) (fun c5 => ?_) (fun c5 => ?_)
    · replace hf := (if_pos (show x3 ≤ x1 from c5)).symm.trans hf
      exact (pX11_nextLine_b67 hd hf).to ⟨rfl, trivial⟩
    · replace hf := (if_neg (show ¬ (x3 ≤ x1) from c5)).symm.trans hf
      refine w_aload_n dX11_nextLine_40 rfl rfl ?_
      obtain ⟨a6, b7, hf⟩ := Option.bind_eq_some_iff.mp hf
      refine GX11_10 b7 dX11_nextLine_41 rfl ?_
      refine w_aload_n dX11_nextLine_44 rfl rfl ?_
      obtain ⟨x8, b9, hf⟩ := Option.bind_eq_some_iff.mp hf
      refine GX11_35 b9 dX11_nextLine_45 rfl ?_
      obtain ⟨x10, b11, hf⟩ := Option.bind_eq_some_iff.mp hf
      refine x_rB b11 dX11_nextLine_48 ?_
      refine w_bipush dX11_nextLine_49 (v := 10) (by decide) ?_
      refine w_icmp_eq 67 dX11_nextLine_51 (by decide) (fun c12 => ?_) (fun c12 => ?_)
      · replace hf := (if_pos (show x10 = (10 : Int32) from c12)).symm.trans hf
        exact (pX11_nextLine_b67 hd hf).to ⟨rfl, trivial⟩
      · replace hf := (if_neg (show ¬ (x10 = (10 : Int32)) from c12)).symm.trans hf
        refine w_aload_n dX11_nextLine_54 rfl rfl ?_
        refine w_dup dX11_nextLine_55 rfl ?_
        obtain ⟨x13, b14, hf⟩ := Option.bind_eq_some_iff.mp hf
        refine GX11_35 b14 dX11_nextLine_56 rfl ?_
        refine w_iconst dX11_nextLine_59 (v := 1) (by decide) ?_
        refine w_iadd dX11_nextLine_60 ?_
        obtain ⟨h15, b16, hf⟩ := Option.bind_eq_some_iff.mp hf
        refine SX11_35 b16 dX11_nextLine_61 rfl ?_
        refine w_goto 29 dX11_nextLine_64 (by decide) ?_
        exact (ih _ _ _ hf).to ⟨rfl, trivial⟩
def fX11_nextLine (N : Nat) (this : Nat) (h : eH) : Option (Int32 × eH) :=
  (g_I 10 h this 5).bind fun x1 =>
  (g_I 10 h this 4).bind fun x3 =>
  if x1 < x3 then
    (g_I 10 h this 5).bind fun x6 =>
    (p_V 10 h this 6 (.int x6)).bind fun h8 =>
    (g_I 10 h8 this 6).bind fun x10 =>
    (p_V 10 h8 this 7 (.int x10)).bind fun h12 =>
    fX11_nextLine_b29 N N this h12
  else
    some ((0 : Int32), h)
theorem pX11_nextLine {w : eW} {d : Nat} (hd : 0 ≤ d) {N : Nat} {this : Nat} {h : eH} {q} (hf : fX11_nextLine N this h = some q) : wm w d YX11_nextLine [.ref this] h (e_is (e_rn c_I q)) := by
  show wp w d YX11_nextLine 0 [some (.ref this)] [] h _
  unfold fX11_nextLine at hf
  refine w_aload_n dX11_nextLine_0 rfl rfl ?_
  obtain ⟨x1, b2, hf⟩ := Option.bind_eq_some_iff.mp hf
  refine GX11_28 b2 dX11_nextLine_1 rfl ?_
  refine w_aload_n dX11_nextLine_4 rfl rfl ?_
  obtain ⟨x3, b4, hf⟩ := Option.bind_eq_some_iff.mp hf
  refine GX11_41 b4 dX11_nextLine_5 rfl ?_
  refine w_icmp_lt 13 dX11_nextLine_8 (by decide) (fun c5 => ?_) (fun c5 => ?_)
  · replace hf := (if_pos (show x1 < x3 from c5)).symm.trans hf
    refine w_aload_n dX11_nextLine_13 rfl rfl ?_
    refine w_aload_n dX11_nextLine_14 rfl rfl ?_
    obtain ⟨x6, b7, hf⟩ := Option.bind_eq_some_iff.mp hf
    refine GX11_28 b7 dX11_nextLine_15 rfl ?_
    obtain ⟨h8, b9, hf⟩ := Option.bind_eq_some_iff.mp hf
    refine SX11_32 b9 dX11_nextLine_18 rfl ?_
    refine w_aload_n dX11_nextLine_21 rfl rfl ?_
    refine w_aload_n dX11_nextLine_22 rfl rfl ?_
    obtain ⟨x10, b11, hf⟩ := Option.bind_eq_some_iff.mp hf
    refine GX11_32 b11 dX11_nextLine_23 rfl ?_
    obtain ⟨h12, b13, hf⟩ := Option.bind_eq_some_iff.mp hf
    refine SX11_35 b13 dX11_nextLine_26 rfl ?_
    exact (pX11_nextLine_b29 hd N _ _ _ hf).to ⟨rfl, trivial⟩
  · replace hf := (if_neg (show ¬ (x1 < x3) from c5)).symm.trans hf
    refine w_iconst dX11_nextLine_11 (v := 0) (by decide) ?_
    cases hf
    exact w_iret dX11_nextLine_12 rfl rfl rfl
abbrev cX11_character : ByteArray := prog_29_method_4_code
def yX11_character : MethodName := ⟨RX11, "character", "(I)I"⟩
def YX11_character : eY := (yX11_character, cX11_character, 2, (Option.some FieldType.int), [])
theorem mX11_character : e_mv YX11_character RX11 1 := ⟨q2435, qs45, q2436, by decide, by decide +kernel, (e_sig (by decide +kernel))⟩
theorem dX11_character_0 : decode cX11_character 0 = .ok (.iload_n 1, 1) := dc_27 (by decide +kernel)
theorem dX11_character_1 : decode cX11_character 1 = .ok (.aload_n 0, 1) := dc_42 (by decide +kernel)
theorem dX11_character_2 : decode cX11_character 2 = .ok (.getfield 35, 3) := dc_180 (a := 0) (b := 35) (n := 35) (by decide +kernel)
theorem dX11_character_5 : decode cX11_character 5 = .ok (.if_icmp .ne 8, 3) := dc_160 (a := 0) (b := 8) (v := 8) (by decide +kernel)
theorem dX11_character_8 : decode cX11_character 8 = .ok (.bipush 13, 2) := dc_16 (a := 13) (v := 13) (by decide +kernel)
theorem dX11_character_10 : decode cX11_character 10 = .ok (.goto 13, 3) := dc_167 (a := 0) (b := 13) (v := 13) (by decide +kernel)
theorem dX11_character_13 : decode cX11_character 13 = .ok (.aload_n 0, 1) := dc_42 (by decide +kernel)
theorem dX11_character_14 : decode cX11_character 14 = .ok (.getfield 10, 3) := dc_180 (a := 0) (b := 10) (n := 10) (by decide +kernel)
theorem dX11_character_17 : decode cX11_character 17 = .ok (.iload_n 1, 1) := dc_27 (by decide +kernel)
theorem dX11_character_18 : decode cX11_character 18 = .ok (.baload, 1) := dc_51 (by decide +kernel)
theorem dX11_character_19 : decode cX11_character 19 = .ok (.sipush 255, 3) := dc_17 (a := 0) (b := 255) (v := 255) (by decide +kernel)
theorem dX11_character_22 : decode cX11_character 22 = .ok (.iand, 1) := dc_126 (by decide +kernel)
theorem dX11_character_23 : decode cX11_character 23 = .ok (.ireturn, 1) := dc_172 (by decide +kernel)
def fX11_character_b23 (s0 : Int32) (h : eH) : Option (Int32 × eH) :=
  some (s0, h)
theorem pX11_character_b23 {w : eW} {d : Nat} (hd : 0 ≤ d) {s0 : Int32} {h : eH} {q} (hf : fX11_character_b23 s0 h = some q) : wp w d YX11_character 23 [none, none] [.int s0] h (e_is (e_rn c_I q)) := by
  unfold fX11_character_b23 at hf
  cases hf
  exact w_iret dX11_character_23 rfl rfl rfl
def fX11_character (this : Nat) (p0 : Int32) (h : eH) : Option (Int32 × eH) :=
  (g_I 10 h this 7).bind fun x1 =>
  if ¬ p0 = x1 then
    (g_A 10 h this 3).bind fun a4 =>
    (r_I 102 h a4 p0).bind fun x6 =>
    fX11_character_b23 (x6 &&& (255 : Int32)) h
  else
    fX11_character_b23 (13 : Int32) h
theorem pX11_character {w : eW} {d : Nat} (hd : 0 ≤ d) {this : Nat} {p0 : Int32} {h : eH} {q} (hf : fX11_character this p0 h = some q) : wm w d YX11_character [.ref this, .int p0] h (e_is (e_rn c_I q)) := by
  show wp w d YX11_character 0 [some (.ref this), some (.int p0)] [] h _
  unfold fX11_character at hf
  refine w_iload_n dX11_character_0 rfl rfl ?_
  refine w_aload_n dX11_character_1 rfl rfl ?_
  obtain ⟨x1, b2, hf⟩ := Option.bind_eq_some_iff.mp hf
  refine GX11_35 b2 dX11_character_2 rfl ?_
  refine w_icmp_ne 13 dX11_character_5 (by decide) (fun c3 => ?_) (fun c3 => ?_)
  · replace hf := (if_pos (show ¬ p0 = x1 from c3)).symm.trans hf
    refine w_aload_n dX11_character_13 rfl rfl ?_
    obtain ⟨a4, b5, hf⟩ := Option.bind_eq_some_iff.mp hf
    refine GX11_10 b5 dX11_character_14 rfl ?_
    refine w_iload_n dX11_character_17 rfl rfl ?_
    obtain ⟨x6, b7, hf⟩ := Option.bind_eq_some_iff.mp hf
    refine x_rB b7 dX11_character_18 ?_
    refine w_sipush dX11_character_19 (v := 255) (by decide) ?_
    refine w_iand dX11_character_22 ?_
    exact (pX11_character_b23 hd hf).to trivial
  · replace hf := (if_neg (show ¬ (¬ p0 = x1) from (fun z => z c3))).symm.trans hf
    refine w_bipush dX11_character_8 (v := 13) (by decide) ?_
    refine w_goto 23 dX11_character_10 (by decide) ?_
    exact (pX11_character_b23 hd hf).to trivial
abbrev cX9_category : ByteArray := prog_28_method_10_code
def yX9_category : MethodName := ⟨RX9, "category", "(I)I"⟩
def YX9_category : eY := (yX9_category, cX9_category, 2, (Option.some FieldType.int), [])
theorem mX9_category : e_mv YX9_category RX9 1 := ⟨q2438, q2439, q2440, by decide, by decide +kernel, (e_sig (by decide +kernel))⟩
theorem dX9_category_0 : decode cX9_category 0 = .ok (.aload_n 0, 1) := dc_42 (by decide +kernel)
theorem dX9_category_1 : decode cX9_category 1 = .ok (.getfield 21, 3) := dc_180 (a := 0) (b := 21) (n := 21) (by decide +kernel)
theorem dX9_category_4 : decode cX9_category 4 = .ok (.sipush 1839, 3) := dc_17 (a := 7) (b := 47) (v := 1839) (by decide +kernel)
theorem dX9_category_7 : decode cX9_category 7 = .ok (.iload_n 1, 1) := dc_27 (by decide +kernel)
theorem dX9_category_8 : decode cX9_category 8 = .ok (.iadd, 1) := dc_96 (by decide +kernel)
theorem dX9_category_9 : decode cX9_category 9 = .ok (.iaload, 1) := dc_46 (by decide +kernel)
theorem dX9_category_10 : decode cX9_category 10 = .ok (.ireturn, 1) := dc_172 (by decide +kernel)
def fX9_category (this : Nat) (p0 : Int32) (h : eH) : Option (Int32 × eH) :=
  (g_A 8 h this 3).bind fun a1 =>
  (r_I 100 h a1 ((1839 : Int32) + p0)).bind fun x3 =>
  some (x3, h)
theorem pX9_category {w : eW} {d : Nat} (hd : 0 ≤ d) {this : Nat} {p0 : Int32} {h : eH} {q} (hf : fX9_category this p0 h = some q) : wm w d YX9_category [.ref this, .int p0] h (e_is (e_rn c_I q)) := by
  show wp w d YX9_category 0 [some (.ref this), some (.int p0)] [] h _
  unfold fX9_category at hf
  refine w_aload_n dX9_category_0 rfl rfl ?_
  obtain ⟨a1, b2, hf⟩ := Option.bind_eq_some_iff.mp hf
  refine GX9_21 b2 dX9_category_1 rfl ?_
  refine w_sipush dX9_category_4 (v := 1839) (by decide) ?_
  refine w_iload_n dX9_category_7 rfl rfl ?_
  refine w_iadd dX9_category_8 ?_
  obtain ⟨x3, b4, hf⟩ := Option.bind_eq_some_iff.mp hf
  refine x_rI b4 dX9_category_9 ?_
  cases hf
  exact w_iret dX9_category_10 rfl rfl rfl
abbrev cX11_isLetter : ByteArray := prog_29_method_5_code
def yX11_isLetter : MethodName := ⟨RX11, "isLetter", "()Z"⟩
def YX11_isLetter : eY := (yX11_isLetter, cX11_isLetter, 1, (Option.some FieldType.boolean), [])
theorem mX11_isLetter : e_mv YX11_isLetter RX11 0 := ⟨q2448, qs47, q2449, by decide, by decide +kernel, (e_sig (by decide +kernel))⟩
theorem dX11_isLetter_0 : decode cX11_isLetter 0 = .ok (.aload_n 0, 1) := dc_42 (by decide +kernel)
theorem dX11_isLetter_1 : decode cX11_isLetter 1 = .ok (.getfield 32, 3) := dc_180 (a := 0) (b := 32) (n := 32) (by decide +kernel)
theorem dX11_isLetter_4 : decode cX11_isLetter 4 = .ok (.aload_n 0, 1) := dc_42 (by decide +kernel)
theorem dX11_isLetter_5 : decode cX11_isLetter 5 = .ok (.getfield 35, 3) := dc_180 (a := 0) (b := 35) (n := 35) (by decide +kernel)
theorem dX11_isLetter_8 : decode cX11_isLetter 8 = .ok (.if_icmp .gt 27, 3) := dc_163 (a := 0) (b := 27) (v := 27) (by decide +kernel)
theorem dX11_isLetter_11 : decode cX11_isLetter 11 = .ok (.aload_n 0, 1) := dc_42 (by decide +kernel)
theorem dX11_isLetter_12 : decode cX11_isLetter 12 = .ok (.getfield 24, 3) := dc_180 (a := 0) (b := 24) (n := 24) (by decide +kernel)
theorem dX11_isLetter_15 : decode cX11_isLetter 15 = .ok (.aload_n 0, 1) := dc_42 (by decide +kernel)
theorem dX11_isLetter_16 : decode cX11_isLetter 16 = .ok (.aload_n 0, 1) := dc_42 (by decide +kernel)
theorem dX11_isLetter_17 : decode cX11_isLetter 17 = .ok (.getfield 32, 3) := dc_180 (a := 0) (b := 32) (n := 32) (by decide +kernel)
theorem dX11_isLetter_20 : decode cX11_isLetter 20 = .ok (.invokevirtual 47, 3) := dc_182 (a := 0) (b := 47) (n := 47) (by decide +kernel)
theorem dX11_isLetter_23 : decode cX11_isLetter 23 = .ok (.invokevirtual 51, 3) := dc_182 (a := 0) (b := 51) (n := 51) (by decide +kernel)
theorem dX11_isLetter_26 : decode cX11_isLetter 26 = .ok (.bipush 11, 2) := dc_16 (a := 11) (v := 11) (by decide +kernel)
theorem dX11_isLetter_28 : decode cX11_isLetter 28 = .ok (.if_icmp .ne 7, 3) := dc_160 (a := 0) (b := 7) (v := 7) (by decide +kernel)
theorem dX11_isLetter_31 : decode cX11_isLetter 31 = .ok (.iconst 1, 1) := dc_4 (by decide +kernel)
theorem dX11_isLetter_32 : decode cX11_isLetter 32 = .ok (.goto 4, 3) := dc_167 (a := 0) (b := 4) (v := 4) (by decide +kernel)
theorem dX11_isLetter_35 : decode cX11_isLetter 35 = .ok (.iconst 0, 1) := dc_3 (by decide +kernel)
theorem dX11_isLetter_36 : decode cX11_isLetter 36 = .ok (.ireturn, 1) := dc_172 (by decide +kernel)
theorem GX11_24 {w : eW} {d : Nat} {Y : eY} {pc : Nat} {ls : eL} {st : List Value} {h : eH} {Q : eO → eH → Prop} {a : Nat} {x : Nat} (hf : g_A 10 h a 2 = some x) (hd : decode Y.2.1 pc = .ok (.getfield 24, 3)) (hY : Y.1.cls = RX11) (kk : wp w d Y (pc + 3) ls (.ref x :: st) h Q) : wp w d Y pc ls (.ref a :: st) h Q := x_gA (ci := 10) (k := 2) hf hd rfl (by decide) (by rw [hY]; exact q739) kk
def fX11_isLetter_b36 (s0 : Int32) (h : eH) : Option (Int32 × eH) :=
  z_r s0 (s0, h)
theorem pX11_isLetter_b36 {w : eW} {d : Nat} (hd : 1 ≤ d + 1) {s0 : Int32} {h : eH} {q} (hf : fX11_isLetter_b36 s0 h = some q) : wp w (d + 1) YX11_isLetter 36 [none] [.int s0] h (e_is (e_rn c_I q)) := by
  unfold fX11_isLetter_b36 at hf
  obtain ⟨b1, rfl⟩ := z_r_some hf
  exact w_iret dX11_isLetter_36 rfl b1 rfl
def fX11_isLetter_b35  (h : eH) : Option (Int32 × eH) :=
  fX11_isLetter_b36 (0 : Int32) h
theorem pX11_isLetter_b35 {w : eW} {d : Nat} (hd : 1 ≤ d + 1)  {h : eH} {q} (hf : fX11_isLetter_b35  h = some q) : wp w (d + 1) YX11_isLetter 35 [none] [] h (e_is (e_rn c_I q)) := by
  unfold fX11_isLetter_b35 at hf
  refine w_iconst dX11_isLetter_35 (v := 0) (by decide) ?_
  exact (pX11_isLetter_b36 hd hf).to trivial
def fX11_isLetter (this : Nat) (h : eH) : Option (Int32 × eH) :=
  (g_I 10 h this 6).bind fun x1 =>
  (g_I 10 h this 7).bind fun x3 =>
  if x3 < x1 then
    fX11_isLetter_b35 h
  else
    (g_A 10 h this 2).bind fun a6 =>
    (g_I 10 h this 6).bind fun x8 =>
    (k_ok 10 h this).bind fun _ =>
    (fX11_character this x8 h).bind fun q11 =>
    (k_ok 8 q11.2 a6).bind fun _ =>
    (fX9_category a6 q11.1 q11.2).bind fun q13 =>
    if ¬ q13.1 = (11 : Int32) then
      fX11_isLetter_b35 q13.2
    else
      fX11_isLetter_b36 (1 : Int32) q13.2
theorem pX11_isLetter {w : eW} {d : Nat} (hd : 1 ≤ d) {this : Nat} {h : eH} {q} (hf : fX11_isLetter this h = some q) : wm w d YX11_isLetter [.ref this] h (e_is (e_rn c_I q)) := by
  obtain ⟨d, rfl⟩ : ∃ e, d = e + 1 := ⟨d - 1, by omega⟩
  show wp w (d + 1) YX11_isLetter 0 [some (.ref this)] [] h _
  unfold fX11_isLetter at hf
  refine w_aload_n dX11_isLetter_0 rfl rfl ?_
  obtain ⟨x1, b2, hf⟩ := Option.bind_eq_some_iff.mp hf
  refine GX11_32 b2 dX11_isLetter_1 rfl ?_
  refine w_aload_n dX11_isLetter_4 rfl rfl ?_
  obtain ⟨x3, b4, hf⟩ := Option.bind_eq_some_iff.mp hf
  refine GX11_35 b4 dX11_isLetter_5 rfl ?_
  refine w_icmp_gt 35 dX11_isLetter_8 (by decide) (fun c5 => ?_) (fun c5 => ?_)
  · replace hf := (if_pos (show x3 < x1 from c5)).symm.trans hf
    exact (pX11_isLetter_b35 hd hf).to trivial
  · replace hf := (if_neg (show ¬ (x3 < x1) from c5)).symm.trans hf
    refine w_aload_n dX11_isLetter_11 rfl rfl ?_
    obtain ⟨a6, b7, hf⟩ := Option.bind_eq_some_iff.mp hf
    refine GX11_24 b7 dX11_isLetter_12 rfl ?_
    refine w_aload_n dX11_isLetter_15 rfl rfl ?_
    refine w_aload_n dX11_isLetter_16 rfl rfl ?_
    obtain ⟨x8, b9, hf⟩ := Option.bind_eq_some_iff.mp hf
    refine GX11_32 b9 dX11_isLetter_17 rfl ?_
    obtain ⟨_, b10, hf⟩ := Option.bind_eq_some_iff.mp hf
    refine x_cnI hf (e_stV (Yc := YX11_character) (ci := 10) (av := [.int x8]) (st := [.ref a6]) dX11_isLetter_20 q2433 mX11_character rfl (k_ok_some b10).1 (k_ok_some b10).2) mX11_character.2.2.1 mX11_character.2.2.2.2.1 (Nat.le_of_ble_eq_true rfl) (Nat.le_of_ble_eq_true rfl) (fun q hq => pX11_character (by omega) hq) (fun q11 hf => ?_)
    obtain ⟨_, b12, hf⟩ := Option.bind_eq_some_iff.mp hf
    refine x_cnI hf (e_stV (Yc := YX9_category) (ci := 8) (av := [.int q11.1]) (st := []) dX11_isLetter_23 q2437 mX9_category rfl (k_ok_some b12).1 (k_ok_some b12).2) mX9_category.2.2.1 mX9_category.2.2.2.2.1 (Nat.le_of_ble_eq_true rfl) (Nat.le_of_ble_eq_true rfl) (fun q hq => pX9_category (by omega) hq) (fun q13 hf => ?_)
    refine w_bipush dX11_isLetter_26 (v := 11) (by decide) ?_
    refine w_icmp_ne 35 dX11_isLetter_28 (by decide) (fun c14 => ?_) (fun c14 => ?_)
    · replace hf := (if_pos (show ¬ q13.1 = (11 : Int32) from c14)).symm.trans hf
      exact (pX11_isLetter_b35 hd hf).to trivial
    · replace hf := (if_neg (show ¬ (¬ q13.1 = (11 : Int32)) from (fun z => z c14))).symm.trans hf
      refine w_iconst dX11_isLetter_31 (v := 1) (by decide) ?_
      refine w_goto 36 dX11_isLetter_32 (by decide) ?_
      exact (pX11_isLetter_b36 hd hf).to trivial
abbrev cX4_fail : ByteArray := prog_34_method_2_code
def yX4_fail : MethodName := ⟨RX4, "fail", "(I)V"⟩
def YX4_fail : eY := (yX4_fail, cX4_fail, 2, none, [])
theorem mX4_fail : e_mv YX4_fail RX4 1 := ⟨q2459, q2460, q2461, by decide, by decide +kernel, (e_sig (by decide +kernel))⟩
theorem dX4_fail_0 : decode cX4_fail 0 = .ok (.aload_n 0, 1) := dc_42 (by decide +kernel)
theorem dX4_fail_1 : decode cX4_fail 1 = .ok (.iload_n 1, 1) := dc_27 (by decide +kernel)
theorem dX4_fail_2 : decode cX4_fail 2 = .ok (.putfield 7, 3) := dc_181 (a := 0) (b := 7) (n := 7) (by decide +kernel)
theorem dX4_fail_5 : decode cX4_fail 5 = .ok (.new 13, 3) := dc_187 (a := 0) (b := 13) (n := 13) (by decide +kernel)
theorem dX4_fail_8 : decode cX4_fail 8 = .ok (.dup, 1) := dc_89 (by decide +kernel)
theorem dX4_fail_9 : decode cX4_fail 9 = .ok (.invokespecial 15, 3) := dc_183 (a := 0) (b := 15) (n := 15) (by decide +kernel)
theorem dX4_fail_12 : decode cX4_fail 12 = .ok (.athrow, 1) := dc_191 (by decide +kernel)
theorem SX4_7 {w : eW} {d : Nat} {Y : eY} {pc : Nat} {ls : eL} {st : List Value} {h : eH} {Q : eO → eH → Prop} {a : Nat} {h' : eH} {x : Int32} (hf : p_V 3 h a 0 (.int x) = some h') (hd : decode Y.2.1 pc = .ok (.putfield 7, 3)) (hY : Y.1.cls = RX4) (kk : wp w d Y (pc + 3) ls st h' Q) : wp w d Y pc ls (.int x :: .ref a :: st) h Q := x_pI (ci := 3) (k := 0) hf hd rfl (by decide) (by rw [hY]; exact q520) rfl rfl kk
def fX4_fail (this : Nat) (p0 : Int32) (h : eH) : Option ((Unit ⊕ Nat) × eH) :=
  (p_V 3 h this 0 (.int p0)).bind fun h1 =>
  (n_exc 50 h1).bind fun q3 => some (.inr q3.1, q3.2)
theorem pX4_fail {w : eW} {d : Nat} (hd : 6 ≤ d) {this : Nat} {p0 : Int32} {h : eH} {q} (hf : fX4_fail this p0 h = some q) : wm w d YX4_fail [.ref this, .int p0] h (e_is (e_rt c_V q)) := by
  obtain ⟨d, rfl⟩ : ∃ e, d = e + 1 := ⟨d - 1, by omega⟩
  show wp w (d + 1) YX4_fail 0 [some (.ref this), some (.int p0)] [] h _
  unfold fX4_fail at hf
  refine w_aload_n dX4_fail_0 rfl rfl ?_
  refine w_iload_n dX4_fail_1 rfl rfl ?_
  obtain ⟨h1, b2, hf⟩ := Option.bind_eq_some_iff.mp hf
  refine SX4_7 b2 dX4_fail_2 rfl ?_
  obtain ⟨q3, b4, hf⟩ := Option.bind_eq_some_iff.mp hf
  cases hf
  exact x_thr (ci := 50) b4 (Nat.le_of_ble_eq_true rfl) (Nat.le_of_ble_eq_true rfl) dX4_fail_5 dX4_fail_8 dX4_fail_9 dX4_fail_12 rfl q2462 q2174 q474 q2463 (Nat.le_of_ble_eq_true rfl) rfl (by omega)
abbrev cX4_want : ByteArray := prog_34_method_3_code
def yX4_want : MethodName := ⟨RX4, "want", "(ZI)V"⟩
def YX4_want : eY := (yX4_want, cX4_want, 3, none, [])
theorem mX4_want : e_mv YX4_want RX4 2 := ⟨q2455, q2456, q2457, by decide, by decide +kernel, (e_sig (by decide +kernel))⟩
theorem dX4_want_0 : decode cX4_want 0 = .ok (.iload_n 1, 1) := dc_27 (by decide +kernel)
theorem dX4_want_1 : decode cX4_want 1 = .ok (.ifCond .ne 8, 3) := dc_154 (a := 0) (b := 8) (v := 8) (by decide +kernel)
theorem dX4_want_4 : decode cX4_want 4 = .ok (.aload_n 0, 1) := dc_42 (by decide +kernel)
theorem dX4_want_5 : decode cX4_want 5 = .ok (.iload_n 2, 1) := dc_28 (by decide +kernel)
theorem dX4_want_6 : decode cX4_want 6 = .ok (.invokevirtual 16, 3) := dc_182 (a := 0) (b := 16) (n := 16) (by decide +kernel)
theorem dX4_want_9 : decode cX4_want 9 = .ok (.return_, 1) := dc_177 (by decide +kernel)
def fX4_want_b9  (h : eH) : Option ((Unit ⊕ Nat) × eH) :=
  some (.inl (), h)
theorem pX4_want_b9 {w : eW} {d : Nat} (hd : 7 ≤ d + 1)  {h : eH} {q} (hf : fX4_want_b9  h = some q) : wp w (d + 1) YX4_want 9 [none, none, none] [] h (e_is (e_rt c_V q)) := by
  unfold fX4_want_b9 at hf
  cases hf
  exact w_vret dX4_want_9 rfl rfl
def fX4_want (this : Nat) (p0 : Int32) (p1 : Int32) (h : eH) : Option ((Unit ⊕ Nat) × eH) :=
  if ¬ p0 = 0 then
    fX4_want_b9 h
  else
    (k_ok 3 h this).bind fun _ =>
    t_B (fX4_fail this p1 h) fun x3 h4 =>
    fX4_want_b9 h4
theorem pX4_want {w : eW} {d : Nat} (hd : 7 ≤ d) {this : Nat} {p0 : Int32} {p1 : Int32} {h : eH} {q} (hf : fX4_want this p0 p1 h = some q) : wm w d YX4_want [.ref this, .int p0, .int p1] h (e_is (e_rt c_V q)) := by
  obtain ⟨d, rfl⟩ : ∃ e, d = e + 1 := ⟨d - 1, by omega⟩
  show wp w (d + 1) YX4_want 0 [some (.ref this), some (.int p0), some (.int p1)] [] h _
  unfold fX4_want at hf
  refine w_iload_n dX4_want_0 rfl rfl ?_
  refine w_if_ne 9 dX4_want_1 (by decide) (fun c1 => ?_) (fun c1 => ?_)
  · replace hf := (if_pos (show ¬ p0 = 0 from c1)).symm.trans hf
    exact (pX4_want_b9 hd hf).to trivial
  · replace hf := (if_neg (show ¬ (¬ p0 = 0) from (fun z => z c1))).symm.trans hf
    refine w_aload_n dX4_want_4 rfl rfl ?_
    refine w_iload_n dX4_want_5 rfl rfl ?_
    obtain ⟨_, b2, hf⟩ := Option.bind_eq_some_iff.mp hf
    refine x_ctV hf (e_stV (Yc := YX4_fail) (ci := 3) (av := [.int p1]) (st := []) dX4_want_6 q2458 mX4_fail rfl (k_ok_some b2).1 (k_ok_some b2).2) mX4_fail.2.2.1 mX4_fail.2.2.2.2.1 (Nat.le_of_ble_eq_true rfl) (Nat.le_of_ble_eq_true rfl) rfl (fun q hq => pX4_fail (by omega) hq) (fun x3 h4 hf => ?_)
    exact (pX4_want_b9 hd hf).to trivial
abbrev cX10_add : ByteArray := prog_17_method_4_code
def yX10_add : MethodName := ⟨RX10, "add", "(I)V"⟩
def YX10_add : eY := (yX10_add, cX10_add, 2, none, [])
theorem mX10_add : e_mv YX10_add RX10 1 := ⟨q2451, q2452, q2453, by decide, by decide +kernel, (e_sig (by decide +kernel))⟩
theorem dX10_add_0 : decode cX10_add 0 = .ok (.aload_n 0, 1) := dc_42 (by decide +kernel)
theorem dX10_add_1 : decode cX10_add 1 = .ok (.getfield 28, 3) := dc_180 (a := 0) (b := 28) (n := 28) (by decide +kernel)
theorem dX10_add_4 : decode cX10_add 4 = .ok (.aload_n 0, 1) := dc_42 (by decide +kernel)
theorem dX10_add_5 : decode cX10_add 5 = .ok (.getfield 39, 3) := dc_180 (a := 0) (b := 39) (n := 39) (by decide +kernel)
theorem dX10_add_8 : decode cX10_add 8 = .ok (.bipush 40, 2) := dc_16 (a := 40) (v := 40) (by decide +kernel)
theorem dX10_add_10 : decode cX10_add 10 = .ok (.if_icmp .ge 7, 3) := dc_162 (a := 0) (b := 7) (v := 7) (by decide +kernel)
theorem dX10_add_13 : decode cX10_add 13 = .ok (.iconst 1, 1) := dc_4 (by decide +kernel)
theorem dX10_add_14 : decode cX10_add 14 = .ok (.goto 4, 3) := dc_167 (a := 0) (b := 4) (v := 4) (by decide +kernel)
theorem dX10_add_17 : decode cX10_add 17 = .ok (.iconst 0, 1) := dc_3 (by decide +kernel)
theorem dX10_add_18 : decode cX10_add 18 = .ok (.iconst 2, 1) := dc_5 (by decide +kernel)
theorem dX10_add_19 : decode cX10_add 19 = .ok (.invokevirtual 42, 3) := dc_182 (a := 0) (b := 42) (n := 42) (by decide +kernel)
theorem dX10_add_22 : decode cX10_add 22 = .ok (.aload_n 0, 1) := dc_42 (by decide +kernel)
theorem dX10_add_23 : decode cX10_add 23 = .ok (.getfield 25, 3) := dc_180 (a := 0) (b := 25) (n := 25) (by decide +kernel)
theorem dX10_add_26 : decode cX10_add 26 = .ok (.aload_n 0, 1) := dc_42 (by decide +kernel)
theorem dX10_add_27 : decode cX10_add 27 = .ok (.dup, 1) := dc_89 (by decide +kernel)
theorem dX10_add_28 : decode cX10_add 28 = .ok (.getfield 39, 3) := dc_180 (a := 0) (b := 39) (n := 39) (by decide +kernel)
theorem dX10_add_31 : decode cX10_add 31 = .ok (.dup_x1, 1) := dc_90 (by decide +kernel)
theorem dX10_add_32 : decode cX10_add 32 = .ok (.iconst 1, 1) := dc_4 (by decide +kernel)
theorem dX10_add_33 : decode cX10_add 33 = .ok (.iadd, 1) := dc_96 (by decide +kernel)
theorem dX10_add_34 : decode cX10_add 34 = .ok (.putfield 39, 3) := dc_181 (a := 0) (b := 39) (n := 39) (by decide +kernel)
theorem dX10_add_37 : decode cX10_add 37 = .ok (.iload_n 1, 1) := dc_27 (by decide +kernel)
theorem dX10_add_38 : decode cX10_add 38 = .ok (.i2b, 1) := dc_145 (by decide +kernel)
theorem dX10_add_39 : decode cX10_add 39 = .ok (.bastore, 1) := dc_84 (by decide +kernel)
theorem dX10_add_40 : decode cX10_add 40 = .ok (.return_, 1) := dc_177 (by decide +kernel)
theorem GX10_28 {w : eW} {d : Nat} {Y : eY} {pc : Nat} {ls : eL} {st : List Value} {h : eH} {Q : eO → eH → Prop} {a : Nat} {x : Nat} (hf : g_A 9 h a 0 = some x) (hd : decode Y.2.1 pc = .ok (.getfield 28, 3)) (hY : Y.1.cls = RX10) (kk : wp w d Y (pc + 3) ls (.ref x :: st) h Q) : wp w d Y pc ls (.ref a :: st) h Q := x_gA (ci := 9) (k := 0) hf hd rfl (by decide) (by rw [hY]; exact q700) kk
def fX10_add_b18 (l0 : Nat) (l1 : Int32) (s0 : Nat) (s1 : Int32) (h : eH) : Option ((Unit ⊕ Nat) × eH) :=
  (k_ok 3 h s0).bind fun _ =>
  t_B (fX4_want s0 s1 (2 : Int32) h) fun x2 h3 =>
  (g_A 9 h3 l0 7).bind fun a4 =>
  (g_I 9 h3 l0 8).bind fun x6 =>
  (p_V 9 h3 l0 8 (.int (x6 + (1 : Int32)))).bind fun h8 =>
  (q_V 102 h8 a4 x6 (.int ((l1).toInt8.toInt32).toInt8.toInt32)).bind fun h10 =>
  some (.inl (), h10)
theorem pX10_add_b18 {w : eW} {d : Nat} (hd : 8 ≤ d + 1) {l0 : Nat} {l1 : Int32} {s0 : Nat} {s1 : Int32} {h : eH} {q} (hf : fX10_add_b18 l0 l1 s0 s1 h = some q) : wp w (d + 1) YX10_add 18 [some (.ref l0), some (.int l1)] [.int s1, .ref s0] h (e_is (e_rt c_V q)) := by
  unfold fX10_add_b18 at hf
  refine w_iconst dX10_add_18 (v := 2) (by decide) ?_
  obtain ⟨_, b1, hf⟩ := Option.bind_eq_some_iff.mp hf
  refine x_ctV hf (e_stV (Yc := YX4_want) (ci := 3) (av := [.int s1, .int (2 : Int32)]) (st := []) dX10_add_19 q2454 mX4_want rfl (k_ok_some b1).1 (k_ok_some b1).2) mX4_want.2.2.1 mX4_want.2.2.2.2.1 (Nat.le_of_ble_eq_true rfl) (Nat.le_of_ble_eq_true rfl) rfl (fun q hq => pX4_want (by omega) hq) (fun x2 h3 hf => ?_)
  refine w_aload_n dX10_add_22 rfl rfl ?_
  obtain ⟨a4, b5, hf⟩ := Option.bind_eq_some_iff.mp hf
  refine GX10_25 b5 dX10_add_23 rfl ?_
  refine w_aload_n dX10_add_26 rfl rfl ?_
  refine w_dup dX10_add_27 rfl ?_
  obtain ⟨x6, b7, hf⟩ := Option.bind_eq_some_iff.mp hf
  refine GX10_39 b7 dX10_add_28 rfl ?_
  refine w_dup_x1 dX10_add_31 rfl rfl ?_
  refine w_iconst dX10_add_32 (v := 1) (by decide) ?_
  refine w_iadd dX10_add_33 ?_
  obtain ⟨h8, b9, hf⟩ := Option.bind_eq_some_iff.mp hf
  refine SX10_39 b9 dX10_add_34 rfl ?_
  refine w_iload_n dX10_add_37 rfl rfl ?_
  refine w_i2b dX10_add_38 ?_
  obtain ⟨h10, b11, hf⟩ := Option.bind_eq_some_iff.mp hf
  refine x_qB b11 dX10_add_39 ?_
  cases hf
  exact w_vret dX10_add_40 rfl rfl
def fX10_add (this : Nat) (p0 : Int32) (h : eH) : Option ((Unit ⊕ Nat) × eH) :=
  (g_A 9 h this 0).bind fun a1 =>
  (g_I 9 h this 8).bind fun x3 =>
  if (40 : Int32) ≤ x3 then
    fX10_add_b18 this p0 a1 (0 : Int32) h
  else
    fX10_add_b18 this p0 a1 (1 : Int32) h
theorem pX10_add {w : eW} {d : Nat} (hd : 8 ≤ d) {this : Nat} {p0 : Int32} {h : eH} {q} (hf : fX10_add this p0 h = some q) : wm w d YX10_add [.ref this, .int p0] h (e_is (e_rt c_V q)) := by
  obtain ⟨d, rfl⟩ : ∃ e, d = e + 1 := ⟨d - 1, by omega⟩
  show wp w (d + 1) YX10_add 0 [some (.ref this), some (.int p0)] [] h _
  unfold fX10_add at hf
  refine w_aload_n dX10_add_0 rfl rfl ?_
  obtain ⟨a1, b2, hf⟩ := Option.bind_eq_some_iff.mp hf
  refine GX10_28 b2 dX10_add_1 rfl ?_
  refine w_aload_n dX10_add_4 rfl rfl ?_
  obtain ⟨x3, b4, hf⟩ := Option.bind_eq_some_iff.mp hf
  refine GX10_39 b4 dX10_add_5 rfl ?_
  refine w_bipush dX10_add_8 (v := 40) (by decide) ?_
  refine w_icmp_ge 17 dX10_add_10 (by decide) (fun c5 => ?_) (fun c5 => ?_)
  · replace hf := (if_pos (show (40 : Int32) ≤ x3 from c5)).symm.trans hf
    refine w_iconst dX10_add_17 (v := 0) (by decide) ?_
    exact (pX10_add_b18 hd hf).to ⟨rfl, rfl, trivial⟩
  · replace hf := (if_neg (show ¬ ((40 : Int32) ≤ x3) from c5)).symm.trans hf
    refine w_iconst dX10_add_13 (v := 1) (by decide) ?_
    refine w_goto 18 dX10_add_14 (by decide) ?_
    exact (pX10_add_b18 hd hf).to ⟨rfl, rfl, trivial⟩
abbrev cX10_slot : ByteArray := prog_17_method_8_code
def yX10_slot : MethodName := ⟨RX10, "slot", "()I"⟩
def YX10_slot : eY := (yX10_slot, cX10_slot, 2, (Option.some FieldType.int), [])
theorem mX10_slot : e_mv YX10_slot RX10 0 := ⟨q2465, q2466, q2467, by decide, by decide +kernel, (e_sig (by decide +kernel))⟩
theorem dX10_slot_0 : decode cX10_slot 0 = .ok (.aload_n 0, 1) := dc_42 (by decide +kernel)
theorem dX10_slot_1 : decode cX10_slot 1 = .ok (.invokevirtual 62, 3) := dc_182 (a := 0) (b := 62) (n := 62) (by decide +kernel)
theorem dX10_slot_4 : decode cX10_slot 4 = .ok (.istore_n 1, 1) := dc_60 (by decide +kernel)
theorem dX10_slot_5 : decode cX10_slot 5 = .ok (.aload_n 0, 1) := dc_42 (by decide +kernel)
theorem dX10_slot_6 : decode cX10_slot 6 = .ok (.getfield 11, 3) := dc_180 (a := 0) (b := 11) (n := 11) (by decide +kernel)
theorem dX10_slot_9 : decode cX10_slot 9 = .ok (.iload_n 1, 1) := dc_27 (by decide +kernel)
theorem dX10_slot_10 : decode cX10_slot 10 = .ok (.iaload, 1) := dc_46 (by decide +kernel)
theorem dX10_slot_11 : decode cX10_slot 11 = .ok (.ifCond .ne 31, 3) := dc_154 (a := 0) (b := 31) (v := 31) (by decide +kernel)
theorem dX10_slot_14 : decode cX10_slot 14 = .ok (.aload_n 0, 1) := dc_42 (by decide +kernel)
theorem dX10_slot_15 : decode cX10_slot 15 = .ok (.getfield 28, 3) := dc_180 (a := 0) (b := 28) (n := 28) (by decide +kernel)
theorem dX10_slot_18 : decode cX10_slot 18 = .ok (.aload_n 0, 1) := dc_42 (by decide +kernel)
theorem dX10_slot_19 : decode cX10_slot 19 = .ok (.getfield 32, 3) := dc_180 (a := 0) (b := 32) (n := 32) (by decide +kernel)
theorem dX10_slot_22 : decode cX10_slot 22 = .ok (.sipush 1352, 3) := dc_17 (a := 5) (b := 72) (v := 1352) (by decide +kernel)
theorem dX10_slot_25 : decode cX10_slot 25 = .ok (.if_icmp .ge 7, 3) := dc_162 (a := 0) (b := 7) (v := 7) (by decide +kernel)
theorem dX10_slot_28 : decode cX10_slot 28 = .ok (.iconst 1, 1) := dc_4 (by decide +kernel)
theorem dX10_slot_29 : decode cX10_slot 29 = .ok (.goto 4, 3) := dc_167 (a := 0) (b := 4) (v := 4) (by decide +kernel)
theorem dX10_slot_32 : decode cX10_slot 32 = .ok (.iconst 0, 1) := dc_3 (by decide +kernel)
theorem dX10_slot_33 : decode cX10_slot 33 = .ok (.iconst 2, 1) := dc_5 (by decide +kernel)
theorem dX10_slot_34 : decode cX10_slot 34 = .ok (.invokevirtual 42, 3) := dc_182 (a := 0) (b := 42) (n := 42) (by decide +kernel)
theorem dX10_slot_37 : decode cX10_slot 37 = .ok (.aload_n 0, 1) := dc_42 (by decide +kernel)
theorem dX10_slot_38 : decode cX10_slot 38 = .ok (.iload_n 1, 1) := dc_27 (by decide +kernel)
theorem dX10_slot_39 : decode cX10_slot 39 = .ok (.invokevirtual 66, 3) := dc_182 (a := 0) (b := 66) (n := 66) (by decide +kernel)
theorem dX10_slot_42 : decode cX10_slot 42 = .ok (.aload_n 0, 1) := dc_42 (by decide +kernel)
theorem dX10_slot_43 : decode cX10_slot 43 = .ok (.getfield 11, 3) := dc_180 (a := 0) (b := 11) (n := 11) (by decide +kernel)
theorem dX10_slot_46 : decode cX10_slot 46 = .ok (.iload_n 1, 1) := dc_27 (by decide +kernel)
theorem dX10_slot_47 : decode cX10_slot 47 = .ok (.iaload, 1) := dc_46 (by decide +kernel)
theorem dX10_slot_48 : decode cX10_slot 48 = .ok (.ireturn, 1) := dc_172 (by decide +kernel)
def fX10_slot_b42 (N : Nat) (l0 : Nat) (l1 : Int32) (h : eH) : Option ((Int32 ⊕ Nat) × eH) :=
  (g_A 9 h l0 1).bind fun a1 =>
  (r_I 100 h a1 l1).bind fun x3 =>
  some (.inl x3, h)
theorem pX10_slot_b42 {w : eW} {d : Nat} (hd : 8 ≤ d + 1) {N : Nat} {l0 : Nat} {l1 : Int32} {h : eH} {q} (hf : fX10_slot_b42 N l0 l1 h = some q) : wp w (d + 1) YX10_slot 42 [some (.ref l0), some (.int l1)] [] h (e_is (e_rt c_I q)) := by
  unfold fX10_slot_b42 at hf
  refine w_aload_n dX10_slot_42 rfl rfl ?_
  obtain ⟨a1, b2, hf⟩ := Option.bind_eq_some_iff.mp hf
  refine GX10_11 b2 dX10_slot_43 rfl ?_
  refine w_iload_n dX10_slot_46 rfl rfl ?_
  obtain ⟨x3, b4, hf⟩ := Option.bind_eq_some_iff.mp hf
  refine x_rI b4 dX10_slot_47 ?_
  cases hf
  exact w_iret dX10_slot_48 rfl rfl rfl
def fX10_slot_b33 (N : Nat) (l0 : Nat) (l1 : Int32) (s0 : Nat) (s1 : Int32) (h : eH) : Option ((Int32 ⊕ Nat) × eH) :=
  (k_ok 3 h s0).bind fun _ =>
  t_B (fX4_want s0 s1 (2 : Int32) h) fun x2 h3 =>
  (k_ok 9 h3 l0).bind fun _ =>
  (fX10_make l0 l1 h3).bind fun q5 =>
  fX10_slot_b42 N l0 l1 q5.2
theorem pX10_slot_b33 {w : eW} {d : Nat} (hd : 8 ≤ d + 1) {N : Nat} {l0 : Nat} {l1 : Int32} {s0 : Nat} {s1 : Int32} {h : eH} {q} (hf : fX10_slot_b33 N l0 l1 s0 s1 h = some q) : wp w (d + 1) YX10_slot 33 [some (.ref l0), some (.int l1)] [.int s1, .ref s0] h (e_is (e_rt c_I q)) := by
  unfold fX10_slot_b33 at hf
  refine w_iconst dX10_slot_33 (v := 2) (by decide) ?_
  obtain ⟨_, b1, hf⟩ := Option.bind_eq_some_iff.mp hf
  refine x_ctV hf (e_stV (Yc := YX4_want) (ci := 3) (av := [.int s1, .int (2 : Int32)]) (st := []) dX10_slot_34 q2454 mX4_want rfl (k_ok_some b1).1 (k_ok_some b1).2) mX4_want.2.2.1 mX4_want.2.2.2.2.1 (Nat.le_of_ble_eq_true rfl) (Nat.le_of_ble_eq_true rfl) rfl (fun q hq => pX4_want (by omega) hq) (fun x2 h3 hf => ?_)
  refine w_aload_n dX10_slot_37 rfl rfl ?_
  refine w_iload_n dX10_slot_38 rfl rfl ?_
  obtain ⟨_, b4, hf⟩ := Option.bind_eq_some_iff.mp hf
  refine x_cnV hf (e_stV (Yc := YX10_make) (ci := 9) (av := [.int l1]) (st := []) dX10_slot_39 q2005 mX10_make rfl (k_ok_some b4).1 (k_ok_some b4).2) mX10_make.2.2.1 mX10_make.2.2.2.2.1 (Nat.le_of_ble_eq_true rfl) (Nat.le_of_ble_eq_true rfl) (fun q hq => pX10_make (by omega) hq) (fun q5 hf => ?_)
  exact (pX10_slot_b42 hd hf).to ⟨rfl, rfl, trivial⟩
def fX10_slot (N : Nat) (this : Nat) (h : eH) : Option ((Int32 ⊕ Nat) × eH) :=
  (k_ok 9 h this).bind fun _ =>
  (fX10_seek N this h).bind fun q2 =>
  (g_A 9 q2.2 this 1).bind fun a3 =>
  (r_I 100 q2.2 a3 q2.1).bind fun x5 =>
  if ¬ x5 = 0 then
    fX10_slot_b42 N this q2.1 q2.2
  else
    (g_A 9 q2.2 this 0).bind fun a8 =>
    (g_I 9 q2.2 this 6).bind fun x10 =>
    if (1352 : Int32) ≤ x10 then
      fX10_slot_b33 N this q2.1 a8 (0 : Int32) q2.2
    else
      fX10_slot_b33 N this q2.1 a8 (1 : Int32) q2.2
theorem pX10_slot {w : eW} {d : Nat} (hd : 8 ≤ d) {N : Nat} {this : Nat} {h : eH} {q} (hf : fX10_slot N this h = some q) : wm w d YX10_slot [.ref this] h (e_is (e_rt c_I q)) := by
  obtain ⟨d, rfl⟩ : ∃ e, d = e + 1 := ⟨d - 1, by omega⟩
  show wp w (d + 1) YX10_slot 0 [some (.ref this), none] [] h _
  unfold fX10_slot at hf
  refine w_aload_n dX10_slot_0 rfl rfl ?_
  obtain ⟨_, b1, hf⟩ := Option.bind_eq_some_iff.mp hf
  refine x_cnI hf (e_stV (Yc := YX10_seek) (ci := 9) (av := []) (st := []) dX10_slot_1 q1997 mX10_seek rfl (k_ok_some b1).1 (k_ok_some b1).2) mX10_seek.2.2.1 mX10_seek.2.2.2.2.1 (Nat.le_of_ble_eq_true rfl) (Nat.le_of_ble_eq_true rfl) (fun q hq => pX10_seek (by omega) hq) (fun q2 hf => ?_)
  refine w_istore_n dX10_slot_4 rfl (by decide) (ls' := [some (.ref this), some (.int q2.1)]) rfl ?_
  refine w_aload_n dX10_slot_5 rfl rfl ?_
  obtain ⟨a3, b4, hf⟩ := Option.bind_eq_some_iff.mp hf
  refine GX10_11 b4 dX10_slot_6 rfl ?_
  refine w_iload_n dX10_slot_9 rfl rfl ?_
  obtain ⟨x5, b6, hf⟩ := Option.bind_eq_some_iff.mp hf
  refine x_rI b6 dX10_slot_10 ?_
  refine w_if_ne 42 dX10_slot_11 (by decide) (fun c7 => ?_) (fun c7 => ?_)
  · replace hf := (if_pos (show ¬ x5 = 0 from c7)).symm.trans hf
    exact (pX10_slot_b42 hd hf).to ⟨rfl, rfl, trivial⟩
  · replace hf := (if_neg (show ¬ (¬ x5 = 0) from (fun z => z c7))).symm.trans hf
    refine w_aload_n dX10_slot_14 rfl rfl ?_
    obtain ⟨a8, b9, hf⟩ := Option.bind_eq_some_iff.mp hf
    refine GX10_28 b9 dX10_slot_15 rfl ?_
    refine w_aload_n dX10_slot_18 rfl rfl ?_
    obtain ⟨x10, b11, hf⟩ := Option.bind_eq_some_iff.mp hf
    refine GX10_32 b11 dX10_slot_19 rfl ?_
    refine w_sipush dX10_slot_22 (v := 1352) (by decide) ?_
    refine w_icmp_ge 32 dX10_slot_25 (by decide) (fun c12 => ?_) (fun c12 => ?_)
    · replace hf := (if_pos (show (1352 : Int32) ≤ x10 from c12)).symm.trans hf
      refine w_iconst dX10_slot_32 (v := 0) (by decide) ?_
      exact (pX10_slot_b33 hd hf).to ⟨rfl, rfl, trivial⟩
    · replace hf := (if_neg (show ¬ ((1352 : Int32) ≤ x10) from c12)).symm.trans hf
      refine w_iconst dX10_slot_28 (v := 1) (by decide) ?_
      refine w_goto 33 dX10_slot_29 (by decide) ?_
      exact (pX10_slot_b33 hd hf).to ⟨rfl, rfl, trivial⟩
abbrev cX11_name : ByteArray := prog_29_method_6_code
def yX11_name : MethodName := ⟨RX11, "name", "()I"⟩
def YX11_name : eY := (yX11_name, cX11_name, 1, (Option.some FieldType.int), [])
theorem mX11_name : e_mv YX11_name RX11 0 := ⟨q2443, qs46, q2444, by decide, by decide +kernel, (e_sig (by decide +kernel))⟩
theorem dX11_name_0 : decode cX11_name 0 = .ok (.aload_n 0, 1) := dc_42 (by decide +kernel)
theorem dX11_name_1 : decode cX11_name 1 = .ok (.getfield 20, 3) := dc_180 (a := 0) (b := 20) (n := 20) (by decide +kernel)
theorem dX11_name_4 : decode cX11_name 4 = .ok (.invokevirtual 56, 3) := dc_182 (a := 0) (b := 56) (n := 56) (by decide +kernel)
theorem dX11_name_7 : decode cX11_name 7 = .ok (.aload_n 0, 1) := dc_42 (by decide +kernel)
theorem dX11_name_8 : decode cX11_name 8 = .ok (.iconst 1, 1) := dc_4 (by decide +kernel)
theorem dX11_name_9 : decode cX11_name 9 = .ok (.putfield 44, 3) := dc_181 (a := 0) (b := 44) (n := 44) (by decide +kernel)
theorem dX11_name_12 : decode cX11_name 12 = .ok (.aload_n 0, 1) := dc_42 (by decide +kernel)
theorem dX11_name_13 : decode cX11_name 13 = .ok (.invokevirtual 61, 3) := dc_182 (a := 0) (b := 61) (n := 61) (by decide +kernel)
theorem dX11_name_16 : decode cX11_name 16 = .ok (.ifCond .ne 80, 3) := dc_154 (a := 0) (b := 80) (v := 80) (by decide +kernel)
theorem dX11_name_19 : decode cX11_name 19 = .ok (.aload_n 0, 1) := dc_42 (by decide +kernel)
theorem dX11_name_20 : decode cX11_name 20 = .ok (.getfield 32, 3) := dc_180 (a := 0) (b := 32) (n := 32) (by decide +kernel)
theorem dX11_name_23 : decode cX11_name 23 = .ok (.aload_n 0, 1) := dc_42 (by decide +kernel)
theorem dX11_name_24 : decode cX11_name 24 = .ok (.getfield 35, 3) := dc_180 (a := 0) (b := 35) (n := 35) (by decide +kernel)
theorem dX11_name_27 : decode cX11_name 27 = .ok (.if_icmp .gt 69, 3) := dc_163 (a := 0) (b := 69) (v := 69) (by decide +kernel)
theorem dX11_name_30 : decode cX11_name 30 = .ok (.aload_n 0, 1) := dc_42 (by decide +kernel)
theorem dX11_name_31 : decode cX11_name 31 = .ok (.getfield 20, 3) := dc_180 (a := 0) (b := 20) (n := 20) (by decide +kernel)
theorem dX11_name_34 : decode cX11_name 34 = .ok (.aload_n 0, 1) := dc_42 (by decide +kernel)
theorem dX11_name_35 : decode cX11_name 35 = .ok (.aload_n 0, 1) := dc_42 (by decide +kernel)
theorem dX11_name_36 : decode cX11_name 36 = .ok (.getfield 32, 3) := dc_180 (a := 0) (b := 32) (n := 32) (by decide +kernel)
theorem dX11_name_39 : decode cX11_name 39 = .ok (.invokevirtual 47, 3) := dc_182 (a := 0) (b := 47) (n := 47) (by decide +kernel)
theorem dX11_name_42 : decode cX11_name 42 = .ok (.invokevirtual 65, 3) := dc_182 (a := 0) (b := 65) (n := 65) (by decide +kernel)
theorem dX11_name_45 : decode cX11_name 45 = .ok (.aload_n 0, 1) := dc_42 (by decide +kernel)
theorem dX11_name_46 : decode cX11_name 46 = .ok (.aload_n 0, 1) := dc_42 (by decide +kernel)
theorem dX11_name_47 : decode cX11_name 47 = .ok (.getfield 24, 3) := dc_180 (a := 0) (b := 24) (n := 24) (by decide +kernel)
theorem dX11_name_50 : decode cX11_name 50 = .ok (.aload_n 0, 1) := dc_42 (by decide +kernel)
theorem dX11_name_51 : decode cX11_name 51 = .ok (.aload_n 0, 1) := dc_42 (by decide +kernel)
theorem dX11_name_52 : decode cX11_name 52 = .ok (.getfield 32, 3) := dc_180 (a := 0) (b := 32) (n := 32) (by decide +kernel)
theorem dX11_name_55 : decode cX11_name 55 = .ok (.invokevirtual 47, 3) := dc_182 (a := 0) (b := 47) (n := 47) (by decide +kernel)
theorem dX11_name_58 : decode cX11_name 58 = .ok (.invokevirtual 51, 3) := dc_182 (a := 0) (b := 51) (n := 51) (by decide +kernel)
theorem dX11_name_61 : decode cX11_name 61 = .ok (.bipush 10, 2) := dc_16 (a := 10) (v := 10) (by decide +kernel)
theorem dX11_name_63 : decode cX11_name 63 = .ok (.if_icmp .ne 7, 3) := dc_160 (a := 0) (b := 7) (v := 7) (by decide +kernel)
theorem dX11_name_66 : decode cX11_name 66 = .ok (.iconst 2, 1) := dc_5 (by decide +kernel)
theorem dX11_name_67 : decode cX11_name 67 = .ok (.goto 4, 3) := dc_167 (a := 0) (b := 4) (v := 4) (by decide +kernel)
theorem dX11_name_70 : decode cX11_name 70 = .ok (.iconst 1, 1) := dc_4 (by decide +kernel)
theorem dX11_name_71 : decode cX11_name 71 = .ok (.putfield 44, 3) := dc_181 (a := 0) (b := 44) (n := 44) (by decide +kernel)
theorem dX11_name_74 : decode cX11_name 74 = .ok (.aload_n 0, 1) := dc_42 (by decide +kernel)
theorem dX11_name_75 : decode cX11_name 75 = .ok (.dup, 1) := dc_89 (by decide +kernel)
theorem dX11_name_76 : decode cX11_name 76 = .ok (.getfield 32, 3) := dc_180 (a := 0) (b := 32) (n := 32) (by decide +kernel)
theorem dX11_name_79 : decode cX11_name 79 = .ok (.iconst 1, 1) := dc_4 (by decide +kernel)
theorem dX11_name_80 : decode cX11_name 80 = .ok (.iadd, 1) := dc_96 (by decide +kernel)
theorem dX11_name_81 : decode cX11_name 81 = .ok (.putfield 32, 3) := dc_181 (a := 0) (b := 32) (n := 32) (by decide +kernel)
theorem dX11_name_84 : decode cX11_name 84 = .ok (.sipush 4096, 3) := dc_17 (a := 16) (b := 0) (v := 4096) (by decide +kernel)
theorem dX11_name_87 : decode cX11_name 87 = .ok (.aload_n 0, 1) := dc_42 (by decide +kernel)
theorem dX11_name_88 : decode cX11_name 88 = .ok (.getfield 20, 3) := dc_180 (a := 0) (b := 20) (n := 20) (by decide +kernel)
theorem dX11_name_91 : decode cX11_name 91 = .ok (.invokevirtual 69, 3) := dc_182 (a := 0) (b := 69) (n := 69) (by decide +kernel)
theorem dX11_name_94 : decode cX11_name 94 = .ok (.iadd, 1) := dc_96 (by decide +kernel)
theorem dX11_name_95 : decode cX11_name 95 = .ok (.ireturn, 1) := dc_172 (by decide +kernel)
theorem dX11_name_96 : decode cX11_name 96 = .ok (.aload_n 0, 1) := dc_42 (by decide +kernel)
theorem dX11_name_97 : decode cX11_name 97 = .ok (.invokevirtual 61, 3) := dc_182 (a := 0) (b := 61) (n := 61) (by decide +kernel)
theorem dX11_name_100 : decode cX11_name 100 = .ok (.ifCond .eq 36, 3) := dc_153 (a := 0) (b := 36) (v := 36) (by decide +kernel)
theorem dX11_name_103 : decode cX11_name 103 = .ok (.aload_n 0, 1) := dc_42 (by decide +kernel)
theorem dX11_name_104 : decode cX11_name 104 = .ok (.getfield 20, 3) := dc_180 (a := 0) (b := 20) (n := 20) (by decide +kernel)
theorem dX11_name_107 : decode cX11_name 107 = .ok (.aload_n 0, 1) := dc_42 (by decide +kernel)
theorem dX11_name_108 : decode cX11_name 108 = .ok (.aload_n 0, 1) := dc_42 (by decide +kernel)
theorem dX11_name_109 : decode cX11_name 109 = .ok (.getfield 32, 3) := dc_180 (a := 0) (b := 32) (n := 32) (by decide +kernel)
theorem dX11_name_112 : decode cX11_name 112 = .ok (.invokevirtual 47, 3) := dc_182 (a := 0) (b := 47) (n := 47) (by decide +kernel)
theorem dX11_name_115 : decode cX11_name 115 = .ok (.invokevirtual 65, 3) := dc_182 (a := 0) (b := 65) (n := 65) (by decide +kernel)
theorem dX11_name_118 : decode cX11_name 118 = .ok (.aload_n 0, 1) := dc_42 (by decide +kernel)
theorem dX11_name_119 : decode cX11_name 119 = .ok (.dup, 1) := dc_89 (by decide +kernel)
theorem dX11_name_120 : decode cX11_name 120 = .ok (.getfield 32, 3) := dc_180 (a := 0) (b := 32) (n := 32) (by decide +kernel)
theorem dX11_name_123 : decode cX11_name 123 = .ok (.iconst 1, 1) := dc_4 (by decide +kernel)
theorem dX11_name_124 : decode cX11_name 124 = .ok (.iadd, 1) := dc_96 (by decide +kernel)
theorem dX11_name_125 : decode cX11_name 125 = .ok (.putfield 32, 3) := dc_181 (a := 0) (b := 32) (n := 32) (by decide +kernel)
theorem dX11_name_128 : decode cX11_name 128 = .ok (.aload_n 0, 1) := dc_42 (by decide +kernel)
theorem dX11_name_129 : decode cX11_name 129 = .ok (.iconst 2, 1) := dc_5 (by decide +kernel)
theorem dX11_name_130 : decode cX11_name 130 = .ok (.putfield 44, 3) := dc_181 (a := 0) (b := 44) (n := 44) (by decide +kernel)
theorem dX11_name_133 : decode cX11_name 133 = .ok (.goto (-37), 3) := dc_167 (a := 255) (b := 219) (v := -37) (by decide +kernel)
theorem dX11_name_136 : decode cX11_name 136 = .ok (.sipush 4096, 3) := dc_17 (a := 16) (b := 0) (v := 4096) (by decide +kernel)
theorem dX11_name_139 : decode cX11_name 139 = .ok (.aload_n 0, 1) := dc_42 (by decide +kernel)
theorem dX11_name_140 : decode cX11_name 140 = .ok (.getfield 20, 3) := dc_180 (a := 0) (b := 20) (n := 20) (by decide +kernel)
theorem dX11_name_143 : decode cX11_name 143 = .ok (.invokevirtual 69, 3) := dc_182 (a := 0) (b := 69) (n := 69) (by decide +kernel)
theorem dX11_name_146 : decode cX11_name 146 = .ok (.iadd, 1) := dc_96 (by decide +kernel)
theorem dX11_name_147 : decode cX11_name 147 = .ok (.ireturn, 1) := dc_172 (by decide +kernel)
theorem GX11_20 {w : eW} {d : Nat} {Y : eY} {pc : Nat} {ls : eL} {st : List Value} {h : eH} {Q : eO → eH → Prop} {a : Nat} {x : Nat} (hf : g_A 10 h a 1 = some x) (hd : decode Y.2.1 pc = .ok (.getfield 20, 3)) (hY : Y.1.cls = RX11) (kk : wp w d Y (pc + 3) ls (.ref x :: st) h Q) : wp w d Y pc ls (.ref a :: st) h Q := x_gA (ci := 10) (k := 1) hf hd rfl (by decide) (by rw [hY]; exact q738) kk
def fX11_name_b71 (N : Nat) (l0 : Nat) (s0 : Nat) (s1 : Int32) (h : eH) : Option ((Int32 ⊕ Nat) × eH) :=
  (p_V 10 h s0 8 (.int s1)).bind fun h1 =>
  (g_I 10 h1 l0 6).bind fun x3 =>
  (p_V 10 h1 l0 6 (.int (x3 + (1 : Int32)))).bind fun h5 =>
  (g_A 10 h5 l0 1).bind fun a7 =>
  (k_ok 9 h5 a7).bind fun _ =>
  t_B (fX10_slot N a7 h5) fun x10 h11 =>
  some (.inl ((4096 : Int32) + x10), h11)
theorem pX11_name_b71 {w : eW} {d : Nat} (hd : 9 ≤ d + 1) {N : Nat} {l0 : Nat} {s0 : Nat} {s1 : Int32} {h : eH} {q} (hf : fX11_name_b71 N l0 s0 s1 h = some q) : wp w (d + 1) YX11_name 71 [some (.ref l0)] [.int s1, .ref s0] h (e_is (e_rt c_I q)) := by
  unfold fX11_name_b71 at hf
  obtain ⟨h1, b2, hf⟩ := Option.bind_eq_some_iff.mp hf
  refine SX11_44 b2 dX11_name_71 rfl ?_
  refine w_aload_n dX11_name_74 rfl rfl ?_
  refine w_dup dX11_name_75 rfl ?_
  obtain ⟨x3, b4, hf⟩ := Option.bind_eq_some_iff.mp hf
  refine GX11_32 b4 dX11_name_76 rfl ?_
  refine w_iconst dX11_name_79 (v := 1) (by decide) ?_
  refine w_iadd dX11_name_80 ?_
  obtain ⟨h5, b6, hf⟩ := Option.bind_eq_some_iff.mp hf
  refine SX11_32 b6 dX11_name_81 rfl ?_
  refine w_sipush dX11_name_84 (v := 4096) (by decide) ?_
  refine w_aload_n dX11_name_87 rfl rfl ?_
  obtain ⟨a7, b8, hf⟩ := Option.bind_eq_some_iff.mp hf
  refine GX11_20 b8 dX11_name_88 rfl ?_
  obtain ⟨_, b9, hf⟩ := Option.bind_eq_some_iff.mp hf
  refine x_ctI hf (e_stV (Yc := YX10_slot) (ci := 9) (av := []) (st := [.int (4096 : Int32)]) dX11_name_91 q2464 mX10_slot rfl (k_ok_some b9).1 (k_ok_some b9).2) mX10_slot.2.2.1 mX10_slot.2.2.2.2.1 (Nat.le_of_ble_eq_true rfl) (Nat.le_of_ble_eq_true rfl) rfl (fun q hq => pX10_slot (by omega) hq) (fun x10 h11 hf => ?_)
  refine w_iadd dX11_name_94 ?_
  cases hf
  exact w_iret dX11_name_95 rfl rfl rfl
def fX11_name_b96 (N : Nat) : Nat → Nat → eH → Option ((Int32 ⊕ Nat) × eH)
  | 0, _, _ => none
  | n + 1, l0, h =>
    (k_ok 10 h l0).bind fun _ =>
    (fX11_isLetter l0 h).bind fun q2 =>
    if q2.1 = 0 then
      (g_A 10 q2.2 l0 1).bind fun a4 =>
      (k_ok 9 q2.2 a4).bind fun _ =>
      t_B (fX10_slot N a4 q2.2) fun x7 h8 =>
      some (.inl ((4096 : Int32) + x7), h8)
    else
      (g_A 10 q2.2 l0 1).bind fun a9 =>
      (g_I 10 q2.2 l0 6).bind fun x11 =>
      (k_ok 10 q2.2 l0).bind fun _ =>
      (fX11_character l0 x11 q2.2).bind fun q14 =>
      (k_ok 9 q14.2 a9).bind fun _ =>
      t_B (fX10_add a9 q14.1 q14.2) fun x16 h17 =>
      (g_I 10 h17 l0 6).bind fun x18 =>
      (p_V 10 h17 l0 6 (.int (x18 + (1 : Int32)))).bind fun h20 =>
      (p_V 10 h20 l0 8 (.int (2 : Int32))).bind fun h22 =>
      fX11_name_b96 N n l0 h22
theorem pX11_name_b96 {w : eW} {d : Nat} (hd : 9 ≤ d + 1) {N : Nat} : ∀ (n : Nat) l0 h q, fX11_name_b96 N n l0 h = some q → wp w (d + 1) YX11_name 96 [some (.ref l0)] [] h (e_is (e_rt c_I q)) := by
  intro n
  induction n with
  | zero => intro l0 h q hf; simp [fX11_name_b96] at hf
  | succ n ih =>
    intro l0 h q hf
    rw [fX11_name_b96] at hf
    refine w_aload_n dX11_name_96 rfl rfl ?_
    obtain ⟨_, b1, hf⟩ := Option.bind_eq_some_iff.mp hf
    refine x_cnI hf (e_stV (Yc := YX11_isLetter) (ci := 10) (av := []) (st := []) dX11_name_97 q2446 mX11_isLetter rfl (k_ok_some b1).1 (k_ok_some b1).2) mX11_isLetter.2.2.1 mX11_isLetter.2.2.2.2.1 (Nat.le_of_ble_eq_true rfl) (Nat.le_of_ble_eq_true rfl) (fun q hq => pX11_isLetter (by omega) hq) (fun q2 hf => ?_)
    refine w_if_eq 136 dX11_name_100 (by decide) (fun c3 => ?_) (fun c3 => ?_)
    · replace hf := (if_pos (show q2.1 = 0 from c3)).symm.trans hf
      refine w_sipush dX11_name_136 (v := 4096) (by decide) ?_
      refine w_aload_n dX11_name_139 rfl rfl ?_
      obtain ⟨a4, b5, hf⟩ := Option.bind_eq_some_iff.mp hf
      refine GX11_20 b5 dX11_name_140 rfl ?_
      obtain ⟨_, b6, hf⟩ := Option.bind_eq_some_iff.mp hf
      refine x_ctI hf (e_stV (Yc := YX10_slot) (ci := 9) (av := []) (st := [.int (4096 : Int32)]) dX11_name_143 q2464 mX10_slot rfl (k_ok_some b6).1 (k_ok_some b6).2) mX10_slot.2.2.1 mX10_slot.2.2.2.2.1 (Nat.le_of_ble_eq_true rfl) (Nat.le_of_ble_eq_true rfl) rfl (fun q hq => pX10_slot (by omega) hq) (fun x7 h8 hf => ?_)
      refine w_iadd dX11_name_146 ?_
      cases hf
      exact w_iret dX11_name_147 rfl rfl rfl
    · replace hf := (if_neg (show ¬ (q2.1 = 0) from c3)).symm.trans hf
      refine w_aload_n dX11_name_103 rfl rfl ?_
      obtain ⟨a9, b10, hf⟩ := Option.bind_eq_some_iff.mp hf
      refine GX11_20 b10 dX11_name_104 rfl ?_
      refine w_aload_n dX11_name_107 rfl rfl ?_
      refine w_aload_n dX11_name_108 rfl rfl ?_
      obtain ⟨x11, b12, hf⟩ := Option.bind_eq_some_iff.mp hf
      refine GX11_32 b12 dX11_name_109 rfl ?_
      obtain ⟨_, b13, hf⟩ := Option.bind_eq_some_iff.mp hf
      refine x_cnI hf (e_stV (Yc := YX11_character) (ci := 10) (av := [.int x11]) (st := [.ref a9]) dX11_name_112 q2433 mX11_character rfl (k_ok_some b13).1 (k_ok_some b13).2) mX11_character.2.2.1 mX11_character.2.2.2.2.1 (Nat.le_of_ble_eq_true rfl) (Nat.le_of_ble_eq_true rfl) (fun q hq => pX11_character (by omega) hq) (fun q14 hf => ?_)
      obtain ⟨_, b15, hf⟩ := Option.bind_eq_some_iff.mp hf
      refine x_ctV hf (e_stV (Yc := YX10_add) (ci := 9) (av := [.int q14.1]) (st := []) dX11_name_115 q2450 mX10_add rfl (k_ok_some b15).1 (k_ok_some b15).2) mX10_add.2.2.1 mX10_add.2.2.2.2.1 (Nat.le_of_ble_eq_true rfl) (Nat.le_of_ble_eq_true rfl) rfl (fun q hq => pX10_add (by omega) hq) (fun x16 h17 hf => ?_)
      refine w_aload_n dX11_name_118 rfl rfl ?_
      refine w_dup dX11_name_119 rfl ?_
      obtain ⟨x18, b19, hf⟩ := Option.bind_eq_some_iff.mp hf
      refine GX11_32 b19 dX11_name_120 rfl ?_
      refine w_iconst dX11_name_123 (v := 1) (by decide) ?_
      refine w_iadd dX11_name_124 ?_
      obtain ⟨h20, b21, hf⟩ := Option.bind_eq_some_iff.mp hf
      refine SX11_32 b21 dX11_name_125 rfl ?_
      refine w_aload_n dX11_name_128 rfl rfl ?_
      refine w_iconst dX11_name_129 (v := 2) (by decide) ?_
      obtain ⟨h22, b23, hf⟩ := Option.bind_eq_some_iff.mp hf
      refine SX11_44 b23 dX11_name_130 rfl ?_
      refine w_goto 96 dX11_name_133 (by decide) ?_
      exact (ih _ _ _ hf).to ⟨rfl, trivial⟩
def fX11_name (N : Nat) (this : Nat) (h : eH) : Option ((Int32 ⊕ Nat) × eH) :=
  (g_A 10 h this 1).bind fun a1 =>
  (k_ok 9 h a1).bind fun _ =>
  (fX10_open a1 h).bind fun q4 =>
  (p_V 10 q4.2 this 8 (.int (1 : Int32))).bind fun h5 =>
  (k_ok 10 h5 this).bind fun _ =>
  (fX11_isLetter this h5).bind fun q8 =>
  if ¬ q8.1 = 0 then
    fX11_name_b96 N N this q8.2
  else
    (g_I 10 q8.2 this 6).bind fun x10 =>
    (g_I 10 q8.2 this 7).bind fun x12 =>
    if x12 < x10 then
      fX11_name_b96 N N this q8.2
    else
      (g_A 10 q8.2 this 1).bind fun a15 =>
      (g_I 10 q8.2 this 6).bind fun x17 =>
      (k_ok 10 q8.2 this).bind fun _ =>
      (fX11_character this x17 q8.2).bind fun q20 =>
      (k_ok 9 q20.2 a15).bind fun _ =>
      t_B (fX10_add a15 q20.1 q20.2) fun x22 h23 =>
      (g_A 10 h23 this 2).bind fun a24 =>
      (g_I 10 h23 this 6).bind fun x26 =>
      (k_ok 10 h23 this).bind fun _ =>
      (fX11_character this x26 h23).bind fun q29 =>
      (k_ok 8 q29.2 a24).bind fun _ =>
      (fX9_category a24 q29.1 q29.2).bind fun q31 =>
      if ¬ q31.1 = (10 : Int32) then
        fX11_name_b71 N this this (1 : Int32) q31.2
      else
        fX11_name_b71 N this this (2 : Int32) q31.2
theorem pX11_name {w : eW} {d : Nat} (hd : 9 ≤ d) {N : Nat} {this : Nat} {h : eH} {q} (hf : fX11_name N this h = some q) : wm w d YX11_name [.ref this] h (e_is (e_rt c_I q)) := by
  obtain ⟨d, rfl⟩ : ∃ e, d = e + 1 := ⟨d - 1, by omega⟩
  show wp w (d + 1) YX11_name 0 [some (.ref this)] [] h _
  unfold fX11_name at hf
  refine w_aload_n dX11_name_0 rfl rfl ?_
  obtain ⟨a1, b2, hf⟩ := Option.bind_eq_some_iff.mp hf
  refine GX11_20 b2 dX11_name_1 rfl ?_
  obtain ⟨_, b3, hf⟩ := Option.bind_eq_some_iff.mp hf
  refine x_cnV hf (e_stV (Yc := YX10_open) (ci := 9) (av := []) (st := []) dX11_name_4 q2445 mX10_open rfl (k_ok_some b3).1 (k_ok_some b3).2) mX10_open.2.2.1 mX10_open.2.2.2.2.1 (Nat.le_of_ble_eq_true rfl) (Nat.le_of_ble_eq_true rfl) (fun q hq => pX10_open (by omega) hq) (fun q4 hf => ?_)
  refine w_aload_n dX11_name_7 rfl rfl ?_
  refine w_iconst dX11_name_8 (v := 1) (by decide) ?_
  obtain ⟨h5, b6, hf⟩ := Option.bind_eq_some_iff.mp hf
  refine SX11_44 b6 dX11_name_9 rfl ?_
  refine w_aload_n dX11_name_12 rfl rfl ?_
  obtain ⟨_, b7, hf⟩ := Option.bind_eq_some_iff.mp hf
  refine x_cnI hf (e_stV (Yc := YX11_isLetter) (ci := 10) (av := []) (st := []) dX11_name_13 q2446 mX11_isLetter rfl (k_ok_some b7).1 (k_ok_some b7).2) mX11_isLetter.2.2.1 mX11_isLetter.2.2.2.2.1 (Nat.le_of_ble_eq_true rfl) (Nat.le_of_ble_eq_true rfl) (fun q hq => pX11_isLetter (by omega) hq) (fun q8 hf => ?_)
  refine w_if_ne 96 dX11_name_16 (by decide) (fun c9 => ?_) (fun c9 => ?_)
  · replace hf := (if_pos (show ¬ q8.1 = 0 from c9)).symm.trans hf
    exact (pX11_name_b96 hd N _ _ _ hf).to ⟨rfl, trivial⟩
  · replace hf := (if_neg (show ¬ (¬ q8.1 = 0) from (fun z => z c9))).symm.trans hf
    refine w_aload_n dX11_name_19 rfl rfl ?_
    obtain ⟨x10, b11, hf⟩ := Option.bind_eq_some_iff.mp hf
    refine GX11_32 b11 dX11_name_20 rfl ?_
    refine w_aload_n dX11_name_23 rfl rfl ?_
    obtain ⟨x12, b13, hf⟩ := Option.bind_eq_some_iff.mp hf
    refine GX11_35 b13 dX11_name_24 rfl ?_
    refine w_icmp_gt 96 dX11_name_27 (by decide) (fun c14 => ?_) (fun c14 => ?_)
    · replace hf := (if_pos (show x12 < x10 from c14)).symm.trans hf
      exact (pX11_name_b96 hd N _ _ _ hf).to ⟨rfl, trivial⟩
    · replace hf := (if_neg (show ¬ (x12 < x10) from c14)).symm.trans hf
      refine w_aload_n dX11_name_30 rfl rfl ?_
      obtain ⟨a15, b16, hf⟩ := Option.bind_eq_some_iff.mp hf
      refine GX11_20 b16 dX11_name_31 rfl ?_
      refine w_aload_n dX11_name_34 rfl rfl ?_
      refine w_aload_n dX11_name_35 rfl rfl ?_
      obtain ⟨x17, b18, hf⟩ := Option.bind_eq_some_iff.mp hf
      refine GX11_32 b18 dX11_name_36 rfl ?_
      obtain ⟨_, b19, hf⟩ := Option.bind_eq_some_iff.mp hf
      refine x_cnI hf (e_stV (Yc := YX11_character) (ci := 10) (av := [.int x17]) (st := [.ref a15]) dX11_name_39 q2433 mX11_character rfl (k_ok_some b19).1 (k_ok_some b19).2) mX11_character.2.2.1 mX11_character.2.2.2.2.1 (Nat.le_of_ble_eq_true rfl) (Nat.le_of_ble_eq_true rfl) (fun q hq => pX11_character (by omega) hq) (fun q20 hf => ?_)
      obtain ⟨_, b21, hf⟩ := Option.bind_eq_some_iff.mp hf
      refine x_ctV hf (e_stV (Yc := YX10_add) (ci := 9) (av := [.int q20.1]) (st := []) dX11_name_42 q2450 mX10_add rfl (k_ok_some b21).1 (k_ok_some b21).2) mX10_add.2.2.1 mX10_add.2.2.2.2.1 (Nat.le_of_ble_eq_true rfl) (Nat.le_of_ble_eq_true rfl) rfl (fun q hq => pX10_add (by omega) hq) (fun x22 h23 hf => ?_)
      refine w_aload_n dX11_name_45 rfl rfl ?_
      refine w_aload_n dX11_name_46 rfl rfl ?_
      obtain ⟨a24, b25, hf⟩ := Option.bind_eq_some_iff.mp hf
      refine GX11_24 b25 dX11_name_47 rfl ?_
      refine w_aload_n dX11_name_50 rfl rfl ?_
      refine w_aload_n dX11_name_51 rfl rfl ?_
      obtain ⟨x26, b27, hf⟩ := Option.bind_eq_some_iff.mp hf
      refine GX11_32 b27 dX11_name_52 rfl ?_
      obtain ⟨_, b28, hf⟩ := Option.bind_eq_some_iff.mp hf
      refine x_cnI hf (e_stV (Yc := YX11_character) (ci := 10) (av := [.int x26]) (st := [.ref a24, .ref this]) dX11_name_55 q2433 mX11_character rfl (k_ok_some b28).1 (k_ok_some b28).2) mX11_character.2.2.1 mX11_character.2.2.2.2.1 (Nat.le_of_ble_eq_true rfl) (Nat.le_of_ble_eq_true rfl) (fun q hq => pX11_character (by omega) hq) (fun q29 hf => ?_)
      obtain ⟨_, b30, hf⟩ := Option.bind_eq_some_iff.mp hf
      refine x_cnI hf (e_stV (Yc := YX9_category) (ci := 8) (av := [.int q29.1]) (st := [.ref this]) dX11_name_58 q2437 mX9_category rfl (k_ok_some b30).1 (k_ok_some b30).2) mX9_category.2.2.1 mX9_category.2.2.2.2.1 (Nat.le_of_ble_eq_true rfl) (Nat.le_of_ble_eq_true rfl) (fun q hq => pX9_category (by omega) hq) (fun q31 hf => ?_)
      refine w_bipush dX11_name_61 (v := 10) (by decide) ?_
      refine w_icmp_ne 70 dX11_name_63 (by decide) (fun c32 => ?_) (fun c32 => ?_)
      · replace hf := (if_pos (show ¬ q31.1 = (10 : Int32) from c32)).symm.trans hf
        refine w_iconst dX11_name_70 (v := 1) (by decide) ?_
        exact (pX11_name_b71 hd hf).to ⟨rfl, trivial⟩
      · replace hf := (if_neg (show ¬ (¬ q31.1 = (10 : Int32)) from (fun z => z c32))).symm.trans hf
        refine w_iconst dX11_name_66 (v := 2) (by decide) ?_
        refine w_goto 71 dX11_name_67 (by decide) ?_
        exact (pX11_name_b71 hd hf).to ⟨rfl, trivial⟩
abbrev cX11_read : ByteArray := prog_29_method_7_code
def yX11_read : MethodName := ⟨RX11, "read", "()I"⟩
def YX11_read : eY := (yX11_read, cX11_read, 3, (Option.some FieldType.int), [])
theorem mX11_read : e_mv YX11_read RX11 0 := ⟨q2426, q2427, q2428, by decide, by decide +kernel, (e_sig (by decide +kernel))⟩
theorem dX11_read_0 : decode cX11_read 0 = .ok (.aload_n 0, 1) := dc_42 (by decide +kernel)
theorem dX11_read_1 : decode cX11_read 1 = .ok (.getfield 32, 3) := dc_180 (a := 0) (b := 32) (n := 32) (by decide +kernel)
theorem dX11_read_4 : decode cX11_read 4 = .ok (.aload_n 0, 1) := dc_42 (by decide +kernel)
theorem dX11_read_5 : decode cX11_read 5 = .ok (.getfield 35, 3) := dc_180 (a := 0) (b := 35) (n := 35) (by decide +kernel)
theorem dX11_read_8 : decode cX11_read 8 = .ok (.if_icmp .le 12, 3) := dc_164 (a := 0) (b := 12) (v := 12) (by decide +kernel)
theorem dX11_read_11 : decode cX11_read 11 = .ok (.aload_n 0, 1) := dc_42 (by decide +kernel)
theorem dX11_read_12 : decode cX11_read 12 = .ok (.invokevirtual 73, 3) := dc_182 (a := 0) (b := 73) (n := 73) (by decide +kernel)
theorem dX11_read_15 : decode cX11_read 15 = .ok (.ifCond .ne 5, 3) := dc_154 (a := 0) (b := 5) (v := 5) (by decide +kernel)
theorem dX11_read_18 : decode cX11_read 18 = .ok (.iconst (-1), 1) := dc_2 (by decide +kernel)
theorem dX11_read_19 : decode cX11_read 19 = .ok (.ireturn, 1) := dc_172 (by decide +kernel)
theorem dX11_read_20 : decode cX11_read 20 = .ok (.aload_n 0, 1) := dc_42 (by decide +kernel)
theorem dX11_read_21 : decode cX11_read 21 = .ok (.aload_n 0, 1) := dc_42 (by decide +kernel)
theorem dX11_read_22 : decode cX11_read 22 = .ok (.dup, 1) := dc_89 (by decide +kernel)
theorem dX11_read_23 : decode cX11_read 23 = .ok (.getfield 32, 3) := dc_180 (a := 0) (b := 32) (n := 32) (by decide +kernel)
theorem dX11_read_26 : decode cX11_read 26 = .ok (.dup_x1, 1) := dc_90 (by decide +kernel)
theorem dX11_read_27 : decode cX11_read 27 = .ok (.iconst 1, 1) := dc_4 (by decide +kernel)
theorem dX11_read_28 : decode cX11_read 28 = .ok (.iadd, 1) := dc_96 (by decide +kernel)
theorem dX11_read_29 : decode cX11_read 29 = .ok (.putfield 32, 3) := dc_181 (a := 0) (b := 32) (n := 32) (by decide +kernel)
theorem dX11_read_32 : decode cX11_read 32 = .ok (.invokevirtual 47, 3) := dc_182 (a := 0) (b := 47) (n := 47) (by decide +kernel)
theorem dX11_read_35 : decode cX11_read 35 = .ok (.istore_n 1, 1) := dc_60 (by decide +kernel)
theorem dX11_read_36 : decode cX11_read 36 = .ok (.aload_n 0, 1) := dc_42 (by decide +kernel)
theorem dX11_read_37 : decode cX11_read 37 = .ok (.getfield 24, 3) := dc_180 (a := 0) (b := 24) (n := 24) (by decide +kernel)
theorem dX11_read_40 : decode cX11_read 40 = .ok (.iload_n 1, 1) := dc_27 (by decide +kernel)
theorem dX11_read_41 : decode cX11_read 41 = .ok (.invokevirtual 51, 3) := dc_182 (a := 0) (b := 51) (n := 51) (by decide +kernel)
theorem dX11_read_44 : decode cX11_read 44 = .ok (.istore_n 2, 1) := dc_61 (by decide +kernel)
theorem dX11_read_45 : decode cX11_read 45 = .ok (.iload_n 2, 1) := dc_28 (by decide +kernel)
theorem dX11_read_46 : decode cX11_read 46 = .ok (.tableswitch 171 0 15 #[78, 171, 171, 171, 171, 83, 171, 171, 171, 116, 119, 171, 171, 160, 136, 149], 78) := by decide +kernel
theorem dX11_read_124 : decode cX11_read 124 = .ok (.aload_n 0, 1) := dc_42 (by decide +kernel)
theorem dX11_read_125 : decode cX11_read 125 = .ok (.invokevirtual 76, 3) := dc_182 (a := 0) (b := 76) (n := 76) (by decide +kernel)
theorem dX11_read_128 : decode cX11_read 128 = .ok (.ireturn, 1) := dc_172 (by decide +kernel)
theorem dX11_read_129 : decode cX11_read 129 = .ok (.aload_n 0, 1) := dc_42 (by decide +kernel)
theorem dX11_read_130 : decode cX11_read 130 = .ok (.aload_n 0, 1) := dc_42 (by decide +kernel)
theorem dX11_read_131 : decode cX11_read 131 = .ok (.getfield 35, 3) := dc_180 (a := 0) (b := 35) (n := 35) (by decide +kernel)
theorem dX11_read_134 : decode cX11_read 134 = .ok (.iconst 1, 1) := dc_4 (by decide +kernel)
theorem dX11_read_135 : decode cX11_read 135 = .ok (.iadd, 1) := dc_96 (by decide +kernel)
theorem dX11_read_136 : decode cX11_read 136 = .ok (.putfield 32, 3) := dc_181 (a := 0) (b := 32) (n := 32) (by decide +kernel)
theorem dX11_read_139 : decode cX11_read 139 = .ok (.aload_n 0, 1) := dc_42 (by decide +kernel)
theorem dX11_read_140 : decode cX11_read 140 = .ok (.getfield 44, 3) := dc_180 (a := 0) (b := 44) (n := 44) (by decide +kernel)
theorem dX11_read_143 : decode cX11_read 143 = .ok (.ifCond .ne 7, 3) := dc_154 (a := 0) (b := 7) (v := 7) (by decide +kernel)
theorem dX11_read_146 : decode cX11_read 146 = .ok (.sipush 4375, 3) := dc_17 (a := 17) (b := 23) (v := 4375) (by decide +kernel)
theorem dX11_read_149 : decode cX11_read 149 = .ok (.ireturn, 1) := dc_172 (by decide +kernel)
theorem dX11_read_150 : decode cX11_read 150 = .ok (.aload_n 0, 1) := dc_42 (by decide +kernel)
theorem dX11_read_151 : decode cX11_read 151 = .ok (.getfield 44, 3) := dc_180 (a := 0) (b := 44) (n := 44) (by decide +kernel)
theorem dX11_read_154 : decode cX11_read 154 = .ok (.iconst 1, 1) := dc_4 (by decide +kernel)
theorem dX11_read_155 : decode cX11_read 155 = .ok (.if_icmp .ne 74, 3) := dc_160 (a := 0) (b := 74) (v := 74) (by decide +kernel)
theorem dX11_read_158 : decode cX11_read 158 = .ok (.sipush 2592, 3) := dc_17 (a := 10) (b := 32) (v := 2592) (by decide +kernel)
theorem dX11_read_161 : decode cX11_read 161 = .ok (.ireturn, 1) := dc_172 (by decide +kernel)
theorem dX11_read_162 : decode cX11_read 162 = .ok (.goto 67, 3) := dc_167 (a := 0) (b := 67) (v := 67) (by decide +kernel)
theorem dX11_read_165 : decode cX11_read 165 = .ok (.aload_n 0, 1) := dc_42 (by decide +kernel)
theorem dX11_read_166 : decode cX11_read 166 = .ok (.getfield 44, 3) := dc_180 (a := 0) (b := 44) (n := 44) (by decide +kernel)
theorem dX11_read_169 : decode cX11_read 169 = .ok (.iconst 1, 1) := dc_4 (by decide +kernel)
theorem dX11_read_170 : decode cX11_read 170 = .ok (.if_icmp .ne 59, 3) := dc_160 (a := 0) (b := 59) (v := 59) (by decide +kernel)
theorem dX11_read_173 : decode cX11_read 173 = .ok (.aload_n 0, 1) := dc_42 (by decide +kernel)
theorem dX11_read_174 : decode cX11_read 174 = .ok (.iconst 2, 1) := dc_5 (by decide +kernel)
theorem dX11_read_175 : decode cX11_read 175 = .ok (.putfield 44, 3) := dc_181 (a := 0) (b := 44) (n := 44) (by decide +kernel)
theorem dX11_read_178 : decode cX11_read 178 = .ok (.sipush 2592, 3) := dc_17 (a := 10) (b := 32) (v := 2592) (by decide +kernel)
theorem dX11_read_181 : decode cX11_read 181 = .ok (.ireturn, 1) := dc_172 (by decide +kernel)
theorem dX11_read_182 : decode cX11_read 182 = .ok (.aload_n 0, 1) := dc_42 (by decide +kernel)
theorem dX11_read_183 : decode cX11_read 183 = .ok (.aload_n 0, 1) := dc_42 (by decide +kernel)
theorem dX11_read_184 : decode cX11_read 184 = .ok (.getfield 35, 3) := dc_180 (a := 0) (b := 35) (n := 35) (by decide +kernel)
theorem dX11_read_187 : decode cX11_read 187 = .ok (.iconst 1, 1) := dc_4 (by decide +kernel)
theorem dX11_read_188 : decode cX11_read 188 = .ok (.iadd, 1) := dc_96 (by decide +kernel)
theorem dX11_read_189 : decode cX11_read 189 = .ok (.putfield 32, 3) := dc_181 (a := 0) (b := 32) (n := 32) (by decide +kernel)
theorem dX11_read_192 : decode cX11_read 192 = .ok (.goto 37, 3) := dc_167 (a := 0) (b := 37) (v := 37) (by decide +kernel)
theorem dX11_read_195 : decode cX11_read 195 = .ok (.aload_n 0, 1) := dc_42 (by decide +kernel)
theorem dX11_read_196 : decode cX11_read 196 = .ok (.getfield 16, 3) := dc_180 (a := 0) (b := 16) (n := 16) (by decide +kernel)
theorem dX11_read_199 : decode cX11_read 199 = .ok (.iconst 1, 1) := dc_4 (by decide +kernel)
theorem dX11_read_200 : decode cX11_read 200 = .ok (.invokevirtual 79, 3) := dc_182 (a := 0) (b := 79) (n := 79) (by decide +kernel)
theorem dX11_read_203 : decode cX11_read 203 = .ok (.goto 26, 3) := dc_167 (a := 0) (b := 26) (v := 26) (by decide +kernel)
theorem dX11_read_206 : decode cX11_read 206 = .ok (.aload_n 0, 1) := dc_42 (by decide +kernel)
theorem dX11_read_207 : decode cX11_read 207 = .ok (.iconst 1, 1) := dc_4 (by decide +kernel)
theorem dX11_read_208 : decode cX11_read 208 = .ok (.putfield 44, 3) := dc_181 (a := 0) (b := 44) (n := 44) (by decide +kernel)
theorem dX11_read_211 : decode cX11_read 211 = .ok (.sipush 4096, 3) := dc_17 (a := 16) (b := 0) (v := 4096) (by decide +kernel)
theorem dX11_read_214 : decode cX11_read 214 = .ok (.iload_n 1, 1) := dc_27 (by decide +kernel)
theorem dX11_read_215 : decode cX11_read 215 = .ok (.iadd, 1) := dc_96 (by decide +kernel)
theorem dX11_read_216 : decode cX11_read 216 = .ok (.ireturn, 1) := dc_172 (by decide +kernel)
theorem dX11_read_217 : decode cX11_read 217 = .ok (.aload_n 0, 1) := dc_42 (by decide +kernel)
theorem dX11_read_218 : decode cX11_read 218 = .ok (.iconst 1, 1) := dc_4 (by decide +kernel)
theorem dX11_read_219 : decode cX11_read 219 = .ok (.putfield 44, 3) := dc_181 (a := 0) (b := 44) (n := 44) (by decide +kernel)
theorem dX11_read_222 : decode cX11_read 222 = .ok (.iload_n 2, 1) := dc_28 (by decide +kernel)
theorem dX11_read_223 : decode cX11_read 223 = .ok (.bipush 8, 2) := dc_16 (a := 8) (v := 8) (by decide +kernel)
theorem dX11_read_225 : decode cX11_read 225 = .ok (.ishl, 1) := dc_120 (by decide +kernel)
theorem dX11_read_226 : decode cX11_read 226 = .ok (.iload_n 1, 1) := dc_27 (by decide +kernel)
theorem dX11_read_227 : decode cX11_read 227 = .ok (.ior, 1) := dc_128 (by decide +kernel)
theorem dX11_read_228 : decode cX11_read 228 = .ok (.ireturn, 1) := dc_172 (by decide +kernel)
theorem dX11_read_229 : decode cX11_read 229 = .ok (.goto (-229), 3) := dc_167 (a := 255) (b := 27) (v := -229) (by decide +kernel)
theorem GX11_16 {w : eW} {d : Nat} {Y : eY} {pc : Nat} {ls : eL} {st : List Value} {h : eH} {Q : eO → eH → Prop} {a : Nat} {x : Nat} (hf : g_A 10 h a 0 = some x) (hd : decode Y.2.1 pc = .ok (.getfield 16, 3)) (hY : Y.1.cls = RX11) (kk : wp w d Y (pc + 3) ls (.ref x :: st) h Q) : wp w d Y pc ls (.ref a :: st) h Q := x_gA (ci := 10) (k := 0) hf hd rfl (by decide) (by rw [hY]; exact q737) kk
theorem GX11_44 {w : eW} {d : Nat} {Y : eY} {pc : Nat} {ls : eL} {st : List Value} {h : eH} {Q : eO → eH → Prop} {a : Nat} {x : Int32} (hf : g_I 10 h a 8 = some x) (hd : decode Y.2.1 pc = .ok (.getfield 44, 3)) (hY : Y.1.cls = RX11) (kk : wp w d Y (pc + 3) ls (.int x :: st) h Q) : wp w d Y pc ls (.ref a :: st) h Q := x_gI (ci := 10) (k := 8) hf hd rfl (by decide) (by rw [hY]; exact q747) kk
def fX11_read_b229 (N : Nat) (k0 : Nat → eH → Option ((Int32 ⊕ Nat) × eH)) (l0 : Nat) (h : eH) : Option ((Int32 ⊕ Nat) × eH) :=
  k0 l0 h
theorem pX11_read_b229 {w : eW} {d : Nat} (hd : 10 ≤ d + 1) {N : Nat} {k0 : Nat → eH → Option ((Int32 ⊕ Nat) × eH)} (hk0 : ∀ l0 h q, k0 l0 h = some q → wp w (d + 1) YX11_read 0 [some (.ref l0), none, none] [] h (e_is (e_rt c_I q))) {l0 : Nat} {h : eH} {q} (hf : fX11_read_b229 N k0 l0 h = some q) : wp w (d + 1) YX11_read 229 [some (.ref l0), none, none] [] h (e_is (e_rt c_I q)) := by
  unfold fX11_read_b229 at hf
  refine w_goto 0 dX11_read_229 (by decide) ?_
  exact (hk0 _ _ _ hf).to ⟨rfl, trivial⟩
def fX11_read_b20 (N : Nat) (k0 : Nat → eH → Option ((Int32 ⊕ Nat) × eH)) (l0 : Nat) (h : eH) : Option ((Int32 ⊕ Nat) × eH) :=
  (g_I 10 h l0 6).bind fun x1 =>
  (p_V 10 h l0 6 (.int (x1 + (1 : Int32)))).bind fun h3 =>
  (k_ok 10 h3 l0).bind fun _ =>
  (fX11_character l0 x1 h3).bind fun q6 =>
  (g_A 10 q6.2 l0 2).bind fun a7 =>
  (k_ok 8 q6.2 a7).bind fun _ =>
  (fX9_category a7 q6.1 q6.2).bind fun q10 =>
  if q10.1 = (0 : Int32) then
    (k_ok 10 q10.2 l0).bind fun _ =>
    t_B (fX11_name N l0 q10.2) fun x13 h14 =>
    some (.inl x13, h14)
  else
  if q10.1 = (1 : Int32) then
    (p_V 10 q10.2 l0 8 (.int (1 : Int32))).bind fun h16 =>
    some (.inl ((q10.1 <<< ((8 : Int32) &&& 31)) ||| q6.1), h16)
  else
  if q10.1 = (2 : Int32) then
    (p_V 10 q10.2 l0 8 (.int (1 : Int32))).bind fun h19 =>
    some (.inl ((q10.1 <<< ((8 : Int32) &&& 31)) ||| q6.1), h19)
  else
  if q10.1 = (3 : Int32) then
    (p_V 10 q10.2 l0 8 (.int (1 : Int32))).bind fun h22 =>
    some (.inl ((q10.1 <<< ((8 : Int32) &&& 31)) ||| q6.1), h22)
  else
  if q10.1 = (4 : Int32) then
    (p_V 10 q10.2 l0 8 (.int (1 : Int32))).bind fun h25 =>
    some (.inl ((q10.1 <<< ((8 : Int32) &&& 31)) ||| q6.1), h25)
  else
  if q10.1 = (5 : Int32) then
    (g_I 10 q10.2 l0 7).bind fun x28 =>
    (p_V 10 q10.2 l0 6 (.int (x28 + (1 : Int32)))).bind fun h30 =>
    (g_I 10 h30 l0 8).bind fun x32 =>
    if ¬ x32 = 0 then
      (g_I 10 h30 l0 8).bind fun x35 =>
      if ¬ x35 = (1 : Int32) then
        fX11_read_b229 N k0 l0 h30
      else
        some (.inl (2592 : Int32), h30)
    else
      some (.inl (4375 : Int32), h30)
  else
  if q10.1 = (6 : Int32) then
    (p_V 10 q10.2 l0 8 (.int (1 : Int32))).bind fun h39 =>
    some (.inl ((q10.1 <<< ((8 : Int32) &&& 31)) ||| q6.1), h39)
  else
  if q10.1 = (7 : Int32) then
    (p_V 10 q10.2 l0 8 (.int (1 : Int32))).bind fun h42 =>
    some (.inl ((q10.1 <<< ((8 : Int32) &&& 31)) ||| q6.1), h42)
  else
  if q10.1 = (8 : Int32) then
    (p_V 10 q10.2 l0 8 (.int (1 : Int32))).bind fun h45 =>
    some (.inl ((q10.1 <<< ((8 : Int32) &&& 31)) ||| q6.1), h45)
  else
  if q10.1 = (9 : Int32) then
    fX11_read_b229 N k0 l0 q10.2
  else
  if q10.1 = (10 : Int32) then
    (g_I 10 q10.2 l0 8).bind fun x49 =>
    if ¬ x49 = (1 : Int32) then
      fX11_read_b229 N k0 l0 q10.2
    else
      (p_V 10 q10.2 l0 8 (.int (2 : Int32))).bind fun h52 =>
      some (.inl (2592 : Int32), h52)
  else
  if q10.1 = (11 : Int32) then
    (p_V 10 q10.2 l0 8 (.int (1 : Int32))).bind fun h55 =>
    some (.inl ((q10.1 <<< ((8 : Int32) &&& 31)) ||| q6.1), h55)
  else
  if q10.1 = (12 : Int32) then
    (p_V 10 q10.2 l0 8 (.int (1 : Int32))).bind fun h58 =>
    some (.inl ((q10.1 <<< ((8 : Int32) &&& 31)) ||| q6.1), h58)
  else
  if q10.1 = (13 : Int32) then
    (p_V 10 q10.2 l0 8 (.int (1 : Int32))).bind fun h61 =>
    some (.inl ((4096 : Int32) + q6.1), h61)
  else
  if q10.1 = (14 : Int32) then
    (g_I 10 q10.2 l0 7).bind fun x64 =>
    (p_V 10 q10.2 l0 6 (.int (x64 + (1 : Int32)))).bind fun h66 =>
    fX11_read_b229 N k0 l0 h66
  else
  if q10.1 = (15 : Int32) then
    (g_A 10 q10.2 l0 0).bind fun a69 =>
    (k_ok 3 q10.2 a69).bind fun _ =>
    t_B (fX4_fail a69 (1 : Int32) q10.2) fun x72 h73 =>
    fX11_read_b229 N k0 l0 h73
  else
  (p_V 10 q10.2 l0 8 (.int (1 : Int32))).bind fun h74 =>
  some (.inl ((q10.1 <<< ((8 : Int32) &&& 31)) ||| q6.1), h74)
theorem pX11_read_b20 {w : eW} {d : Nat} (hd : 10 ≤ d + 1) {N : Nat} {k0 : Nat → eH → Option ((Int32 ⊕ Nat) × eH)} (hk0 : ∀ l0 h q, k0 l0 h = some q → wp w (d + 1) YX11_read 0 [some (.ref l0), none, none] [] h (e_is (e_rt c_I q))) {l0 : Nat} {h : eH} {q} (hf : fX11_read_b20 N k0 l0 h = some q) : wp w (d + 1) YX11_read 20 [some (.ref l0), none, none] [] h (e_is (e_rt c_I q)) := by
  unfold fX11_read_b20 at hf
  refine w_aload_n dX11_read_20 rfl rfl ?_
  refine w_aload_n dX11_read_21 rfl rfl ?_
  refine w_dup dX11_read_22 rfl ?_
  obtain ⟨x1, b2, hf⟩ := Option.bind_eq_some_iff.mp hf
  refine GX11_32 b2 dX11_read_23 rfl ?_
  refine w_dup_x1 dX11_read_26 rfl rfl ?_
  refine w_iconst dX11_read_27 (v := 1) (by decide) ?_
  refine w_iadd dX11_read_28 ?_
  obtain ⟨h3, b4, hf⟩ := Option.bind_eq_some_iff.mp hf
  refine SX11_32 b4 dX11_read_29 rfl ?_
  obtain ⟨_, b5, hf⟩ := Option.bind_eq_some_iff.mp hf
  refine x_cnI hf (e_stV (Yc := YX11_character) (ci := 10) (av := [.int x1]) (st := []) dX11_read_32 q2433 mX11_character rfl (k_ok_some b5).1 (k_ok_some b5).2) mX11_character.2.2.1 mX11_character.2.2.2.2.1 (Nat.le_of_ble_eq_true rfl) (Nat.le_of_ble_eq_true rfl) (fun q hq => pX11_character (by omega) hq) (fun q6 hf => ?_)
  refine w_istore_n dX11_read_35 rfl (by decide) (ls' := [some (.ref l0), some (.int q6.1), none]) rfl ?_
  refine w_aload_n dX11_read_36 rfl rfl ?_
  obtain ⟨a7, b8, hf⟩ := Option.bind_eq_some_iff.mp hf
  refine GX11_24 b8 dX11_read_37 rfl ?_
  refine w_iload_n dX11_read_40 rfl rfl ?_
  obtain ⟨_, b9, hf⟩ := Option.bind_eq_some_iff.mp hf
  refine x_cnI hf (e_stV (Yc := YX9_category) (ci := 8) (av := [.int q6.1]) (st := []) dX11_read_41 q2437 mX9_category rfl (k_ok_some b9).1 (k_ok_some b9).2) mX9_category.2.2.1 mX9_category.2.2.2.2.1 (Nat.le_of_ble_eq_true rfl) (Nat.le_of_ble_eq_true rfl) (fun q hq => pX9_category (by omega) hq) (fun q10 hf => ?_)
  refine w_istore_n dX11_read_44 rfl (by decide) (ls' := [some (.ref l0), some (.int q6.1), some (.int q10.1)]) rfl ?_
  refine w_iload_n dX11_read_45 rfl rfl ?_
  by_cases c11 : q10.1 = (0 : Int32)
  · replace hf := (if_pos c11).symm.trans hf
    refine w_tableIn 124 dX11_read_46 (by rw [c11]; decide) (by rw [c11]; decide) (by rw [c11]; rfl) (by decide) ?_
    refine w_aload_n dX11_read_124 rfl rfl ?_
    obtain ⟨_, b12, hf⟩ := Option.bind_eq_some_iff.mp hf
    refine x_ctI hf (e_stV (Yc := YX11_name) (ci := 10) (av := []) (st := []) dX11_read_125 q2441 mX11_name rfl (k_ok_some b12).1 (k_ok_some b12).2) mX11_name.2.2.1 mX11_name.2.2.2.2.1 (Nat.le_of_ble_eq_true rfl) (Nat.le_of_ble_eq_true rfl) rfl (fun q hq => pX11_name (by omega) hq) (fun x13 h14 hf => ?_)
    cases hf
    exact w_iret dX11_read_128 rfl rfl rfl
  replace hf := (if_neg c11).symm.trans hf
  by_cases c15 : q10.1 = (1 : Int32)
  · replace hf := (if_pos c15).symm.trans hf
    refine w_tableIn 217 dX11_read_46 (by rw [c15]; decide) (by rw [c15]; decide) (by rw [c15]; rfl) (by decide) ?_
    refine w_aload_n dX11_read_217 rfl rfl ?_
    refine w_iconst dX11_read_218 (v := 1) (by decide) ?_
    obtain ⟨h16, b17, hf⟩ := Option.bind_eq_some_iff.mp hf
    refine SX11_44 b17 dX11_read_219 rfl ?_
    refine w_iload_n dX11_read_222 rfl rfl ?_
    refine w_bipush dX11_read_223 (v := 8) (by decide) ?_
    refine w_ishl dX11_read_225 ?_
    refine w_iload_n dX11_read_226 rfl rfl ?_
    refine w_ior dX11_read_227 ?_
    cases hf
    exact w_iret dX11_read_228 rfl rfl rfl
  replace hf := (if_neg c15).symm.trans hf
  by_cases c18 : q10.1 = (2 : Int32)
  · replace hf := (if_pos c18).symm.trans hf
    refine w_tableIn 217 dX11_read_46 (by rw [c18]; decide) (by rw [c18]; decide) (by rw [c18]; rfl) (by decide) ?_
    refine w_aload_n dX11_read_217 rfl rfl ?_
    refine w_iconst dX11_read_218 (v := 1) (by decide) ?_
    obtain ⟨h19, b20, hf⟩ := Option.bind_eq_some_iff.mp hf
    refine SX11_44 b20 dX11_read_219 rfl ?_
    refine w_iload_n dX11_read_222 rfl rfl ?_
    refine w_bipush dX11_read_223 (v := 8) (by decide) ?_
    refine w_ishl dX11_read_225 ?_
    refine w_iload_n dX11_read_226 rfl rfl ?_
    refine w_ior dX11_read_227 ?_
    cases hf
    exact w_iret dX11_read_228 rfl rfl rfl
  replace hf := (if_neg c18).symm.trans hf
  by_cases c21 : q10.1 = (3 : Int32)
  · replace hf := (if_pos c21).symm.trans hf
    refine w_tableIn 217 dX11_read_46 (by rw [c21]; decide) (by rw [c21]; decide) (by rw [c21]; rfl) (by decide) ?_
    refine w_aload_n dX11_read_217 rfl rfl ?_
    refine w_iconst dX11_read_218 (v := 1) (by decide) ?_
    obtain ⟨h22, b23, hf⟩ := Option.bind_eq_some_iff.mp hf
    refine SX11_44 b23 dX11_read_219 rfl ?_
    refine w_iload_n dX11_read_222 rfl rfl ?_
    refine w_bipush dX11_read_223 (v := 8) (by decide) ?_
    refine w_ishl dX11_read_225 ?_
    refine w_iload_n dX11_read_226 rfl rfl ?_
    refine w_ior dX11_read_227 ?_
    cases hf
    exact w_iret dX11_read_228 rfl rfl rfl
  replace hf := (if_neg c21).symm.trans hf
  by_cases c24 : q10.1 = (4 : Int32)
  · replace hf := (if_pos c24).symm.trans hf
    refine w_tableIn 217 dX11_read_46 (by rw [c24]; decide) (by rw [c24]; decide) (by rw [c24]; rfl) (by decide) ?_
    refine w_aload_n dX11_read_217 rfl rfl ?_
    refine w_iconst dX11_read_218 (v := 1) (by decide) ?_
    obtain ⟨h25, b26, hf⟩ := Option.bind_eq_some_iff.mp hf
    refine SX11_44 b26 dX11_read_219 rfl ?_
    refine w_iload_n dX11_read_222 rfl rfl ?_
    refine w_bipush dX11_read_223 (v := 8) (by decide) ?_
    refine w_ishl dX11_read_225 ?_
    refine w_iload_n dX11_read_226 rfl rfl ?_
    refine w_ior dX11_read_227 ?_
    cases hf
    exact w_iret dX11_read_228 rfl rfl rfl
  replace hf := (if_neg c24).symm.trans hf
  by_cases c27 : q10.1 = (5 : Int32)
  · replace hf := (if_pos c27).symm.trans hf
    refine w_tableIn 129 dX11_read_46 (by rw [c27]; decide) (by rw [c27]; decide) (by rw [c27]; rfl) (by decide) ?_
    refine w_aload_n dX11_read_129 rfl rfl ?_
    refine w_aload_n dX11_read_130 rfl rfl ?_
    obtain ⟨x28, b29, hf⟩ := Option.bind_eq_some_iff.mp hf
    refine GX11_35 b29 dX11_read_131 rfl ?_
    refine w_iconst dX11_read_134 (v := 1) (by decide) ?_
    refine w_iadd dX11_read_135 ?_
    obtain ⟨h30, b31, hf⟩ := Option.bind_eq_some_iff.mp hf
    refine SX11_32 b31 dX11_read_136 rfl ?_
    refine w_aload_n dX11_read_139 rfl rfl ?_
    obtain ⟨x32, b33, hf⟩ := Option.bind_eq_some_iff.mp hf
    refine GX11_44 b33 dX11_read_140 rfl ?_
    refine w_if_ne 150 dX11_read_143 (by decide) (fun c34 => ?_) (fun c34 => ?_)
    · replace hf := (if_pos (show ¬ x32 = 0 from c34)).symm.trans hf
      refine w_aload_n dX11_read_150 rfl rfl ?_
      obtain ⟨x35, b36, hf⟩ := Option.bind_eq_some_iff.mp hf
      refine GX11_44 b36 dX11_read_151 rfl ?_
      refine w_iconst dX11_read_154 (v := 1) (by decide) ?_
      refine w_icmp_ne 229 dX11_read_155 (by decide) (fun c37 => ?_) (fun c37 => ?_)
      · replace hf := (if_pos (show ¬ x35 = (1 : Int32) from c37)).symm.trans hf
        exact (pX11_read_b229 hd hk0 hf).to ⟨rfl, trivial⟩
      · replace hf := (if_neg (show ¬ (¬ x35 = (1 : Int32)) from (fun z => z c37))).symm.trans hf
        refine w_sipush dX11_read_158 (v := 2592) (by decide) ?_
        cases hf
        exact w_iret dX11_read_161 rfl rfl rfl
    · replace hf := (if_neg (show ¬ (¬ x32 = 0) from (fun z => z c34))).symm.trans hf
      refine w_sipush dX11_read_146 (v := 4375) (by decide) ?_
      cases hf
      exact w_iret dX11_read_149 rfl rfl rfl
  replace hf := (if_neg c27).symm.trans hf
  by_cases c38 : q10.1 = (6 : Int32)
  · replace hf := (if_pos c38).symm.trans hf
    refine w_tableIn 217 dX11_read_46 (by rw [c38]; decide) (by rw [c38]; decide) (by rw [c38]; rfl) (by decide) ?_
    refine w_aload_n dX11_read_217 rfl rfl ?_
    refine w_iconst dX11_read_218 (v := 1) (by decide) ?_
    obtain ⟨h39, b40, hf⟩ := Option.bind_eq_some_iff.mp hf
    refine SX11_44 b40 dX11_read_219 rfl ?_
    refine w_iload_n dX11_read_222 rfl rfl ?_
    refine w_bipush dX11_read_223 (v := 8) (by decide) ?_
    refine w_ishl dX11_read_225 ?_
    refine w_iload_n dX11_read_226 rfl rfl ?_
    refine w_ior dX11_read_227 ?_
    cases hf
    exact w_iret dX11_read_228 rfl rfl rfl
  replace hf := (if_neg c38).symm.trans hf
  by_cases c41 : q10.1 = (7 : Int32)
  · replace hf := (if_pos c41).symm.trans hf
    refine w_tableIn 217 dX11_read_46 (by rw [c41]; decide) (by rw [c41]; decide) (by rw [c41]; rfl) (by decide) ?_
    refine w_aload_n dX11_read_217 rfl rfl ?_
    refine w_iconst dX11_read_218 (v := 1) (by decide) ?_
    obtain ⟨h42, b43, hf⟩ := Option.bind_eq_some_iff.mp hf
    refine SX11_44 b43 dX11_read_219 rfl ?_
    refine w_iload_n dX11_read_222 rfl rfl ?_
    refine w_bipush dX11_read_223 (v := 8) (by decide) ?_
    refine w_ishl dX11_read_225 ?_
    refine w_iload_n dX11_read_226 rfl rfl ?_
    refine w_ior dX11_read_227 ?_
    cases hf
    exact w_iret dX11_read_228 rfl rfl rfl
  replace hf := (if_neg c41).symm.trans hf
  by_cases c44 : q10.1 = (8 : Int32)
  · replace hf := (if_pos c44).symm.trans hf
    refine w_tableIn 217 dX11_read_46 (by rw [c44]; decide) (by rw [c44]; decide) (by rw [c44]; rfl) (by decide) ?_
    refine w_aload_n dX11_read_217 rfl rfl ?_
    refine w_iconst dX11_read_218 (v := 1) (by decide) ?_
    obtain ⟨h45, b46, hf⟩ := Option.bind_eq_some_iff.mp hf
    refine SX11_44 b46 dX11_read_219 rfl ?_
    refine w_iload_n dX11_read_222 rfl rfl ?_
    refine w_bipush dX11_read_223 (v := 8) (by decide) ?_
    refine w_ishl dX11_read_225 ?_
    refine w_iload_n dX11_read_226 rfl rfl ?_
    refine w_ior dX11_read_227 ?_
    cases hf
    exact w_iret dX11_read_228 rfl rfl rfl
  replace hf := (if_neg c44).symm.trans hf
  by_cases c47 : q10.1 = (9 : Int32)
  · replace hf := (if_pos c47).symm.trans hf
    refine w_tableIn 162 dX11_read_46 (by rw [c47]; decide) (by rw [c47]; decide) (by rw [c47]; rfl) (by decide) ?_
    refine w_goto 229 dX11_read_162 (by decide) ?_
    exact (pX11_read_b229 hd hk0 hf).to ⟨rfl, trivial⟩
  replace hf := (if_neg c47).symm.trans hf
  by_cases c48 : q10.1 = (10 : Int32)
  · replace hf := (if_pos c48).symm.trans hf
    refine w_tableIn 165 dX11_read_46 (by rw [c48]; decide) (by rw [c48]; decide) (by rw [c48]; rfl) (by decide) ?_
    refine w_aload_n dX11_read_165 rfl rfl ?_
    obtain ⟨x49, b50, hf⟩ := Option.bind_eq_some_iff.mp hf
    refine GX11_44 b50 dX11_read_166 rfl ?_
    refine w_iconst dX11_read_169 (v := 1) (by decide) ?_
    refine w_icmp_ne 229 dX11_read_170 (by decide) (fun c51 => ?_) (fun c51 => ?_)
    · replace hf := (if_pos (show ¬ x49 = (1 : Int32) from c51)).symm.trans hf
      exact (pX11_read_b229 hd hk0 hf).to ⟨rfl, trivial⟩
    · replace hf := (if_neg (show ¬ (¬ x49 = (1 : Int32)) from (fun z => z c51))).symm.trans hf
      refine w_aload_n dX11_read_173 rfl rfl ?_
      refine w_iconst dX11_read_174 (v := 2) (by decide) ?_
      obtain ⟨h52, b53, hf⟩ := Option.bind_eq_some_iff.mp hf
      refine SX11_44 b53 dX11_read_175 rfl ?_
      refine w_sipush dX11_read_178 (v := 2592) (by decide) ?_
      cases hf
      exact w_iret dX11_read_181 rfl rfl rfl
  replace hf := (if_neg c48).symm.trans hf
  by_cases c54 : q10.1 = (11 : Int32)
  · replace hf := (if_pos c54).symm.trans hf
    refine w_tableIn 217 dX11_read_46 (by rw [c54]; decide) (by rw [c54]; decide) (by rw [c54]; rfl) (by decide) ?_
    refine w_aload_n dX11_read_217 rfl rfl ?_
    refine w_iconst dX11_read_218 (v := 1) (by decide) ?_
    obtain ⟨h55, b56, hf⟩ := Option.bind_eq_some_iff.mp hf
    refine SX11_44 b56 dX11_read_219 rfl ?_
    refine w_iload_n dX11_read_222 rfl rfl ?_
    refine w_bipush dX11_read_223 (v := 8) (by decide) ?_
    refine w_ishl dX11_read_225 ?_
    refine w_iload_n dX11_read_226 rfl rfl ?_
    refine w_ior dX11_read_227 ?_
    cases hf
    exact w_iret dX11_read_228 rfl rfl rfl
  replace hf := (if_neg c54).symm.trans hf
  by_cases c57 : q10.1 = (12 : Int32)
  · replace hf := (if_pos c57).symm.trans hf
    refine w_tableIn 217 dX11_read_46 (by rw [c57]; decide) (by rw [c57]; decide) (by rw [c57]; rfl) (by decide) ?_
    refine w_aload_n dX11_read_217 rfl rfl ?_
    refine w_iconst dX11_read_218 (v := 1) (by decide) ?_
    obtain ⟨h58, b59, hf⟩ := Option.bind_eq_some_iff.mp hf
    refine SX11_44 b59 dX11_read_219 rfl ?_
    refine w_iload_n dX11_read_222 rfl rfl ?_
    refine w_bipush dX11_read_223 (v := 8) (by decide) ?_
    refine w_ishl dX11_read_225 ?_
    refine w_iload_n dX11_read_226 rfl rfl ?_
    refine w_ior dX11_read_227 ?_
    cases hf
    exact w_iret dX11_read_228 rfl rfl rfl
  replace hf := (if_neg c57).symm.trans hf
  by_cases c60 : q10.1 = (13 : Int32)
  · replace hf := (if_pos c60).symm.trans hf
    refine w_tableIn 206 dX11_read_46 (by rw [c60]; decide) (by rw [c60]; decide) (by rw [c60]; rfl) (by decide) ?_
    refine w_aload_n dX11_read_206 rfl rfl ?_
    refine w_iconst dX11_read_207 (v := 1) (by decide) ?_
    obtain ⟨h61, b62, hf⟩ := Option.bind_eq_some_iff.mp hf
    refine SX11_44 b62 dX11_read_208 rfl ?_
    refine w_sipush dX11_read_211 (v := 4096) (by decide) ?_
    refine w_iload_n dX11_read_214 rfl rfl ?_
    refine w_iadd dX11_read_215 ?_
    cases hf
    exact w_iret dX11_read_216 rfl rfl rfl
  replace hf := (if_neg c60).symm.trans hf
  by_cases c63 : q10.1 = (14 : Int32)
  · replace hf := (if_pos c63).symm.trans hf
    refine w_tableIn 182 dX11_read_46 (by rw [c63]; decide) (by rw [c63]; decide) (by rw [c63]; rfl) (by decide) ?_
    refine w_aload_n dX11_read_182 rfl rfl ?_
    refine w_aload_n dX11_read_183 rfl rfl ?_
    obtain ⟨x64, b65, hf⟩ := Option.bind_eq_some_iff.mp hf
    refine GX11_35 b65 dX11_read_184 rfl ?_
    refine w_iconst dX11_read_187 (v := 1) (by decide) ?_
    refine w_iadd dX11_read_188 ?_
    obtain ⟨h66, b67, hf⟩ := Option.bind_eq_some_iff.mp hf
    refine SX11_32 b67 dX11_read_189 rfl ?_
    refine w_goto 229 dX11_read_192 (by decide) ?_
    exact (pX11_read_b229 hd hk0 hf).to ⟨rfl, trivial⟩
  replace hf := (if_neg c63).symm.trans hf
  by_cases c68 : q10.1 = (15 : Int32)
  · replace hf := (if_pos c68).symm.trans hf
    refine w_tableIn 195 dX11_read_46 (by rw [c68]; decide) (by rw [c68]; decide) (by rw [c68]; rfl) (by decide) ?_
    refine w_aload_n dX11_read_195 rfl rfl ?_
    obtain ⟨a69, b70, hf⟩ := Option.bind_eq_some_iff.mp hf
    refine GX11_16 b70 dX11_read_196 rfl ?_
    refine w_iconst dX11_read_199 (v := 1) (by decide) ?_
    obtain ⟨_, b71, hf⟩ := Option.bind_eq_some_iff.mp hf
    refine x_ctV hf (e_stV (Yc := YX4_fail) (ci := 3) (av := [.int (1 : Int32)]) (st := []) dX11_read_200 q2468 mX4_fail rfl (k_ok_some b71).1 (k_ok_some b71).2) mX4_fail.2.2.1 mX4_fail.2.2.2.2.1 (Nat.le_of_ble_eq_true rfl) (Nat.le_of_ble_eq_true rfl) rfl (fun q hq => pX4_fail (by omega) hq) (fun x72 h73 hf => ?_)
    refine w_goto 229 dX11_read_203 (by decide) ?_
    exact (pX11_read_b229 hd hk0 hf).to ⟨rfl, trivial⟩
  replace hf := (if_neg c68).symm.trans hf
  refine w_tableOut 217 dX11_read_46 (by have n0 := sw_ne c11 (by decide : (0 : Int32).toInt = 0); have n1 := sw_ne c15 (by decide : (1 : Int32).toInt = 1); have n2 := sw_ne c18 (by decide : (2 : Int32).toInt = 2); have n3 := sw_ne c21 (by decide : (3 : Int32).toInt = 3); have n4 := sw_ne c24 (by decide : (4 : Int32).toInt = 4); have n5 := sw_ne c27 (by decide : (5 : Int32).toInt = 5); have n6 := sw_ne c38 (by decide : (6 : Int32).toInt = 6); have n7 := sw_ne c41 (by decide : (7 : Int32).toInt = 7); have n8 := sw_ne c44 (by decide : (8 : Int32).toInt = 8); have n9 := sw_ne c47 (by decide : (9 : Int32).toInt = 9); have n10 := sw_ne c48 (by decide : (10 : Int32).toInt = 10); have n11 := sw_ne c54 (by decide : (11 : Int32).toInt = 11); have n12 := sw_ne c57 (by decide : (12 : Int32).toInt = 12); have n13 := sw_ne c60 (by decide : (13 : Int32).toInt = 13); have n14 := sw_ne c63 (by decide : (14 : Int32).toInt = 14); have n15 := sw_ne c68 (by decide : (15 : Int32).toInt = 15); omega) (by decide) ?_
  refine w_aload_n dX11_read_217 rfl rfl ?_
  refine w_iconst dX11_read_218 (v := 1) (by decide) ?_
  obtain ⟨h74, b75, hf⟩ := Option.bind_eq_some_iff.mp hf
  refine SX11_44 b75 dX11_read_219 rfl ?_
  refine w_iload_n dX11_read_222 rfl rfl ?_
  refine w_bipush dX11_read_223 (v := 8) (by decide) ?_
  refine w_ishl dX11_read_225 ?_
  refine w_iload_n dX11_read_226 rfl rfl ?_
  refine w_ior dX11_read_227 ?_
  cases hf
  exact w_iret dX11_read_228 rfl rfl rfl
def fX11_read_b0 (N : Nat) : Nat → Nat → eH → Option ((Int32 ⊕ Nat) × eH)
  | 0, _, _ => none
  | n + 1, l0, h =>
    (g_I 10 h l0 6).bind fun x1 =>
    (g_I 10 h l0 7).bind fun x3 =>
    if x1 ≤ x3 then
      fX11_read_b20 N (fX11_read_b0 N n) l0 h
    else
      (k_ok 10 h l0).bind fun _ =>
      (fX11_nextLine N l0 h).bind fun q7 =>
      if ¬ q7.1 = 0 then
        fX11_read_b20 N (fX11_read_b0 N n) l0 q7.2
      else
        some (.inl (-1 : Int32), q7.2)
theorem pX11_read_b0 {w : eW} {d : Nat} (hd : 10 ≤ d + 1) {N : Nat} : ∀ (n : Nat) l0 h q, fX11_read_b0 N n l0 h = some q → wp w (d + 1) YX11_read 0 [some (.ref l0), none, none] [] h (e_is (e_rt c_I q)) := by
  intro n
  induction n with
  | zero => intro l0 h q hf; simp [fX11_read_b0] at hf
  | succ n ih =>
    intro l0 h q hf
    rw [fX11_read_b0] at hf
    refine w_aload_n dX11_read_0 rfl rfl ?_
    obtain ⟨x1, b2, hf⟩ := Option.bind_eq_some_iff.mp hf
    refine GX11_32 b2 dX11_read_1 rfl ?_
    refine w_aload_n dX11_read_4 rfl rfl ?_
    obtain ⟨x3, b4, hf⟩ := Option.bind_eq_some_iff.mp hf
    refine GX11_35 b4 dX11_read_5 rfl ?_
    refine w_icmp_le 20 dX11_read_8 (by decide) (fun c5 => ?_) (fun c5 => ?_)
    · replace hf := (if_pos (show x1 ≤ x3 from c5)).symm.trans hf
      exact (pX11_read_b20 hd ih hf).to ⟨rfl, trivial⟩
    · replace hf := (if_neg (show ¬ (x1 ≤ x3) from c5)).symm.trans hf
      refine w_aload_n dX11_read_11 rfl rfl ?_
      obtain ⟨_, b6, hf⟩ := Option.bind_eq_some_iff.mp hf
      refine x_cnI hf (e_stV (Yc := YX11_nextLine) (ci := 10) (av := []) (st := []) dX11_read_12 q2429 mX11_nextLine rfl (k_ok_some b6).1 (k_ok_some b6).2) mX11_nextLine.2.2.1 mX11_nextLine.2.2.2.2.1 (Nat.le_of_ble_eq_true rfl) (Nat.le_of_ble_eq_true rfl) (fun q hq => pX11_nextLine (by omega) hq) (fun q7 hf => ?_)
      refine w_if_ne 20 dX11_read_15 (by decide) (fun c8 => ?_) (fun c8 => ?_)
      · replace hf := (if_pos (show ¬ q7.1 = 0 from c8)).symm.trans hf
        exact (pX11_read_b20 hd ih hf).to ⟨rfl, trivial⟩
      · replace hf := (if_neg (show ¬ (¬ q7.1 = 0) from (fun z => z c8))).symm.trans hf
        refine w_iconst dX11_read_18 (v := -1) (by decide) ?_
        cases hf
        exact w_iret dX11_read_19 rfl rfl rfl
def fX11_read (N : Nat) (this : Nat) (h : eH) : Option ((Int32 ⊕ Nat) × eH) :=
  fX11_read_b0 N N this h
theorem pX11_read {w : eW} {d : Nat} (hd : 10 ≤ d) {N : Nat} {this : Nat} {h : eH} {q} (hf : fX11_read N this h = some q) : wm w d YX11_read [.ref this] h (e_is (e_rt c_I q)) := by
  obtain ⟨d, rfl⟩ : ∃ e, d = e + 1 := ⟨d - 1, by omega⟩
  show wp w (d + 1) YX11_read 0 [some (.ref this), none, none] [] h _
  unfold fX11_read at hf
  exact (pX11_read_b0 hd N _ _ _ hf).to ⟨rfl, trivial⟩
abbrev cX13_get : ByteArray := prog_31_method_7_code
def yX13_get : MethodName := ⟨RX13, "get", "()I"⟩
def YX13_get : eY := (yX13_get, cX13_get, 1, (Option.some FieldType.int), [])
theorem mX13_get : e_mv YX13_get RX13 0 := ⟨q2422, q2423, q2424, by decide, by decide +kernel, (e_sig (by decide +kernel))⟩
theorem dX13_get_0 : decode cX13_get 0 = .ok (.aload_n 0, 1) := dc_42 (by decide +kernel)
theorem dX13_get_1 : decode cX13_get 1 = .ok (.getfield 23, 3) := dc_180 (a := 0) (b := 23) (n := 23) (by decide +kernel)
theorem dX13_get_4 : decode cX13_get 4 = .ok (.ifCond .le 22, 3) := dc_158 (a := 0) (b := 22) (v := 22) (by decide +kernel)
theorem dX13_get_7 : decode cX13_get 7 = .ok (.aload_n 0, 1) := dc_42 (by decide +kernel)
theorem dX13_get_8 : decode cX13_get 8 = .ok (.getfield 9, 3) := dc_180 (a := 0) (b := 9) (n := 9) (by decide +kernel)
theorem dX13_get_11 : decode cX13_get 11 = .ok (.aload_n 0, 1) := dc_42 (by decide +kernel)
theorem dX13_get_12 : decode cX13_get 12 = .ok (.dup, 1) := dc_89 (by decide +kernel)
theorem dX13_get_13 : decode cX13_get 13 = .ok (.getfield 23, 3) := dc_180 (a := 0) (b := 23) (n := 23) (by decide +kernel)
theorem dX13_get_16 : decode cX13_get 16 = .ok (.iconst 1, 1) := dc_4 (by decide +kernel)
theorem dX13_get_17 : decode cX13_get 17 = .ok (.isub, 1) := dc_100 (by decide +kernel)
theorem dX13_get_18 : decode cX13_get 18 = .ok (.dup_x1, 1) := dc_90 (by decide +kernel)
theorem dX13_get_19 : decode cX13_get 19 = .ok (.putfield 23, 3) := dc_181 (a := 0) (b := 23) (n := 23) (by decide +kernel)
theorem dX13_get_22 : decode cX13_get 22 = .ok (.iaload, 1) := dc_46 (by decide +kernel)
theorem dX13_get_23 : decode cX13_get 23 = .ok (.goto 10, 3) := dc_167 (a := 0) (b := 10) (v := 10) (by decide +kernel)
theorem dX13_get_26 : decode cX13_get 26 = .ok (.aload_n 0, 1) := dc_42 (by decide +kernel)
theorem dX13_get_27 : decode cX13_get 27 = .ok (.getfield 19, 3) := dc_180 (a := 0) (b := 19) (n := 19) (by decide +kernel)
theorem dX13_get_30 : decode cX13_get 30 = .ok (.invokevirtual 47, 3) := dc_182 (a := 0) (b := 47) (n := 47) (by decide +kernel)
theorem dX13_get_33 : decode cX13_get 33 = .ok (.ireturn, 1) := dc_172 (by decide +kernel)
theorem GX13_19 {w : eW} {d : Nat} {Y : eY} {pc : Nat} {ls : eL} {st : List Value} {h : eH} {Q : eO → eH → Prop} {a : Nat} {x : Nat} (hf : g_A 12 h a 1 = some x) (hd : decode Y.2.1 pc = .ok (.getfield 19, 3)) (hY : Y.1.cls = RX13) (kk : wp w d Y (pc + 3) ls (.ref x :: st) h Q) : wp w d Y pc ls (.ref a :: st) h Q := x_gA (ci := 12) (k := 1) hf hd rfl (by decide) (by rw [hY]; exact q818) kk
theorem GX13_23 {w : eW} {d : Nat} {Y : eY} {pc : Nat} {ls : eL} {st : List Value} {h : eH} {Q : eO → eH → Prop} {a : Nat} {x : Int32} (hf : g_I 12 h a 3 = some x) (hd : decode Y.2.1 pc = .ok (.getfield 23, 3)) (hY : Y.1.cls = RX13) (kk : wp w d Y (pc + 3) ls (.int x :: st) h Q) : wp w d Y pc ls (.ref a :: st) h Q := x_gI (ci := 12) (k := 3) hf hd rfl (by decide) (by rw [hY]; exact q820) kk
theorem GX13_9 {w : eW} {d : Nat} {Y : eY} {pc : Nat} {ls : eL} {st : List Value} {h : eH} {Q : eO → eH → Prop} {a : Nat} {x : Nat} (hf : g_A 12 h a 2 = some x) (hd : decode Y.2.1 pc = .ok (.getfield 9, 3)) (hY : Y.1.cls = RX13) (kk : wp w d Y (pc + 3) ls (.ref x :: st) h Q) : wp w d Y pc ls (.ref a :: st) h Q := x_gA (ci := 12) (k := 2) hf hd rfl (by decide) (by rw [hY]; exact q819) kk
def fX13_get_b33 (N : Nat) (s0 : Int32) (h : eH) : Option ((Int32 ⊕ Nat) × eH) :=
  some (.inl s0, h)
theorem pX13_get_b33 {w : eW} {d : Nat} (hd : 11 ≤ d + 1) {N : Nat} {s0 : Int32} {h : eH} {q} (hf : fX13_get_b33 N s0 h = some q) : wp w (d + 1) YX13_get 33 [none] [.int s0] h (e_is (e_rt c_I q)) := by
  unfold fX13_get_b33 at hf
  cases hf
  exact w_iret dX13_get_33 rfl rfl rfl
def fX13_get (N : Nat) (this : Nat) (h : eH) : Option ((Int32 ⊕ Nat) × eH) :=
  (g_I 12 h this 3).bind fun x1 =>
  if x1 ≤ 0 then
    (g_A 12 h this 1).bind fun a4 =>
    (k_ok 10 h a4).bind fun _ =>
    t_B (fX11_read N a4 h) fun x7 h8 =>
    fX13_get_b33 N x7 h8
  else
    (g_A 12 h this 2).bind fun a9 =>
    (g_I 12 h this 3).bind fun x11 =>
    (p_V 12 h this 3 (.int (x11 - (1 : Int32)))).bind fun h13 =>
    (r_I 100 h13 a9 (x11 - (1 : Int32))).bind fun x15 =>
    fX13_get_b33 N x15 h13
theorem pX13_get {w : eW} {d : Nat} (hd : 11 ≤ d) {N : Nat} {this : Nat} {h : eH} {q} (hf : fX13_get N this h = some q) : wm w d YX13_get [.ref this] h (e_is (e_rt c_I q)) := by
  obtain ⟨d, rfl⟩ : ∃ e, d = e + 1 := ⟨d - 1, by omega⟩
  show wp w (d + 1) YX13_get 0 [some (.ref this)] [] h _
  unfold fX13_get at hf
  refine w_aload_n dX13_get_0 rfl rfl ?_
  obtain ⟨x1, b2, hf⟩ := Option.bind_eq_some_iff.mp hf
  refine GX13_23 b2 dX13_get_1 rfl ?_
  refine w_if_le 26 dX13_get_4 (by decide) (fun c3 => ?_) (fun c3 => ?_)
  · replace hf := (if_pos (show x1 ≤ 0 from c3)).symm.trans hf
    refine w_aload_n dX13_get_26 rfl rfl ?_
    obtain ⟨a4, b5, hf⟩ := Option.bind_eq_some_iff.mp hf
    refine GX13_19 b5 dX13_get_27 rfl ?_
    obtain ⟨_, b6, hf⟩ := Option.bind_eq_some_iff.mp hf
    refine x_ctI hf (e_stV (Yc := YX11_read) (ci := 10) (av := []) (st := []) dX13_get_30 q2425 mX11_read rfl (k_ok_some b6).1 (k_ok_some b6).2) mX11_read.2.2.1 mX11_read.2.2.2.2.1 (Nat.le_of_ble_eq_true rfl) (Nat.le_of_ble_eq_true rfl) rfl (fun q hq => pX11_read (by omega) hq) (fun x7 h8 hf => ?_)
    exact (pX13_get_b33 hd hf).to trivial
  · replace hf := (if_neg (show ¬ (x1 ≤ 0) from c3)).symm.trans hf
    refine w_aload_n dX13_get_7 rfl rfl ?_
    obtain ⟨a9, b10, hf⟩ := Option.bind_eq_some_iff.mp hf
    refine GX13_9 b10 dX13_get_8 rfl ?_
    refine w_aload_n dX13_get_11 rfl rfl ?_
    refine w_dup dX13_get_12 rfl ?_
    obtain ⟨x11, b12, hf⟩ := Option.bind_eq_some_iff.mp hf
    refine GX13_23 b12 dX13_get_13 rfl ?_
    refine w_iconst dX13_get_16 (v := 1) (by decide) ?_
    refine w_isub dX13_get_17 ?_
    refine w_dup_x1 dX13_get_18 rfl rfl ?_
    obtain ⟨h13, b14, hf⟩ := Option.bind_eq_some_iff.mp hf
    refine SX13_23 b14 dX13_get_19 rfl ?_
    obtain ⟨x15, b16, hf⟩ := Option.bind_eq_some_iff.mp hf
    refine x_rI b16 dX13_get_22 ?_
    refine w_goto 33 dX13_get_23 (by decide) ?_
    exact (pX13_get_b33 hd hf).to trivial
abbrev cX9_reach : ByteArray := prog_28_method_13_code
def yX9_reach : MethodName := ⟨RX9, "reach", "(I)V"⟩
def YX9_reach : eY := (yX9_reach, cX9_reach, 2, none, [])
theorem mX9_reach : e_mv YX9_reach RX9 1 := ⟨q2470, q2471, q2472, by decide, by decide +kernel, (e_sig (by decide +kernel))⟩
theorem dX9_reach_0 : decode cX9_reach 0 = .ok (.aload_n 0, 1) := dc_42 (by decide +kernel)
theorem dX9_reach_1 : decode cX9_reach 1 = .ok (.aload_n 0, 1) := dc_42 (by decide +kernel)
theorem dX9_reach_2 : decode cX9_reach 2 = .ok (.getfield 9, 3) := dc_180 (a := 0) (b := 9) (n := 9) (by decide +kernel)
theorem dX9_reach_5 : decode cX9_reach 5 = .ok (.iload_n 1, 1) := dc_27 (by decide +kernel)
theorem dX9_reach_6 : decode cX9_reach 6 = .ok (.invokestatic 76, 3) := dc_184 (a := 0) (b := 76) (n := 76) (by decide +kernel)
theorem dX9_reach_9 : decode cX9_reach 9 = .ok (.putfield 9, 3) := dc_181 (a := 0) (b := 9) (n := 9) (by decide +kernel)
theorem dX9_reach_12 : decode cX9_reach 12 = .ok (.aload_n 0, 1) := dc_42 (by decide +kernel)
theorem dX9_reach_13 : decode cX9_reach 13 = .ok (.aload_n 0, 1) := dc_42 (by decide +kernel)
theorem dX9_reach_14 : decode cX9_reach 14 = .ok (.getfield 15, 3) := dc_180 (a := 0) (b := 15) (n := 15) (by decide +kernel)
theorem dX9_reach_17 : decode cX9_reach 17 = .ok (.iload_n 1, 1) := dc_27 (by decide +kernel)
theorem dX9_reach_18 : decode cX9_reach 18 = .ok (.invokestatic 76, 3) := dc_184 (a := 0) (b := 76) (n := 76) (by decide +kernel)
theorem dX9_reach_21 : decode cX9_reach 21 = .ok (.putfield 15, 3) := dc_181 (a := 0) (b := 15) (n := 15) (by decide +kernel)
theorem dX9_reach_24 : decode cX9_reach 24 = .ok (.aload_n 0, 1) := dc_42 (by decide +kernel)
theorem dX9_reach_25 : decode cX9_reach 25 = .ok (.aload_n 0, 1) := dc_42 (by decide +kernel)
theorem dX9_reach_26 : decode cX9_reach 26 = .ok (.getfield 18, 3) := dc_180 (a := 0) (b := 18) (n := 18) (by decide +kernel)
theorem dX9_reach_29 : decode cX9_reach 29 = .ok (.iload_n 1, 1) := dc_27 (by decide +kernel)
theorem dX9_reach_30 : decode cX9_reach 30 = .ok (.invokestatic 76, 3) := dc_184 (a := 0) (b := 76) (n := 76) (by decide +kernel)
theorem dX9_reach_33 : decode cX9_reach 33 = .ok (.putfield 18, 3) := dc_181 (a := 0) (b := 18) (n := 18) (by decide +kernel)
theorem dX9_reach_36 : decode cX9_reach 36 = .ok (.aload_n 0, 1) := dc_42 (by decide +kernel)
theorem dX9_reach_37 : decode cX9_reach 37 = .ok (.aload_n 0, 1) := dc_42 (by decide +kernel)
theorem dX9_reach_38 : decode cX9_reach 38 = .ok (.getfield 33, 3) := dc_180 (a := 0) (b := 33) (n := 33) (by decide +kernel)
theorem dX9_reach_41 : decode cX9_reach 41 = .ok (.iload_n 1, 1) := dc_27 (by decide +kernel)
theorem dX9_reach_42 : decode cX9_reach 42 = .ok (.invokestatic 76, 3) := dc_184 (a := 0) (b := 76) (n := 76) (by decide +kernel)
theorem dX9_reach_45 : decode cX9_reach 45 = .ok (.putfield 33, 3) := dc_181 (a := 0) (b := 33) (n := 33) (by decide +kernel)
theorem dX9_reach_48 : decode cX9_reach 48 = .ok (.return_, 1) := dc_177 (by decide +kernel)
def fX9_reach (this : Nat) (p0 : Int32) (h : eH) : Option (Unit × eH) :=
  (g_A 8 h this 0).bind fun a1 =>
  (fX1_grown a1 p0 h).bind fun q3 =>
  (p_V 8 q3.2 this 0 (.ref q3.1)).bind fun h4 =>
  (g_A 8 h4 this 1).bind fun a6 =>
  (fX1_grown a6 p0 h4).bind fun q8 =>
  (p_V 8 q8.2 this 1 (.ref q8.1)).bind fun h9 =>
  (g_A 8 h9 this 2).bind fun a11 =>
  (fX1_grown a11 p0 h9).bind fun q13 =>
  (p_V 8 q13.2 this 2 (.ref q13.1)).bind fun h14 =>
  (g_A 8 h14 this 8).bind fun a16 =>
  (fX1_grown a16 p0 h14).bind fun q18 =>
  (p_V 8 q18.2 this 8 (.ref q18.1)).bind fun h19 =>
  some ((), h19)
theorem pX9_reach {w : eW} {d : Nat} (hd : 2 ≤ d) {this : Nat} {p0 : Int32} {h : eH} {q} (hf : fX9_reach this p0 h = some q) : wm w d YX9_reach [.ref this, .int p0] h (e_is (e_rn c_V q)) := by
  obtain ⟨d, rfl⟩ : ∃ e, d = e + 1 := ⟨d - 1, by omega⟩
  show wp w (d + 1) YX9_reach 0 [some (.ref this), some (.int p0)] [] h _
  unfold fX9_reach at hf
  refine w_aload_n dX9_reach_0 rfl rfl ?_
  refine w_aload_n dX9_reach_1 rfl rfl ?_
  obtain ⟨a1, b2, hf⟩ := Option.bind_eq_some_iff.mp hf
  refine GX9_9 b2 dX9_reach_2 rfl ?_
  refine w_iload_n dX9_reach_5 rfl rfl ?_
  refine x_cnA hf (e_stSN (Yc := YX1_grown) (av := [.ref a1, .int p0]) (st := [.ref this]) dX9_reach_6 q2027 mX1_grown) mX1_grown.2.2.1 mX1_grown.2.2.2.2.1 (Nat.le_of_ble_eq_true rfl) (Nat.le_of_ble_eq_true rfl) (fun q hq => pX1_grown (by omega) hq) (fun q3 hf => ?_)
  obtain ⟨h4, b5, hf⟩ := Option.bind_eq_some_iff.mp hf
  refine SX9_9 b5 dX9_reach_9 rfl ?_
  refine w_aload_n dX9_reach_12 rfl rfl ?_
  refine w_aload_n dX9_reach_13 rfl rfl ?_
  obtain ⟨a6, b7, hf⟩ := Option.bind_eq_some_iff.mp hf
  refine GX9_15 b7 dX9_reach_14 rfl ?_
  refine w_iload_n dX9_reach_17 rfl rfl ?_
  refine x_cnA hf (e_stSN (Yc := YX1_grown) (av := [.ref a6, .int p0]) (st := [.ref this]) dX9_reach_18 q2027 mX1_grown) mX1_grown.2.2.1 mX1_grown.2.2.2.2.1 (Nat.le_of_ble_eq_true rfl) (Nat.le_of_ble_eq_true rfl) (fun q hq => pX1_grown (by omega) hq) (fun q8 hf => ?_)
  obtain ⟨h9, b10, hf⟩ := Option.bind_eq_some_iff.mp hf
  refine SX9_15 b10 dX9_reach_21 rfl ?_
  refine w_aload_n dX9_reach_24 rfl rfl ?_
  refine w_aload_n dX9_reach_25 rfl rfl ?_
  obtain ⟨a11, b12, hf⟩ := Option.bind_eq_some_iff.mp hf
  refine GX9_18 b12 dX9_reach_26 rfl ?_
  refine w_iload_n dX9_reach_29 rfl rfl ?_
  refine x_cnA hf (e_stSN (Yc := YX1_grown) (av := [.ref a11, .int p0]) (st := [.ref this]) dX9_reach_30 q2027 mX1_grown) mX1_grown.2.2.1 mX1_grown.2.2.2.2.1 (Nat.le_of_ble_eq_true rfl) (Nat.le_of_ble_eq_true rfl) (fun q hq => pX1_grown (by omega) hq) (fun q13 hf => ?_)
  obtain ⟨h14, b15, hf⟩ := Option.bind_eq_some_iff.mp hf
  refine SX9_18 b15 dX9_reach_33 rfl ?_
  refine w_aload_n dX9_reach_36 rfl rfl ?_
  refine w_aload_n dX9_reach_37 rfl rfl ?_
  obtain ⟨a16, b17, hf⟩ := Option.bind_eq_some_iff.mp hf
  refine GX9_33 b17 dX9_reach_38 rfl ?_
  refine w_iload_n dX9_reach_41 rfl rfl ?_
  refine x_cnA hf (e_stSN (Yc := YX1_grown) (av := [.ref a16, .int p0]) (st := [.ref this]) dX9_reach_42 q2027 mX1_grown) mX1_grown.2.2.1 mX1_grown.2.2.2.2.1 (Nat.le_of_ble_eq_true rfl) (Nat.le_of_ble_eq_true rfl) (fun q hq => pX1_grown (by omega) hq) (fun q18 hf => ?_)
  obtain ⟨h19, b20, hf⟩ := Option.bind_eq_some_iff.mp hf
  refine SX9_33 b20 dX9_reach_45 rfl ?_
  cases hf
  exact w_vret dX9_reach_48 rfl rfl
