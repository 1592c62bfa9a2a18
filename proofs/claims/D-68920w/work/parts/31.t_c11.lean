set_option maxRecDepth 100000
set_option maxHeartbeats 4000000
theorem q781 : (Jvm.Cond.fieldLink "TypeHouse$Macros" (31 : Nat) "TypeHouse$Macros" "used" "I") ∈ lw_all := lw_g (lw_at lw_m2 116 rfl) rfl
theorem q792 : (Jvm.Cond.fieldLink "TypeHouse$Macros" (35 : Nat) "TypeHouse$Macros" "count" "I") ∈ lw_all := lw_g (lw_at lw_m2 127 rfl) rfl
theorem q868 : (Jvm.Cond.fieldLinkNest "TypeHouse$Press" (731 : Nat) "TypeHouse$Expander" "read" "[I" "TypeHouse") ∈ lw_tbl := lw_at lw_m2 203 rfl
theorem q2505 : (Jvm.Cond.constant "TypeHouse$Expander" (307 : Nat) (262144 : Int32)) ∈ lw_all := lw_g (lw_at lw_m9 160 rfl) rfl
theorem q2710 : (Jvm.Cond.methodLink "TypeHouse$Expander" (499 : Nat) ({ cls := "TypeHouse$Expander", name := "dimension", desc := "()I" } : Jvm.MethodName)) ∈ lw_all := lw_g (lw_at lw_m10 125 rfl) rfl
theorem q2789 : (Jvm.Cond.methodLinkNest "TypeHouse$Press" (424 : Nat) ({ cls := "TypeHouse$Expander", name := "kind", desc := "(I)I" } : Jvm.MethodName) "TypeHouse") ∈ lw_tbl := lw_at lw_m10 204 rfl
theorem q2790 : (Jvm.Cond.methodLinkNest "TypeHouse$Press" (425 : Nat) ({ cls := "TypeHouse$Expander", name := "value", desc := "(I)I" } : Jvm.MethodName) "TypeHouse") ∈ lw_tbl := lw_at lw_m10 205 rfl
theorem q2791 : (Jvm.Cond.methodLinkNest "TypeHouse$Press" (428 : Nat) ({ cls := "TypeHouse", name := "category", desc := "(I)I" } : Jvm.MethodName) "TypeHouse") ∈ lw_tbl := lw_at lw_m10 206 rfl
theorem q3182 : (Jvm.Cond.methodLink "TypeHouse$Press" (683 : Nat) ({ cls := "TypeHouse$Press", name := "character", desc := "(I)V" } : Jvm.MethodName)) ∈ lw_all := lw_g (lw_at lw_m12 117 rfl) rfl
theorem q3890 : (Jvm.Cond.instanceMethod ({ cls := "TypeHouse$Press", name := "actPrimitive", desc := "(I)V" } : Jvm.MethodName)) ∈ lw_all := lw_g (lw_at lw_m15 105 rfl) rfl
theorem q3891 : (Jvm.Cond.code ({ cls := "TypeHouse$Press", name := "actPrimitive", desc := "(I)V" } : Jvm.MethodName) prog_26_method_48_code (3 : Nat) (Option.none : Option Jvm.ClassFile.FieldType)) ∈ lw_all := lw_g (lw_at lw_m15 106 rfl) rfl
theorem q3893 : (Jvm.Cond.methodLink "TypeHouse$Press" (700 : Nat) ({ cls := "TypeHouse$Press", name := "actGlobal", desc := "()V" } : Jvm.MethodName)) ∈ lw_all := lw_g (lw_at lw_m15 108 rfl) rfl
theorem q3895 : (Jvm.Cond.instanceMethod ({ cls := "TypeHouse$Press", name := "actGlobal", desc := "()V" } : Jvm.MethodName)) ∈ lw_all := lw_g (lw_at lw_m15 110 rfl) rfl
theorem q3896 : (Jvm.Cond.code ({ cls := "TypeHouse$Press", name := "actGlobal", desc := "()V" } : Jvm.MethodName) prog_26_method_54_code (2 : Nat) (Option.none : Option Jvm.ClassFile.FieldType)) ∈ lw_all := lw_g (lw_at lw_m15 111 rfl) rfl
theorem q3897 : (Jvm.Cond.methodLink "TypeHouse$Press" (421 : Nat) ({ cls := "TypeHouse$Press", name := "solid", desc := "()I" } : Jvm.MethodName)) ∈ lw_all := lw_g (lw_at lw_m15 112 rfl) rfl
theorem q3904 : (Jvm.Cond.methodLink "TypeHouse$Press" (703 : Nat) ({ cls := "TypeHouse$Press", name := "set", desc := "(IZ)V" } : Jvm.MethodName)) ∈ lw_all := lw_g (lw_at lw_m15 119 rfl) rfl
theorem q3906 : (Jvm.Cond.instanceMethod ({ cls := "TypeHouse$Press", name := "set", desc := "(IZ)V" } : Jvm.MethodName)) ∈ lw_all := lw_g (lw_at lw_m15 121 rfl) rfl
theorem q3907 : (Jvm.Cond.code ({ cls := "TypeHouse$Press", name := "set", desc := "(IZ)V" } : Jvm.MethodName) prog_26_method_55_code (6 : Nat) (Option.none : Option Jvm.ClassFile.FieldType)) ∈ lw_all := lw_g (lw_at lw_m15 122 rfl) rfl
theorem q3908 : (Jvm.Cond.methodLinkNest "TypeHouse$Press" (740 : Nat) ({ cls := "TypeHouse$Expander", name := "let", desc := "(Z)V" } : Jvm.MethodName) "TypeHouse") ∈ lw_tbl := lw_at lw_m15 123 rfl
theorem q3922 : (Jvm.Cond.methodLink "TypeHouse$Press" (753 : Nat) ({ cls := "TypeHouse$Press", name := "newFont", desc := "(Z)V" } : Jvm.MethodName)) ∈ lw_all := lw_g (lw_at lw_m15 137 rfl) rfl
theorem q3948 : (Jvm.Cond.methodLinkNest "TypeHouse$Press" (756 : Nat) ({ cls := "TypeHouse$Expander", name := "reckon", desc := "(IZ)V" } : Jvm.MethodName) "TypeHouse") ∈ lw_tbl := lw_at lw_m15 163 rfl
theorem q3950 : (Jvm.Cond.instanceMethod ({ cls := "TypeHouse$Expander", name := "reckon", desc := "(IZ)V" } : Jvm.MethodName)) ∈ lw_all := lw_g (lw_at lw_m15 165 rfl) rfl
theorem q3951 : (Jvm.Cond.code ({ cls := "TypeHouse$Expander", name := "reckon", desc := "(IZ)V" } : Jvm.MethodName) prog_4_method_62_code (10 : Nat) (Option.none : Option Jvm.ClassFile.FieldType)) ∈ lw_all := lw_g (lw_at lw_m15 166 rfl) rfl
theorem q3953 : (Jvm.Cond.methodLink "TypeHouse$Expander" (522 : Nat) ({ cls := "TypeHouse$Expander", name := "advance", desc := "(IIZ)V" } : Jvm.MethodName)) ∈ lw_all := lw_g (lw_at lw_m15 168 rfl) rfl
theorem q3955 : (Jvm.Cond.instanceMethod ({ cls := "TypeHouse$Expander", name := "advance", desc := "(IIZ)V" } : Jvm.MethodName)) ∈ lw_all := lw_g (lw_at lw_m15 170 rfl) rfl
theorem q3956 : (Jvm.Cond.code ({ cls := "TypeHouse$Expander", name := "advance", desc := "(IIZ)V" } : Jvm.MethodName) prog_4_method_63_code (4 : Nat) (Option.none : Option Jvm.ClassFile.FieldType)) ∈ lw_all := lw_g (lw_at lw_m15 171 rfl) rfl
theorem q3957 : (Jvm.Cond.methodLink "TypeHouse$Expander" (529 : Nat) ({ cls := "TypeHouse$Expander", name := "counter", desc := "(J)I" } : Jvm.MethodName)) ∈ lw_all := lw_g (lw_at lw_m15 172 rfl) rfl
theorem q3962 : (Jvm.Cond.methodLink "TypeHouse$Expander" (507 : Nat) ({ cls := "TypeHouse$Settings", name := "set", desc := "(IIZ)V" } : Jvm.MethodName)) ∈ lw_all := lw_g (lw_at lw_m15 177 rfl) rfl
theorem q3963 : (Jvm.Cond.methodLink "TypeHouse$Expander" (511 : Nat) ({ cls := "TypeHouse$Expander", name := "glue", desc := "()V" } : Jvm.MethodName)) ∈ lw_all := lw_g (lw_at lw_m15 178 rfl) rfl
theorem q3965 : (Jvm.Cond.instanceMethod ({ cls := "TypeHouse$Expander", name := "glue", desc := "()V" } : Jvm.MethodName)) ∈ lw_all := lw_g (lw_at lw_m15 180 rfl) rfl
theorem q3966 : (Jvm.Cond.code ({ cls := "TypeHouse$Expander", name := "glue", desc := "()V" } : Jvm.MethodName) prog_4_method_54_code (8 : Nat) (Option.none : Option Jvm.ClassFile.FieldType)) ∈ lw_all := lw_g (lw_at lw_m15 181 rfl) rfl
theorem q3968 : (Jvm.Cond.methodLink "TypeHouse$Expander" (494 : Nat) ({ cls := "TypeHouse$Expander", name := "stretch", desc := "()I" } : Jvm.MethodName)) ∈ lw_all := lw_g (lw_at lw_m15 183 rfl) rfl
theorem q3980 : (Jvm.Cond.methodLink "TypeHouse$Expander" (532 : Nat) ({ cls := "TypeHouse$Expander", name := "addGlue", desc := "(I)V" } : Jvm.MethodName)) ∈ lw_all := lw_g (lw_at lw_m15 195 rfl) rfl
theorem q3982 : (Jvm.Cond.instanceMethod ({ cls := "TypeHouse$Expander", name := "addGlue", desc := "(I)V" } : Jvm.MethodName)) ∈ lw_all := lw_g (lw_at lw_m15 197 rfl) rfl
theorem q3983 : (Jvm.Cond.code ({ cls := "TypeHouse$Expander", name := "addGlue", desc := "(I)V" } : Jvm.MethodName) prog_4_method_64_code (5 : Nat) (Option.none : Option Jvm.ClassFile.FieldType)) ∈ lw_all := lw_g (lw_at lw_m15 198 rfl) rfl
theorem q3984 : (Jvm.Cond.methodLink "TypeHouse$Expander" (514 : Nat) ({ cls := "TypeHouse$Expander", name := "setGlue", desc := "(IZ)V" } : Jvm.MethodName)) ∈ lw_all := lw_g (lw_at lw_m15 199 rfl) rfl
theorem q3986 : (Jvm.Cond.instanceMethod ({ cls := "TypeHouse$Expander", name := "setGlue", desc := "(IZ)V" } : Jvm.MethodName)) ∈ lw_all := lw_g (lw_at lw_m15 201 rfl) rfl
theorem q3987 : (Jvm.Cond.code ({ cls := "TypeHouse$Expander", name := "setGlue", desc := "(IZ)V" } : Jvm.MethodName) prog_4_method_59_code (4 : Nat) (Option.none : Option Jvm.ClassFile.FieldType)) ∈ lw_all := lw_g (lw_at lw_m15 202 rfl) rfl
theorem q3988 : (Jvm.Cond.methodLink "TypeHouse$Expander" (525 : Nat) ({ cls := "TypeHouse$Expander", name := "reckoned", desc := "(IJJ)J" } : Jvm.MethodName)) ∈ lw_all := lw_g (lw_at lw_m15 203 rfl) rfl
theorem q3990 : (Jvm.Cond.instanceMethod ({ cls := "TypeHouse$Expander", name := "reckoned", desc := "(IJJ)J" } : Jvm.MethodName)) ∈ lw_all := lw_g (lw_at lw_m15 205 rfl) rfl
theorem q3991 : (Jvm.Cond.code ({ cls := "TypeHouse$Expander", name := "reckoned", desc := "(IJJ)J" } : Jvm.MethodName) prog_4_method_61_code (6 : Nat) (Option.some Jvm.ClassFile.FieldType.long)) ∈ lw_all := lw_g (lw_at lw_m15 206 rfl) rfl
theorem q3992 : (Jvm.Cond.methodLink "TypeHouse$Press" (737 : Nat) ({ cls := "TypeHouse$Press", name := "readBox", desc := "(IIIZ)V" } : Jvm.MethodName)) ∈ lw_all := lw_g (lw_at lw_m15 207 rfl) rfl
theorem q3994 : (Jvm.Cond.instanceMethod ({ cls := "TypeHouse$Press", name := "readBox", desc := "(IIIZ)V" } : Jvm.MethodName)) ∈ lw_all := lw_g (lw_at lw_m15 209 rfl) rfl
theorem q3995 : (Jvm.Cond.code ({ cls := "TypeHouse$Press", name := "readBox", desc := "(IIIZ)V" } : Jvm.MethodName) prog_26_method_20_code (8 : Nat) (Option.none : Option Jvm.ClassFile.FieldType)) ∈ lw_all := lw_g (lw_at lw_m15 210 rfl) rfl
theorem q3998 : (Jvm.Cond.methodLinkNest "TypeHouse$Press" (759 : Nat) ({ cls := "TypeHouse$Expander", name := "set", desc := "(IZ)V" } : Jvm.MethodName) "TypeHouse") ∈ lw_tbl := lw_at lw_m15 213 rfl
theorem q4000 : (Jvm.Cond.instanceMethod ({ cls := "TypeHouse$Expander", name := "set", desc := "(IZ)V" } : Jvm.MethodName)) ∈ lw_all := lw_g (lw_at lw_m15 215 rfl) rfl
theorem q4001 : (Jvm.Cond.code ({ cls := "TypeHouse$Expander", name := "set", desc := "(IZ)V" } : Jvm.MethodName) prog_4_method_58_code (4 : Nat) (Option.none : Option Jvm.ClassFile.FieldType)) ∈ lw_all := lw_g (lw_at lw_m15 216 rfl) rfl
theorem q4002 : (Jvm.Cond.methodLink "TypeHouse$Expander" (504 : Nat) ({ cls := "TypeHouse$Expander", name := "equals", desc := "()V" } : Jvm.MethodName)) ∈ lw_all := lw_g (lw_at lw_m15 217 rfl) rfl
theorem q4003 : (Jvm.Cond.methodLinkNest "TypeHouse$Press" (760 : Nat) ({ cls := "TypeHouse$Expander", name := "define", desc := "(IZ)V" } : Jvm.MethodName) "TypeHouse") ∈ lw_tbl := lw_at lw_m15 218 rfl
theorem q4005 : (Jvm.Cond.instanceMethod ({ cls := "TypeHouse$Expander", name := "define", desc := "(IZ)V" } : Jvm.MethodName)) ∈ lw_all := lw_g (lw_at lw_m15 220 rfl) rfl
theorem q4006 : (Jvm.Cond.code ({ cls := "TypeHouse$Expander", name := "define", desc := "(IZ)V" } : Jvm.MethodName) prog_4_method_75_code (7 : Nat) (Option.none : Option Jvm.ClassFile.FieldType)) ∈ lw_all := lw_g (lw_at lw_m15 221 rfl) rfl
theorem q4007 : (Jvm.Cond.methodLink "TypeHouse$Expander" (566 : Nat) ({ cls := "TypeHouse$Macros", name := "open", desc := "()V" } : Jvm.MethodName)) ∈ lw_all := lw_g (lw_at lw_m15 222 rfl) rfl
theorem q4008 : (Jvm.Cond.instanceMethod ({ cls := "TypeHouse$Macros", name := "open", desc := "()V" } : Jvm.MethodName)) ∈ lw_all := lw_g (lw_at lw_m15 223 rfl) rfl
theorem q4009 : (Jvm.Cond.selects "TypeHouse$Macros" ({ cls := "TypeHouse$Macros", name := "open", desc := "()V" } : Jvm.MethodName) ({ cls := "TypeHouse$Macros", name := "open", desc := "()V" } : Jvm.MethodName)) ∈ lw_all := lw_g (lw_at lw_m15 224 rfl) rfl
theorem q4010 : (Jvm.Cond.code ({ cls := "TypeHouse$Macros", name := "open", desc := "()V" } : Jvm.MethodName) prog_14_method_2_code (1 : Nat) (Option.none : Option Jvm.ClassFile.FieldType)) ∈ lw_all := lw_g (lw_at lw_m15 225 rfl) rfl
theorem q4011 : (Jvm.Cond.methodLink "TypeHouse$Macros" (38 : Nat) ({ cls := "TypeHouse$Trouble", name := "want", desc := "(ZI)V" } : Jvm.MethodName)) ∈ lw_all := lw_g (lw_at lw_m15 226 rfl) rfl
theorem q4012 : (Jvm.Cond.methodLinkNest "TypeHouse$Macros" (44 : Nat) ({ cls := "TypeHouse", name := "grown", desc := "([II)[I" } : Jvm.MethodName) "TypeHouse") ∈ lw_tbl := lw_at lw_m15 227 rfl
theorem q4013 : (Jvm.Cond.methodLink "TypeHouse$Expander" (567 : Nat) ({ cls := "TypeHouse$Macros", name := "add", desc := "(I)V" } : Jvm.MethodName)) ∈ lw_all := lw_g (lw_at lw_m15 228 rfl) rfl
theorem q4014 : (Jvm.Cond.instanceMethod ({ cls := "TypeHouse$Macros", name := "add", desc := "(I)V" } : Jvm.MethodName)) ∈ lw_all := lw_g (lw_at lw_m15 229 rfl) rfl
theorem q4015 : (Jvm.Cond.selects "TypeHouse$Macros" ({ cls := "TypeHouse$Macros", name := "add", desc := "(I)V" } : Jvm.MethodName) ({ cls := "TypeHouse$Macros", name := "add", desc := "(I)V" } : Jvm.MethodName)) ∈ lw_all := lw_g (lw_at lw_m15 230 rfl) rfl
theorem q4016 : (Jvm.Cond.code ({ cls := "TypeHouse$Macros", name := "add", desc := "(I)V" } : Jvm.MethodName) prog_14_method_3_code (2 : Nat) (Option.none : Option Jvm.ClassFile.FieldType)) ∈ lw_all := lw_g (lw_at lw_m15 231 rfl) rfl
theorem q4017 : (Jvm.Cond.methodLink "TypeHouse$Expander" (568 : Nat) ({ cls := "TypeHouse$Macros", name := "body", desc := "(I)V" } : Jvm.MethodName)) ∈ lw_all := lw_g (lw_at lw_m15 232 rfl) rfl
theorem q4018 : (Jvm.Cond.instanceMethod ({ cls := "TypeHouse$Macros", name := "body", desc := "(I)V" } : Jvm.MethodName)) ∈ lw_all := lw_g (lw_at lw_m15 233 rfl) rfl
theorem q4019 : (Jvm.Cond.selects "TypeHouse$Macros" ({ cls := "TypeHouse$Macros", name := "body", desc := "(I)V" } : Jvm.MethodName) ({ cls := "TypeHouse$Macros", name := "body", desc := "(I)V" } : Jvm.MethodName)) ∈ lw_all := lw_g (lw_at lw_m15 234 rfl) rfl
theorem q4020 : (Jvm.Cond.code ({ cls := "TypeHouse$Macros", name := "body", desc := "(I)V" } : Jvm.MethodName) prog_14_method_4_code (2 : Nat) (Option.none : Option Jvm.ClassFile.FieldType)) ∈ lw_all := lw_g (lw_at lw_m15 235 rfl) rfl
theorem q4021 : (Jvm.Cond.methodLink "TypeHouse$Expander" (571 : Nat) ({ cls := "TypeHouse$Expander", name := "readBody", desc := "(ZI)V" } : Jvm.MethodName)) ∈ lw_all := lw_g (lw_at lw_m15 236 rfl) rfl
theorem q4023 : (Jvm.Cond.instanceMethod ({ cls := "TypeHouse$Expander", name := "readBody", desc := "(ZI)V" } : Jvm.MethodName)) ∈ lw_all := lw_g (lw_at lw_m15 238 rfl) rfl
theorem q4024 : (Jvm.Cond.code ({ cls := "TypeHouse$Expander", name := "readBody", desc := "(ZI)V" } : Jvm.MethodName) prog_4_method_77_code (7 : Nat) (Option.none : Option Jvm.ClassFile.FieldType)) ∈ lw_all := lw_g (lw_at lw_m15 239 rfl) rfl
theorem q4025 : (Jvm.Cond.methodLink "TypeHouse$Expander" (577 : Nat) ({ cls := "TypeHouse$Expander", name := "next", desc := "(Z)I" } : Jvm.MethodName)) ∈ lw_all := lw_g (lw_at lw_m16 0 rfl) rfl
theorem q4027 : (Jvm.Cond.instanceMethod ({ cls := "TypeHouse$Expander", name := "next", desc := "(Z)I" } : Jvm.MethodName)) ∈ lw_all := lw_g (lw_at lw_m16 2 rfl) rfl
theorem q4028 : (Jvm.Cond.code ({ cls := "TypeHouse$Expander", name := "next", desc := "(Z)I" } : Jvm.MethodName) prog_4_method_76_code (2 : Nat) (Option.some Jvm.ClassFile.FieldType.int)) ∈ lw_all := lw_g (lw_at lw_m16 3 rfl) rfl
theorem q4029 : (Jvm.Cond.methodLink "TypeHouse$Expander" (574 : Nat) ({ cls := "TypeHouse$Macros", name := "close", desc := "()I" } : Jvm.MethodName)) ∈ lw_all := lw_g (lw_at lw_m16 4 rfl) rfl
theorem q4030 : (Jvm.Cond.instanceMethod ({ cls := "TypeHouse$Macros", name := "close", desc := "()I" } : Jvm.MethodName)) ∈ lw_all := lw_g (lw_at lw_m16 5 rfl) rfl
theorem q4031 : (Jvm.Cond.selects "TypeHouse$Macros" ({ cls := "TypeHouse$Macros", name := "close", desc := "()I" } : Jvm.MethodName) ({ cls := "TypeHouse$Macros", name := "close", desc := "()I" } : Jvm.MethodName)) ∈ lw_all := lw_g (lw_at lw_m16 6 rfl) rfl
theorem q4032 : (Jvm.Cond.code ({ cls := "TypeHouse$Macros", name := "close", desc := "()I" } : Jvm.MethodName) prog_14_method_5_code (1 : Nat) (Option.some Jvm.ClassFile.FieldType.int)) ∈ lw_all := lw_g (lw_at lw_m16 7 rfl) rfl
theorem q4033 : (Jvm.Cond.methodLink "TypeHouse$Press" (706 : Nat) ({ cls := "TypeHouse$Press", name := "actItem", desc := "(I)V" } : Jvm.MethodName)) ∈ lw_all := lw_g (lw_at lw_m16 8 rfl) rfl
theorem q4035 : (Jvm.Cond.instanceMethod ({ cls := "TypeHouse$Press", name := "actItem", desc := "(I)V" } : Jvm.MethodName)) ∈ lw_all := lw_g (lw_at lw_m16 10 rfl) rfl
theorem q4036 : (Jvm.Cond.code ({ cls := "TypeHouse$Press", name := "actItem", desc := "(I)V" } : Jvm.MethodName) prog_26_method_49_code (7 : Nat) (Option.none : Option Jvm.ClassFile.FieldType)) ∈ lw_all := lw_g (lw_at lw_m16 11 rfl) rfl
theorem q4037 : (Jvm.Cond.methodLink "TypeHouse$Press" (709 : Nat) ({ cls := "TypeHouse$Press", name := "actSkip", desc := "(ZI)V" } : Jvm.MethodName)) ∈ lw_all := lw_g (lw_at lw_m16 12 rfl) rfl
theorem q4039 : (Jvm.Cond.instanceMethod ({ cls := "TypeHouse$Press", name := "actSkip", desc := "(ZI)V" } : Jvm.MethodName)) ∈ lw_all := lw_g (lw_at lw_m16 14 rfl) rfl
theorem q4040 : (Jvm.Cond.code ({ cls := "TypeHouse$Press", name := "actSkip", desc := "(ZI)V" } : Jvm.MethodName) prog_26_method_50_code (3 : Nat) (Option.none : Option Jvm.ClassFile.FieldType)) ∈ lw_all := lw_g (lw_at lw_m16 15 rfl) rfl
theorem q4041 : (Jvm.Cond.methodLinkNest "TypeHouse$Press" (728 : Nat) ({ cls := "TypeHouse$Expander", name := "glue", desc := "()V" } : Jvm.MethodName) "TypeHouse") ∈ lw_tbl := lw_at lw_m16 16 rfl
theorem q4042 : (Jvm.Cond.constant "TypeHouse$Press" (293 : Nat) (65536 : Int32)) ∈ lw_all := lw_g (lw_at lw_m16 17 rfl) rfl
theorem q4043 : (Jvm.Cond.methodLink "TypeHouse$Press" (712 : Nat) ({ cls := "TypeHouse$Press", name := "wantVertical", desc := "()V" } : Jvm.MethodName)) ∈ lw_all := lw_g (lw_at lw_m16 18 rfl) rfl
theorem q4045 : (Jvm.Cond.instanceMethod ({ cls := "TypeHouse$Press", name := "wantVertical", desc := "()V" } : Jvm.MethodName)) ∈ lw_all := lw_g (lw_at lw_m16 20 rfl) rfl
theorem q4046 : (Jvm.Cond.code ({ cls := "TypeHouse$Press", name := "wantVertical", desc := "()V" } : Jvm.MethodName) prog_26_method_8_code (1 : Nat) (Option.none : Option Jvm.ClassFile.FieldType)) ∈ lw_all := lw_g (lw_at lw_m16 21 rfl) rfl
theorem q4047 : (Jvm.Cond.methodLinkNest "TypeHouse$Press" (715 : Nat) ({ cls := "TypeHouse$Expander", name := "number", desc := "()I" } : Jvm.MethodName) "TypeHouse") ∈ lw_tbl := lw_at lw_m16 22 rfl
theorem q4048 : (Jvm.Cond.methodLink "TypeHouse$Press" (718 : Nat) ({ cls := "TypeHouse$Press", name := "rule", desc := "(III)V" } : Jvm.MethodName)) ∈ lw_all := lw_g (lw_at lw_m16 23 rfl) rfl
theorem q4050 : (Jvm.Cond.instanceMethod ({ cls := "TypeHouse$Press", name := "rule", desc := "(III)V" } : Jvm.MethodName)) ∈ lw_all := lw_g (lw_at lw_m16 25 rfl) rfl
theorem q4051 : (Jvm.Cond.code ({ cls := "TypeHouse$Press", name := "rule", desc := "(III)V" } : Jvm.MethodName) prog_26_method_52_code (8 : Nat) (Option.none : Option Jvm.ClassFile.FieldType)) ∈ lw_all := lw_g (lw_at lw_m16 26 rfl) rfl
theorem q4055 : (Jvm.Cond.methodLink "TypeHouse$Press" (722 : Nat) ({ cls := "TypeHouse$Press", name := "dash", desc := "()V" } : Jvm.MethodName)) ∈ lw_all := lw_g (lw_at lw_m16 30 rfl) rfl
theorem q4057 : (Jvm.Cond.instanceMethod ({ cls := "TypeHouse$Press", name := "dash", desc := "()V" } : Jvm.MethodName)) ∈ lw_all := lw_g (lw_at lw_m16 32 rfl) rfl
theorem q4058 : (Jvm.Cond.code ({ cls := "TypeHouse$Press", name := "dash", desc := "()V" } : Jvm.MethodName) prog_26_method_51_code (2 : Nat) (Option.none : Option Jvm.ClassFile.FieldType)) ∈ lw_all := lw_g (lw_at lw_m16 33 rfl) rfl
theorem q4059 : (Jvm.Cond.methodLink "TypeHouse$Press" (725 : Nat) ({ cls := "TypeHouse$Press", name := "actBox", desc := "(I)V" } : Jvm.MethodName)) ∈ lw_all := lw_g (lw_at lw_m16 34 rfl) rfl
theorem q4061 : (Jvm.Cond.instanceMethod ({ cls := "TypeHouse$Press", name := "actBox", desc := "(I)V" } : Jvm.MethodName)) ∈ lw_all := lw_g (lw_at lw_m16 36 rfl) rfl
theorem q4062 : (Jvm.Cond.code ({ cls := "TypeHouse$Press", name := "actBox", desc := "(I)V" } : Jvm.MethodName) prog_26_method_53_code (3 : Nat) (Option.none : Option Jvm.ClassFile.FieldType)) ∈ lw_all := lw_g (lw_at lw_m16 37 rfl) rfl
abbrev cX8_glue : ByteArray := prog_4_method_54_code
def yX8_glue : MethodName := ⟨RX8, "glue", "()V"⟩
def YX8_glue : eY := (yX8_glue, cX8_glue, 8, none, [])
theorem mX8_glue : e_mv YX8_glue RX8 0 := ⟨q3965, qs198, q3966, by decide, by decide +kernel, (e_sig (by decide +kernel))⟩
theorem dX8_glue_0 : decode cX8_glue 0 = .ok (.aload_n 0, 1) := dc_42 (by decide +kernel)
theorem dX8_glue_1 : decode cX8_glue 1 = .ok (.invokevirtual 463, 3) := dc_182 (a := 1) (b := 207) (n := 463) (by decide +kernel)
theorem dX8_glue_4 : decode cX8_glue 4 = .ok (.istore_n 1, 1) := dc_60 (by decide +kernel)
theorem dX8_glue_5 : decode cX8_glue 5 = .ok (.aload_n 0, 1) := dc_42 (by decide +kernel)
theorem dX8_glue_6 : decode cX8_glue 6 = .ok (.getfield 459, 3) := dc_180 (a := 1) (b := 203) (n := 459) (by decide +kernel)
theorem dX8_glue_9 : decode cX8_glue 9 = .ok (.istore_n 2, 1) := dc_61 (by decide +kernel)
theorem dX8_glue_10 : decode cX8_glue 10 = .ok (.aload_n 0, 1) := dc_42 (by decide +kernel)
theorem dX8_glue_11 : decode cX8_glue 11 = .ok (.iload_n 1, 1) := dc_27 (by decide +kernel)
theorem dX8_glue_12 : decode cX8_glue 12 = .ok (.invokevirtual 243, 3) := dc_182 (a := 0) (b := 243) (n := 243) (by decide +kernel)
theorem dX8_glue_15 : decode cX8_glue 15 = .ok (.istore_n 3, 1) := dc_62 (by decide +kernel)
theorem dX8_glue_16 : decode cX8_glue 16 = .ok (.iload_n 3, 1) := dc_29 (by decide +kernel)
theorem dX8_glue_17 : decode cX8_glue 17 = .ok (.invokestatic 372, 3) := dc_184 (a := 1) (b := 116) (n := 372) (by decide +kernel)
theorem dX8_glue_20 : decode cX8_glue 20 = .ok (.ifCond .eq 108, 3) := dc_153 (a := 0) (b := 108) (v := 108) (by decide +kernel)
theorem dX8_glue_23 : decode cX8_glue 23 = .ok (.aload_n 0, 1) := dc_42 (by decide +kernel)
theorem dX8_glue_24 : decode cX8_glue 24 = .ok (.iload_n 3, 1) := dc_29 (by decide +kernel)
theorem dX8_glue_25 : decode cX8_glue 25 = .ok (.invokevirtual 360, 3) := dc_182 (a := 1) (b := 104) (n := 360) (by decide +kernel)
theorem dX8_glue_28 : decode cX8_glue 28 = .ok (.istore 4, 2) := dc_54 (a := 4) (by decide +kernel)
theorem dX8_glue_30 : decode cX8_glue 30 = .ok (.iconst 0, 1) := dc_3 (by decide +kernel)
theorem dX8_glue_31 : decode cX8_glue 31 = .ok (.istore 5, 2) := dc_54 (a := 5) (by decide +kernel)
theorem dX8_glue_33 : decode cX8_glue 33 = .ok (.iload 5, 2) := dc_21 (a := 5) (by decide +kernel)
theorem dX8_glue_35 : decode cX8_glue 35 = .ok (.iconst 4, 1) := dc_7 (by decide +kernel)
theorem dX8_glue_36 : decode cX8_glue 36 = .ok (.if_icmp .ge 29, 3) := dc_162 (a := 0) (b := 29) (v := 29) (by decide +kernel)
theorem dX8_glue_39 : decode cX8_glue 39 = .ok (.aload_n 0, 1) := dc_42 (by decide +kernel)
theorem dX8_glue_40 : decode cX8_glue 40 = .ok (.getfield 48, 3) := dc_180 (a := 0) (b := 48) (n := 48) (by decide +kernel)
theorem dX8_glue_43 : decode cX8_glue 43 = .ok (.iload 5, 2) := dc_21 (a := 5) (by decide +kernel)
theorem dX8_glue_45 : decode cX8_glue 45 = .ok (.aload_n 0, 1) := dc_42 (by decide +kernel)
theorem dX8_glue_46 : decode cX8_glue 46 = .ok (.getfield 12, 3) := dc_180 (a := 0) (b := 12) (n := 12) (by decide +kernel)
theorem dX8_glue_49 : decode cX8_glue 49 = .ok (.getfield 357, 3) := dc_180 (a := 1) (b := 101) (n := 357) (by decide +kernel)
theorem dX8_glue_52 : decode cX8_glue 52 = .ok (.iload 4, 2) := dc_21 (a := 4) (by decide +kernel)
theorem dX8_glue_54 : decode cX8_glue 54 = .ok (.iload 5, 2) := dc_21 (a := 5) (by decide +kernel)
theorem dX8_glue_56 : decode cX8_glue 56 = .ok (.iadd, 1) := dc_96 (by decide +kernel)
theorem dX8_glue_57 : decode cX8_glue 57 = .ok (.iaload, 1) := dc_46 (by decide +kernel)
theorem dX8_glue_58 : decode cX8_glue 58 = .ok (.iastore, 1) := dc_79 (by decide +kernel)
theorem dX8_glue_59 : decode cX8_glue 59 = .ok (.iinc 5 1, 3) := dc_132 (a := 5) (b := 1) (v := 1) (by decide +kernel)
theorem dX8_glue_62 : decode cX8_glue 62 = .ok (.goto (-29), 3) := dc_167 (a := 255) (b := 227) (v := -29) (by decide +kernel)
theorem dX8_glue_65 : decode cX8_glue 65 = .ok (.aload_n 0, 1) := dc_42 (by decide +kernel)
theorem dX8_glue_66 : decode cX8_glue 66 = .ok (.getfield 51, 3) := dc_180 (a := 0) (b := 51) (n := 51) (by decide +kernel)
theorem dX8_glue_69 : decode cX8_glue 69 = .ok (.iload_n 2, 1) := dc_28 (by decide +kernel)
theorem dX8_glue_70 : decode cX8_glue 70 = .ok (.ifCond .eq 21, 3) := dc_153 (a := 0) (b := 21) (v := 21) (by decide +kernel)
theorem dX8_glue_73 : decode cX8_glue 73 = .ok (.aload_n 0, 1) := dc_42 (by decide +kernel)
theorem dX8_glue_74 : decode cX8_glue 74 = .ok (.getfield 48, 3) := dc_180 (a := 0) (b := 48) (n := 48) (by decide +kernel)
theorem dX8_glue_77 : decode cX8_glue 77 = .ok (.iconst 1, 1) := dc_4 (by decide +kernel)
theorem dX8_glue_78 : decode cX8_glue 78 = .ok (.iaload, 1) := dc_46 (by decide +kernel)
theorem dX8_glue_79 : decode cX8_glue 79 = .ok (.ifCond .ne 16, 3) := dc_154 (a := 0) (b := 16) (v := 16) (by decide +kernel)
theorem dX8_glue_82 : decode cX8_glue 82 = .ok (.aload_n 0, 1) := dc_42 (by decide +kernel)
theorem dX8_glue_83 : decode cX8_glue 83 = .ok (.getfield 48, 3) := dc_180 (a := 0) (b := 48) (n := 48) (by decide +kernel)
theorem dX8_glue_86 : decode cX8_glue 86 = .ok (.iconst 3, 1) := dc_6 (by decide +kernel)
theorem dX8_glue_87 : decode cX8_glue 87 = .ok (.iaload, 1) := dc_46 (by decide +kernel)
theorem dX8_glue_88 : decode cX8_glue 88 = .ok (.ifCond .ne 7, 3) := dc_154 (a := 0) (b := 7) (v := 7) (by decide +kernel)
theorem dX8_glue_91 : decode cX8_glue 91 = .ok (.iconst 1, 1) := dc_4 (by decide +kernel)
theorem dX8_glue_92 : decode cX8_glue 92 = .ok (.goto 4, 3) := dc_167 (a := 0) (b := 4) (v := 4) (by decide +kernel)
theorem dX8_glue_95 : decode cX8_glue 95 = .ok (.iconst 0, 1) := dc_3 (by decide +kernel)
theorem dX8_glue_96 : decode cX8_glue 96 = .ok (.bipush 7, 2) := dc_16 (a := 7) (v := 7) (by decide +kernel)
theorem dX8_glue_98 : decode cX8_glue 98 = .ok (.invokevirtual 145, 3) := dc_182 (a := 0) (b := 145) (n := 145) (by decide +kernel)
theorem dX8_glue_101 : decode cX8_glue 101 = .ok (.aload_n 0, 1) := dc_42 (by decide +kernel)
theorem dX8_glue_102 : decode cX8_glue 102 = .ok (.getfield 48, 3) := dc_180 (a := 0) (b := 48) (n := 48) (by decide +kernel)
theorem dX8_glue_105 : decode cX8_glue 105 = .ok (.iconst 0, 1) := dc_3 (by decide +kernel)
theorem dX8_glue_106 : decode cX8_glue 106 = .ok (.iload_n 2, 1) := dc_28 (by decide +kernel)
theorem dX8_glue_107 : decode cX8_glue 107 = .ok (.ifCond .eq 13, 3) := dc_153 (a := 0) (b := 13) (v := 13) (by decide +kernel)
theorem dX8_glue_110 : decode cX8_glue 110 = .ok (.aload_n 0, 1) := dc_42 (by decide +kernel)
theorem dX8_glue_111 : decode cX8_glue 111 = .ok (.getfield 48, 3) := dc_180 (a := 0) (b := 48) (n := 48) (by decide +kernel)
theorem dX8_glue_114 : decode cX8_glue 114 = .ok (.iconst 0, 1) := dc_3 (by decide +kernel)
theorem dX8_glue_115 : decode cX8_glue 115 = .ok (.iaload, 1) := dc_46 (by decide +kernel)
theorem dX8_glue_116 : decode cX8_glue 116 = .ok (.ineg, 1) := dc_116 (by decide +kernel)
theorem dX8_glue_117 : decode cX8_glue 117 = .ok (.goto 9, 3) := dc_167 (a := 0) (b := 9) (v := 9) (by decide +kernel)
theorem dX8_glue_120 : decode cX8_glue 120 = .ok (.aload_n 0, 1) := dc_42 (by decide +kernel)
theorem dX8_glue_121 : decode cX8_glue 121 = .ok (.getfield 48, 3) := dc_180 (a := 0) (b := 48) (n := 48) (by decide +kernel)
theorem dX8_glue_124 : decode cX8_glue 124 = .ok (.iconst 0, 1) := dc_3 (by decide +kernel)
theorem dX8_glue_125 : decode cX8_glue 125 = .ok (.iaload, 1) := dc_46 (by decide +kernel)
theorem dX8_glue_126 : decode cX8_glue 126 = .ok (.iastore, 1) := dc_79 (by decide +kernel)
theorem dX8_glue_127 : decode cX8_glue 127 = .ok (.return_, 1) := dc_177 (by decide +kernel)
theorem dX8_glue_128 : decode cX8_glue 128 = .ok (.aload_n 0, 1) := dc_42 (by decide +kernel)
theorem dX8_glue_129 : decode cX8_glue 129 = .ok (.iload_n 1, 1) := dc_27 (by decide +kernel)
theorem dX8_glue_130 : decode cX8_glue 130 = .ok (.iload_n 2, 1) := dc_28 (by decide +kernel)
theorem dX8_glue_131 : decode cX8_glue 131 = .ok (.invokevirtual 466, 3) := dc_182 (a := 1) (b := 210) (n := 466) (by decide +kernel)
theorem dX8_glue_134 : decode cX8_glue 134 = .ok (.istore 4, 2) := dc_54 (a := 4) (by decide +kernel)
theorem dX8_glue_136 : decode cX8_glue 136 = .ok (.aload_n 0, 1) := dc_42 (by decide +kernel)
theorem dX8_glue_137 : decode cX8_glue 137 = .ok (.ldc_w 492, 3) := dc_19 (a := 1) (b := 236) (n := 492) (by decide +kernel)
theorem dX8_glue_140 : decode cX8_glue 140 = .ok (.invokevirtual 419, 3) := dc_182 (a := 1) (b := 163) (n := 419) (by decide +kernel)
theorem dX8_glue_143 : decode cX8_glue 143 = .ok (.ifCond .eq 10, 3) := dc_153 (a := 0) (b := 10) (v := 10) (by decide +kernel)
theorem dX8_glue_146 : decode cX8_glue 146 = .ok (.aload_n 0, 1) := dc_42 (by decide +kernel)
theorem dX8_glue_147 : decode cX8_glue 147 = .ok (.invokevirtual 494, 3) := dc_182 (a := 1) (b := 238) (n := 494) (by decide +kernel)
theorem dX8_glue_150 : decode cX8_glue 150 = .ok (.goto 4, 3) := dc_167 (a := 0) (b := 4) (v := 4) (by decide +kernel)
theorem dX8_glue_153 : decode cX8_glue 153 = .ok (.iconst 0, 1) := dc_3 (by decide +kernel)
theorem dX8_glue_154 : decode cX8_glue 154 = .ok (.istore 5, 2) := dc_54 (a := 5) (by decide +kernel)
theorem dX8_glue_156 : decode cX8_glue 156 = .ok (.aload_n 0, 1) := dc_42 (by decide +kernel)
theorem dX8_glue_157 : decode cX8_glue 157 = .ok (.getfield 480, 3) := dc_180 (a := 1) (b := 224) (n := 480) (by decide +kernel)
theorem dX8_glue_160 : decode cX8_glue 160 = .ok (.istore 6, 2) := dc_54 (a := 6) (by decide +kernel)
theorem dX8_glue_162 : decode cX8_glue 162 = .ok (.aload_n 0, 1) := dc_42 (by decide +kernel)
theorem dX8_glue_163 : decode cX8_glue 163 = .ok (.ldc_w 497, 3) := dc_19 (a := 1) (b := 241) (n := 497) (by decide +kernel)
theorem dX8_glue_166 : decode cX8_glue 166 = .ok (.invokevirtual 419, 3) := dc_182 (a := 1) (b := 163) (n := 419) (by decide +kernel)
theorem dX8_glue_169 : decode cX8_glue 169 = .ok (.ifCond .eq 14, 3) := dc_153 (a := 0) (b := 14) (v := 14) (by decide +kernel)
theorem dX8_glue_172 : decode cX8_glue 172 = .ok (.aload_n 0, 1) := dc_42 (by decide +kernel)
theorem dX8_glue_173 : decode cX8_glue 173 = .ok (.aload_n 0, 1) := dc_42 (by decide +kernel)
theorem dX8_glue_174 : decode cX8_glue 174 = .ok (.invokevirtual 499, 3) := dc_182 (a := 1) (b := 243) (n := 499) (by decide +kernel)
theorem dX8_glue_177 : decode cX8_glue 177 = .ok (.invokevirtual 483, 3) := dc_182 (a := 1) (b := 227) (n := 483) (by decide +kernel)
theorem dX8_glue_180 : decode cX8_glue 180 = .ok (.goto 4, 3) := dc_167 (a := 0) (b := 4) (v := 4) (by decide +kernel)
theorem dX8_glue_183 : decode cX8_glue 183 = .ok (.iconst 0, 1) := dc_3 (by decide +kernel)
theorem dX8_glue_184 : decode cX8_glue 184 = .ok (.istore 7, 2) := dc_54 (a := 7) (by decide +kernel)
theorem dX8_glue_186 : decode cX8_glue 186 = .ok (.aload_n 0, 1) := dc_42 (by decide +kernel)
theorem dX8_glue_187 : decode cX8_glue 187 = .ok (.getfield 48, 3) := dc_180 (a := 0) (b := 48) (n := 48) (by decide +kernel)
theorem dX8_glue_190 : decode cX8_glue 190 = .ok (.iconst 0, 1) := dc_3 (by decide +kernel)
theorem dX8_glue_191 : decode cX8_glue 191 = .ok (.iload 4, 2) := dc_21 (a := 4) (by decide +kernel)
theorem dX8_glue_193 : decode cX8_glue 193 = .ok (.iastore, 1) := dc_79 (by decide +kernel)
theorem dX8_glue_194 : decode cX8_glue 194 = .ok (.aload_n 0, 1) := dc_42 (by decide +kernel)
theorem dX8_glue_195 : decode cX8_glue 195 = .ok (.getfield 48, 3) := dc_180 (a := 0) (b := 48) (n := 48) (by decide +kernel)
theorem dX8_glue_198 : decode cX8_glue 198 = .ok (.iconst 1, 1) := dc_4 (by decide +kernel)
theorem dX8_glue_199 : decode cX8_glue 199 = .ok (.iload 5, 2) := dc_21 (a := 5) (by decide +kernel)
theorem dX8_glue_201 : decode cX8_glue 201 = .ok (.iastore, 1) := dc_79 (by decide +kernel)
theorem dX8_glue_202 : decode cX8_glue 202 = .ok (.aload_n 0, 1) := dc_42 (by decide +kernel)
theorem dX8_glue_203 : decode cX8_glue 203 = .ok (.getfield 48, 3) := dc_180 (a := 0) (b := 48) (n := 48) (by decide +kernel)
theorem dX8_glue_206 : decode cX8_glue 206 = .ok (.iconst 2, 1) := dc_5 (by decide +kernel)
theorem dX8_glue_207 : decode cX8_glue 207 = .ok (.iload 5, 2) := dc_21 (a := 5) (by decide +kernel)
theorem dX8_glue_209 : decode cX8_glue 209 = .ok (.ifCond .ne 7, 3) := dc_154 (a := 0) (b := 7) (v := 7) (by decide +kernel)
theorem dX8_glue_212 : decode cX8_glue 212 = .ok (.iconst 0, 1) := dc_3 (by decide +kernel)
theorem dX8_glue_213 : decode cX8_glue 213 = .ok (.goto 5, 3) := dc_167 (a := 0) (b := 5) (v := 5) (by decide +kernel)
theorem dX8_glue_216 : decode cX8_glue 216 = .ok (.iload 6, 2) := dc_21 (a := 6) (by decide +kernel)
theorem dX8_glue_218 : decode cX8_glue 218 = .ok (.iastore, 1) := dc_79 (by decide +kernel)
theorem dX8_glue_219 : decode cX8_glue 219 = .ok (.aload_n 0, 1) := dc_42 (by decide +kernel)
theorem dX8_glue_220 : decode cX8_glue 220 = .ok (.getfield 48, 3) := dc_180 (a := 0) (b := 48) (n := 48) (by decide +kernel)
theorem dX8_glue_223 : decode cX8_glue 223 = .ok (.iconst 3, 1) := dc_6 (by decide +kernel)
theorem dX8_glue_224 : decode cX8_glue 224 = .ok (.iload 7, 2) := dc_21 (a := 7) (by decide +kernel)
theorem dX8_glue_226 : decode cX8_glue 226 = .ok (.iastore, 1) := dc_79 (by decide +kernel)
theorem dX8_glue_227 : decode cX8_glue 227 = .ok (.return_, 1) := dc_177 (by decide +kernel)
theorem GX8_48 {w : eW} {d : Nat} {Y : eY} {pc : Nat} {ls : eL} {st : List Value} {h : eH} {Q : eO → eH → Prop} {a : Nat} {x : Nat} (hf : g_A 7 h a 29 = some x) (hd : decode Y.2.1 pc = .ok (.getfield 48, 3)) (hY : Y.1.cls = RX8) (kk : wp w d Y (pc + 3) ls (.ref x :: st) h Q) : wp w d Y pc ls (.ref a :: st) h Q := x_gA (ci := 7) (k := 29) hf hd rfl (by decide) (by rw [hY]; exact q867) kk
theorem GX8_480 {w : eW} {d : Nat} {Y : eY} {pc : Nat} {ls : eL} {st : List Value} {h : eH} {Q : eO → eH → Prop} {a : Nat} {x : Int32} (hf : g_I 7 h a 28 = some x) (hd : decode Y.2.1 pc = .ok (.getfield 480, 3)) (hY : Y.1.cls = RX8) (kk : wp w d Y (pc + 3) ls (.int x :: st) h Q) : wp w d Y pc ls (.ref a :: st) h Q := x_gI (ci := 7) (k := 28) hf hd rfl (by decide) (by rw [hY]; exact q866) kk
def fX8_glue_b126 (N : Nat) (rE : Nat → Int32 → eH → Option ((Unit ⊕ Nat) × eH)) (rN : Nat → eH → Option ((Int32 ⊕ Nat) × eH)) (s0 : Nat) (s1 : Int32) (s2 : Int32) (h : eH) : Option ((Unit ⊕ Nat) × eH) :=
  (q_V 100 h s0 s1 (.int s2)).bind fun h1 =>
  some (.inl (), h1)
theorem pX8_glue_b126 {w : eW} {d : Nat} {dr : Nat} (hd : dr + 18 ≤ d + 1) (hdr : 12 ≤ dr) {N : Nat} {rE : Nat → Int32 → eH → Option ((Unit ⊕ Nat) × eH)} {rN : Nat → eH → Option ((Int32 ⊕ Nat) × eH)} (hrE : ∀ a t0 h q, rE a t0 h = some q → wm w dr YX8_expand [.ref a, .int t0] h (e_is (e_rt c_V q))) (hrN : ∀ a h q, rN a h = some q → wm w dr YX8_number [.ref a] h (e_is (e_rt c_I q))) {s0 : Nat} {s1 : Int32} {s2 : Int32} {h : eH} {q} (hf : fX8_glue_b126 N rE rN s0 s1 s2 h = some q) : wp w (d + 1) YX8_glue 126 [none, none, none, none, none, none, none, none] [.int s2, .int s1, .ref s0] h (e_is (e_rt c_V q)) := by
  unfold fX8_glue_b126 at hf
  obtain ⟨h1, b2, hf⟩ := Option.bind_eq_some_iff.mp hf
  refine x_qI b2 dX8_glue_126 ?_
  cases hf
  exact w_vret dX8_glue_127 rfl rfl
def fX8_glue_b96 (N : Nat) (rE : Nat → Int32 → eH → Option ((Unit ⊕ Nat) × eH)) (rN : Nat → eH → Option ((Int32 ⊕ Nat) × eH)) (l0 : Nat) (l2 : Int32) (s0 : Nat) (s1 : Int32) (h : eH) : Option ((Unit ⊕ Nat) × eH) :=
  (k_ok 3 h s0).bind fun _ =>
  t_B (fX4_want s0 s1 (7 : Int32) h) fun x2 h3 =>
  (g_A 7 h3 l0 29).bind fun a4 =>
  if l2 = 0 then
    (g_A 7 h3 l0 29).bind fun a7 =>
    (r_I 100 h3 a7 (0 : Int32)).bind fun x9 =>
    fX8_glue_b126 N rE rN a4 (0 : Int32) x9 h3
  else
    (g_A 7 h3 l0 29).bind fun a11 =>
    (r_I 100 h3 a11 (0 : Int32)).bind fun x13 =>
    fX8_glue_b126 N rE rN a4 (0 : Int32) (-x13) h3
theorem pX8_glue_b96 {w : eW} {d : Nat} {dr : Nat} (hd : dr + 18 ≤ d + 1) (hdr : 12 ≤ dr) {N : Nat} {rE : Nat → Int32 → eH → Option ((Unit ⊕ Nat) × eH)} {rN : Nat → eH → Option ((Int32 ⊕ Nat) × eH)} (hrE : ∀ a t0 h q, rE a t0 h = some q → wm w dr YX8_expand [.ref a, .int t0] h (e_is (e_rt c_V q))) (hrN : ∀ a h q, rN a h = some q → wm w dr YX8_number [.ref a] h (e_is (e_rt c_I q))) {l0 : Nat} {l2 : Int32} {s0 : Nat} {s1 : Int32} {h : eH} {q} (hf : fX8_glue_b96 N rE rN l0 l2 s0 s1 h = some q) : wp w (d + 1) YX8_glue 96 [some (.ref l0), none, some (.int l2), none, none, none, none, none] [.int s1, .ref s0] h (e_is (e_rt c_V q)) := by
  unfold fX8_glue_b96 at hf
  refine w_bipush dX8_glue_96 (v := 7) (by decide) ?_
  obtain ⟨_, b1, hf⟩ := Option.bind_eq_some_iff.mp hf
  refine x_ctV hf (e_stV (Yc := YX4_want) (ci := 3) (av := [.int s1, .int (7 : Int32)]) (st := []) dX8_glue_98 q2500 mX4_want rfl (k_ok_some b1).1 (k_ok_some b1).2) mX4_want.2.2.1 mX4_want.2.2.2.2.1 (Nat.le_of_ble_eq_true rfl) (Nat.le_of_ble_eq_true rfl) rfl (fun q hq => pX4_want (by omega) hq) (fun x2 h3 hf => ?_)
  refine w_aload_n dX8_glue_101 rfl rfl ?_
  obtain ⟨a4, b5, hf⟩ := Option.bind_eq_some_iff.mp hf
  refine GX8_48 b5 dX8_glue_102 rfl ?_
  refine w_iconst dX8_glue_105 (v := 0) (by decide) ?_
  refine w_iload_n dX8_glue_106 rfl rfl ?_
  refine w_if_eq 120 dX8_glue_107 (by decide) (fun c6 => ?_) (fun c6 => ?_)
  · replace hf := (if_pos (show l2 = 0 from c6)).symm.trans hf
    refine w_aload_n dX8_glue_120 rfl rfl ?_
    obtain ⟨a7, b8, hf⟩ := Option.bind_eq_some_iff.mp hf
    refine GX8_48 b8 dX8_glue_121 rfl ?_
    refine w_iconst dX8_glue_124 (v := 0) (by decide) ?_
    obtain ⟨x9, b10, hf⟩ := Option.bind_eq_some_iff.mp hf
    refine x_rI b10 dX8_glue_125 ?_
    exact (pX8_glue_b126 hd hdr hrE hrN hf).to trivial
  · replace hf := (if_neg (show ¬ (l2 = 0) from c6)).symm.trans hf
    refine w_aload_n dX8_glue_110 rfl rfl ?_
    obtain ⟨a11, b12, hf⟩ := Option.bind_eq_some_iff.mp hf
    refine GX8_48 b12 dX8_glue_111 rfl ?_
    refine w_iconst dX8_glue_114 (v := 0) (by decide) ?_
    obtain ⟨x13, b14, hf⟩ := Option.bind_eq_some_iff.mp hf
    refine x_rI b14 dX8_glue_115 ?_
    refine w_ineg dX8_glue_116 ?_
    refine w_goto 126 dX8_glue_117 (by decide) ?_
    exact (pX8_glue_b126 hd hdr hrE hrN hf).to trivial
def fX8_glue_b91 (N : Nat) (rE : Nat → Int32 → eH → Option ((Unit ⊕ Nat) × eH)) (rN : Nat → eH → Option ((Int32 ⊕ Nat) × eH)) (l0 : Nat) (l2 : Int32) (s0 : Nat) (h : eH) : Option ((Unit ⊕ Nat) × eH) :=
  fX8_glue_b96 N rE rN l0 l2 s0 (1 : Int32) h
theorem pX8_glue_b91 {w : eW} {d : Nat} {dr : Nat} (hd : dr + 18 ≤ d + 1) (hdr : 12 ≤ dr) {N : Nat} {rE : Nat → Int32 → eH → Option ((Unit ⊕ Nat) × eH)} {rN : Nat → eH → Option ((Int32 ⊕ Nat) × eH)} (hrE : ∀ a t0 h q, rE a t0 h = some q → wm w dr YX8_expand [.ref a, .int t0] h (e_is (e_rt c_V q))) (hrN : ∀ a h q, rN a h = some q → wm w dr YX8_number [.ref a] h (e_is (e_rt c_I q))) {l0 : Nat} {l2 : Int32} {s0 : Nat} {h : eH} {q} (hf : fX8_glue_b91 N rE rN l0 l2 s0 h = some q) : wp w (d + 1) YX8_glue 91 [some (.ref l0), none, some (.int l2), none, none, none, none, none] [.ref s0] h (e_is (e_rt c_V q)) := by
  unfold fX8_glue_b91 at hf
  refine w_iconst dX8_glue_91 (v := 1) (by decide) ?_
  refine w_goto 96 dX8_glue_92 (by decide) ?_
  exact (pX8_glue_b96 hd hdr hrE hrN hf).to ⟨rfl, rfl, trivial⟩
def fX8_glue_b95 (N : Nat) (rE : Nat → Int32 → eH → Option ((Unit ⊕ Nat) × eH)) (rN : Nat → eH → Option ((Int32 ⊕ Nat) × eH)) (l0 : Nat) (l2 : Int32) (s0 : Nat) (h : eH) : Option ((Unit ⊕ Nat) × eH) :=
  fX8_glue_b96 N rE rN l0 l2 s0 (0 : Int32) h
theorem pX8_glue_b95 {w : eW} {d : Nat} {dr : Nat} (hd : dr + 18 ≤ d + 1) (hdr : 12 ≤ dr) {N : Nat} {rE : Nat → Int32 → eH → Option ((Unit ⊕ Nat) × eH)} {rN : Nat → eH → Option ((Int32 ⊕ Nat) × eH)} (hrE : ∀ a t0 h q, rE a t0 h = some q → wm w dr YX8_expand [.ref a, .int t0] h (e_is (e_rt c_V q))) (hrN : ∀ a h q, rN a h = some q → wm w dr YX8_number [.ref a] h (e_is (e_rt c_I q))) {l0 : Nat} {l2 : Int32} {s0 : Nat} {h : eH} {q} (hf : fX8_glue_b95 N rE rN l0 l2 s0 h = some q) : wp w (d + 1) YX8_glue 95 [some (.ref l0), none, some (.int l2), none, none, none, none, none] [.ref s0] h (e_is (e_rt c_V q)) := by
  unfold fX8_glue_b95 at hf
  refine w_iconst dX8_glue_95 (v := 0) (by decide) ?_
  exact (pX8_glue_b96 hd hdr hrE hrN hf).to ⟨rfl, rfl, trivial⟩
def fX8_glue_b33 (N : Nat) (rE : Nat → Int32 → eH → Option ((Unit ⊕ Nat) × eH)) (rN : Nat → eH → Option ((Int32 ⊕ Nat) × eH)) : Nat → Nat → Int32 → Int32 → Int32 → eH → Option ((Unit ⊕ Nat) × eH)
  | 0, _, _, _, _, _ => none
  | n + 1, l0, l2, l4, l5, h =>
    if (4 : Int32) ≤ l5 then
      (g_A 7 h l0 0).bind fun a2 =>
      if l2 = 0 then
        fX8_glue_b91 N rE rN l0 l2 a2 h
      else
        (g_A 7 h l0 29).bind fun a5 =>
        (r_I 100 h a5 (1 : Int32)).bind fun x7 =>
        if ¬ x7 = 0 then
          fX8_glue_b95 N rE rN l0 l2 a2 h
        else
          (g_A 7 h l0 29).bind fun a10 =>
          (r_I 100 h a10 (3 : Int32)).bind fun x12 =>
          if ¬ x12 = 0 then
            fX8_glue_b95 N rE rN l0 l2 a2 h
          else
            fX8_glue_b91 N rE rN l0 l2 a2 h
    else
      (g_A 7 h l0 29).bind fun a15 =>
      (g_A 7 h l0 4).bind fun a17 =>
      (g_A 8 h a17 3).bind fun a19 =>
      (r_I 100 h a19 (l4 + l5)).bind fun x21 =>
      (q_V 100 h a15 l5 (.int x21)).bind fun h23 =>
      fX8_glue_b33 N rE rN n l0 l2 l4 (l5 + (1 : Int32)) h23
theorem pX8_glue_b33 {w : eW} {d : Nat} {dr : Nat} (hd : dr + 18 ≤ d + 1) (hdr : 12 ≤ dr) {N : Nat} {rE : Nat → Int32 → eH → Option ((Unit ⊕ Nat) × eH)} {rN : Nat → eH → Option ((Int32 ⊕ Nat) × eH)} (hrE : ∀ a t0 h q, rE a t0 h = some q → wm w dr YX8_expand [.ref a, .int t0] h (e_is (e_rt c_V q))) (hrN : ∀ a h q, rN a h = some q → wm w dr YX8_number [.ref a] h (e_is (e_rt c_I q))) : ∀ (n : Nat) l0 l2 l4 l5 h q, fX8_glue_b33 N rE rN n l0 l2 l4 l5 h = some q → wp w (d + 1) YX8_glue 33 [some (.ref l0), none, some (.int l2), none, some (.int l4), some (.int l5), none, none] [] h (e_is (e_rt c_V q)) := by
  intro n
  induction n with
  | zero => intro l0 l2 l4 l5 h q hf; simp [fX8_glue_b33] at hf
  | succ n ih =>
    intro l0 l2 l4 l5 h q hf
    rw [fX8_glue_b33] at hf
    refine w_iload dX8_glue_33 rfl ?_
    refine w_iconst dX8_glue_35 (v := 4) (by decide) ?_
    refine w_icmp_ge 65 dX8_glue_36 (by decide) (fun c1 => ?_) (fun c1 => ?_)
    · replace hf := (if_pos (show (4 : Int32) ≤ l5 from c1)).symm.trans hf
      refine w_aload_n dX8_glue_65 rfl rfl ?_
      obtain ⟨a2, b3, hf⟩ := Option.bind_eq_some_iff.mp hf
      refine GX8_51 b3 dX8_glue_66 rfl ?_
      refine w_iload_n dX8_glue_69 rfl rfl ?_
      refine w_if_eq 91 dX8_glue_70 (by decide) (fun c4 => ?_) (fun c4 => ?_)
      · replace hf := (if_pos (show l2 = 0 from c4)).symm.trans hf
        exact (pX8_glue_b91 hd hdr hrE hrN hf).to ⟨rfl, rfl, trivial⟩
      · replace hf := (if_neg (show ¬ (l2 = 0) from c4)).symm.trans hf
        refine w_aload_n dX8_glue_73 rfl rfl ?_
        obtain ⟨a5, b6, hf⟩ := Option.bind_eq_some_iff.mp hf
        refine GX8_48 b6 dX8_glue_74 rfl ?_
        refine w_iconst dX8_glue_77 (v := 1) (by decide) ?_
        obtain ⟨x7, b8, hf⟩ := Option.bind_eq_some_iff.mp hf
        refine x_rI b8 dX8_glue_78 ?_
        refine w_if_ne 95 dX8_glue_79 (by decide) (fun c9 => ?_) (fun c9 => ?_)
        · replace hf := (if_pos (show ¬ x7 = 0 from c9)).symm.trans hf
          exact (pX8_glue_b95 hd hdr hrE hrN hf).to ⟨rfl, rfl, trivial⟩
        · replace hf := (if_neg (show ¬ (¬ x7 = 0) from (fun z => z c9))).symm.trans hf
          refine w_aload_n dX8_glue_82 rfl rfl ?_
          obtain ⟨a10, b11, hf⟩ := Option.bind_eq_some_iff.mp hf
          refine GX8_48 b11 dX8_glue_83 rfl ?_
          refine w_iconst dX8_glue_86 (v := 3) (by decide) ?_
          obtain ⟨x12, b13, hf⟩ := Option.bind_eq_some_iff.mp hf
          refine x_rI b13 dX8_glue_87 ?_
          refine w_if_ne 95 dX8_glue_88 (by decide) (fun c14 => ?_) (fun c14 => ?_)
          · replace hf := (if_pos (show ¬ x12 = 0 from c14)).symm.trans hf
            exact (pX8_glue_b95 hd hdr hrE hrN hf).to ⟨rfl, rfl, trivial⟩
          · replace hf := (if_neg (show ¬ (¬ x12 = 0) from (fun z => z c14))).symm.trans hf
            exact (pX8_glue_b91 hd hdr hrE hrN hf).to ⟨rfl, rfl, trivial⟩
    · replace hf := (if_neg (show ¬ ((4 : Int32) ≤ l5) from c1)).symm.trans hf
      refine w_aload_n dX8_glue_39 rfl rfl ?_
      obtain ⟨a15, b16, hf⟩ := Option.bind_eq_some_iff.mp hf
      refine GX8_48 b16 dX8_glue_40 rfl ?_
      refine w_iload dX8_glue_43 rfl ?_
      refine w_aload_n dX8_glue_45 rfl rfl ?_
      obtain ⟨a17, b18, hf⟩ := Option.bind_eq_some_iff.mp hf
      refine GX8_12 b18 dX8_glue_46 rfl ?_
      obtain ⟨a19, b20, hf⟩ := Option.bind_eq_some_iff.mp hf
      refine GX8_357 b20 dX8_glue_49 rfl ?_
      refine w_iload dX8_glue_52 rfl ?_
      refine w_iload dX8_glue_54 rfl ?_
      refine w_iadd dX8_glue_56 ?_
      obtain ⟨x21, b22, hf⟩ := Option.bind_eq_some_iff.mp hf
      refine x_rI b22 dX8_glue_57 ?_
      obtain ⟨h23, b24, hf⟩ := Option.bind_eq_some_iff.mp hf
      refine x_qI b24 dX8_glue_58 ?_
      refine w_iinc dX8_glue_59 (v := (l5 + (1 : Int32))) rfl rfl (by decide) (ls' := [some (.ref l0), none, some (.int l2), none, some (.int l4), some (.int (l5 + (1 : Int32))), none, none]) rfl ?_
      refine w_goto 33 dX8_glue_62 (by decide) ?_
      exact (ih _ _ _ _ _ _ hf).to ⟨rfl, rfl, rfl, rfl, trivial⟩
def fX8_glue_b218 (N : Nat) (rE : Nat → Int32 → eH → Option ((Unit ⊕ Nat) × eH)) (rN : Nat → eH → Option ((Int32 ⊕ Nat) × eH)) (l0 : Nat) (l7 : Int32) (s0 : Nat) (s1 : Int32) (s2 : Int32) (h : eH) : Option ((Unit ⊕ Nat) × eH) :=
  (q_V 100 h s0 s1 (.int s2)).bind fun h1 =>
  (g_A 7 h1 l0 29).bind fun a3 =>
  (q_V 100 h1 a3 (3 : Int32) (.int l7)).bind fun h5 =>
  some (.inl (), h5)
theorem pX8_glue_b218 {w : eW} {d : Nat} {dr : Nat} (hd : dr + 18 ≤ d + 1) (hdr : 12 ≤ dr) {N : Nat} {rE : Nat → Int32 → eH → Option ((Unit ⊕ Nat) × eH)} {rN : Nat → eH → Option ((Int32 ⊕ Nat) × eH)} (hrE : ∀ a t0 h q, rE a t0 h = some q → wm w dr YX8_expand [.ref a, .int t0] h (e_is (e_rt c_V q))) (hrN : ∀ a h q, rN a h = some q → wm w dr YX8_number [.ref a] h (e_is (e_rt c_I q))) {l0 : Nat} {l7 : Int32} {s0 : Nat} {s1 : Int32} {s2 : Int32} {h : eH} {q} (hf : fX8_glue_b218 N rE rN l0 l7 s0 s1 s2 h = some q) : wp w (d + 1) YX8_glue 218 [some (.ref l0), none, none, none, none, none, none, some (.int l7)] [.int s2, .int s1, .ref s0] h (e_is (e_rt c_V q)) := by
  unfold fX8_glue_b218 at hf
  obtain ⟨h1, b2, hf⟩ := Option.bind_eq_some_iff.mp hf
  refine x_qI b2 dX8_glue_218 ?_
  refine w_aload_n dX8_glue_219 rfl rfl ?_
  obtain ⟨a3, b4, hf⟩ := Option.bind_eq_some_iff.mp hf
  refine GX8_48 b4 dX8_glue_220 rfl ?_
  refine w_iconst dX8_glue_223 (v := 3) (by decide) ?_
  refine w_iload dX8_glue_224 rfl ?_
  obtain ⟨h5, b6, hf⟩ := Option.bind_eq_some_iff.mp hf
  refine x_qI b6 dX8_glue_226 ?_
  cases hf
  exact w_vret dX8_glue_227 rfl rfl
def fX8_glue_b184 (N : Nat) (rE : Nat → Int32 → eH → Option ((Unit ⊕ Nat) × eH)) (rN : Nat → eH → Option ((Int32 ⊕ Nat) × eH)) (l0 : Nat) (l4 : Int32) (l5 : Int32) (l6 : Int32) (s0 : Int32) (h : eH) : Option ((Unit ⊕ Nat) × eH) :=
  (g_A 7 h l0 29).bind fun a1 =>
  (q_V 100 h a1 (0 : Int32) (.int l4)).bind fun h3 =>
  (g_A 7 h3 l0 29).bind fun a5 =>
  (q_V 100 h3 a5 (1 : Int32) (.int l5)).bind fun h7 =>
  (g_A 7 h7 l0 29).bind fun a9 =>
  if ¬ l5 = 0 then
    fX8_glue_b218 N rE rN l0 s0 a9 (2 : Int32) l6 h7
  else
    fX8_glue_b218 N rE rN l0 s0 a9 (2 : Int32) (0 : Int32) h7
theorem pX8_glue_b184 {w : eW} {d : Nat} {dr : Nat} (hd : dr + 18 ≤ d + 1) (hdr : 12 ≤ dr) {N : Nat} {rE : Nat → Int32 → eH → Option ((Unit ⊕ Nat) × eH)} {rN : Nat → eH → Option ((Int32 ⊕ Nat) × eH)} (hrE : ∀ a t0 h q, rE a t0 h = some q → wm w dr YX8_expand [.ref a, .int t0] h (e_is (e_rt c_V q))) (hrN : ∀ a h q, rN a h = some q → wm w dr YX8_number [.ref a] h (e_is (e_rt c_I q))) {l0 : Nat} {l4 : Int32} {l5 : Int32} {l6 : Int32} {s0 : Int32} {h : eH} {q} (hf : fX8_glue_b184 N rE rN l0 l4 l5 l6 s0 h = some q) : wp w (d + 1) YX8_glue 184 [some (.ref l0), none, none, none, some (.int l4), some (.int l5), some (.int l6), none] [.int s0] h (e_is (e_rt c_V q)) := by
  unfold fX8_glue_b184 at hf
  refine w_istore dX8_glue_184 (by decide) (ls' := [some (.ref l0), none, none, none, some (.int l4), some (.int l5), some (.int l6), some (.int s0)]) rfl ?_
  refine w_aload_n dX8_glue_186 rfl rfl ?_
  obtain ⟨a1, b2, hf⟩ := Option.bind_eq_some_iff.mp hf
  refine GX8_48 b2 dX8_glue_187 rfl ?_
  refine w_iconst dX8_glue_190 (v := 0) (by decide) ?_
  refine w_iload dX8_glue_191 rfl ?_
  obtain ⟨h3, b4, hf⟩ := Option.bind_eq_some_iff.mp hf
  refine x_qI b4 dX8_glue_193 ?_
  refine w_aload_n dX8_glue_194 rfl rfl ?_
  obtain ⟨a5, b6, hf⟩ := Option.bind_eq_some_iff.mp hf
  refine GX8_48 b6 dX8_glue_195 rfl ?_
  refine w_iconst dX8_glue_198 (v := 1) (by decide) ?_
  refine w_iload dX8_glue_199 rfl ?_
  obtain ⟨h7, b8, hf⟩ := Option.bind_eq_some_iff.mp hf
  refine x_qI b8 dX8_glue_201 ?_
  refine w_aload_n dX8_glue_202 rfl rfl ?_
  obtain ⟨a9, b10, hf⟩ := Option.bind_eq_some_iff.mp hf
  refine GX8_48 b10 dX8_glue_203 rfl ?_
  refine w_iconst dX8_glue_206 (v := 2) (by decide) ?_
  refine w_iload dX8_glue_207 rfl ?_
  refine w_if_ne 216 dX8_glue_209 (by decide) (fun c11 => ?_) (fun c11 => ?_)
  · replace hf := (if_pos (show ¬ l5 = 0 from c11)).symm.trans hf
    refine w_iload dX8_glue_216 rfl ?_
    exact (pX8_glue_b218 hd hdr hrE hrN hf).to ⟨rfl, rfl, trivial⟩
  · replace hf := (if_neg (show ¬ (¬ l5 = 0) from (fun z => z c11))).symm.trans hf
    refine w_iconst dX8_glue_212 (v := 0) (by decide) ?_
    refine w_goto 218 dX8_glue_213 (by decide) ?_
    exact (pX8_glue_b218 hd hdr hrE hrN hf).to ⟨rfl, rfl, trivial⟩
def fX8_glue_b154 (N : Nat) (rE : Nat → Int32 → eH → Option ((Unit ⊕ Nat) × eH)) (rN : Nat → eH → Option ((Int32 ⊕ Nat) × eH)) (l0 : Nat) (l4 : Int32) (s0 : Int32) (h : eH) : Option ((Unit ⊕ Nat) × eH) :=
  (g_I 7 h l0 28).bind fun x1 =>
  (k_ok 7 h l0).bind fun _ =>
  t_B (fX8_keyword N rE l0 1000000116 h) fun x4 h5 =>
  if x4 = 0 then
    fX8_glue_b184 N rE rN l0 l4 s0 x1 (0 : Int32) h5
  else
    (k_ok 7 h5 l0).bind fun _ =>
    t_B (fX8_dimension N rE rN l0 h5) fun x8 h9 =>
    (k_ok 7 h9 l0).bind fun _ =>
    t_B (fX8_more l0 x8 h9) fun x11 h12 =>
    fX8_glue_b184 N rE rN l0 l4 s0 x1 x11 h12
theorem pX8_glue_b154 {w : eW} {d : Nat} {dr : Nat} (hd : dr + 18 ≤ d + 1) (hdr : 12 ≤ dr) {N : Nat} {rE : Nat → Int32 → eH → Option ((Unit ⊕ Nat) × eH)} {rN : Nat → eH → Option ((Int32 ⊕ Nat) × eH)} (hrE : ∀ a t0 h q, rE a t0 h = some q → wm w dr YX8_expand [.ref a, .int t0] h (e_is (e_rt c_V q))) (hrN : ∀ a h q, rN a h = some q → wm w dr YX8_number [.ref a] h (e_is (e_rt c_I q))) {l0 : Nat} {l4 : Int32} {s0 : Int32} {h : eH} {q} (hf : fX8_glue_b154 N rE rN l0 l4 s0 h = some q) : wp w (d + 1) YX8_glue 154 [some (.ref l0), none, none, none, some (.int l4), none, none, none] [.int s0] h (e_is (e_rt c_V q)) := by
  unfold fX8_glue_b154 at hf
  refine w_istore dX8_glue_154 (by decide) (ls' := [some (.ref l0), none, none, none, some (.int l4), some (.int s0), none, none]) rfl ?_
  refine w_aload_n dX8_glue_156 rfl rfl ?_
  obtain ⟨x1, b2, hf⟩ := Option.bind_eq_some_iff.mp hf
  refine GX8_480 b2 dX8_glue_157 rfl ?_
  refine w_istore dX8_glue_160 (by decide) (ls' := [some (.ref l0), none, none, none, some (.int l4), some (.int s0), some (.int x1), none]) rfl ?_
  refine w_aload_n dX8_glue_162 rfl rfl ?_
  refine x_ldcSw (k := 16) dX8_glue_163 rfl ?_
  obtain ⟨_, b3, hf⟩ := Option.bind_eq_some_iff.mp hf
  refine x_ctI hf (e_stV (Yc := YX8_keyword) (ci := 7) (av := [.ref 1000000116]) (st := []) dX8_glue_166 q2743 mX8_keyword rfl (k_ok_some b3).1 (k_ok_some b3).2) mX8_keyword.2.2.1 mX8_keyword.2.2.2.2.1 (Nat.le_of_ble_eq_true rfl) (Nat.le_of_ble_eq_true rfl) rfl (fun q hq => pX8_keyword (by omega) hdr hrE hq) (fun x4 h5 hf => ?_)
  refine w_if_eq 183 dX8_glue_169 (by decide) (fun c6 => ?_) (fun c6 => ?_)
  · replace hf := (if_pos (show x4 = 0 from c6)).symm.trans hf
    refine w_iconst dX8_glue_183 (v := 0) (by decide) ?_
    exact (pX8_glue_b184 hd hdr hrE hrN hf).to ⟨rfl, rfl, rfl, rfl, trivial⟩
  · replace hf := (if_neg (show ¬ (x4 = 0) from c6)).symm.trans hf
    refine w_aload_n dX8_glue_172 rfl rfl ?_
    refine w_aload_n dX8_glue_173 rfl rfl ?_
    obtain ⟨_, b7, hf⟩ := Option.bind_eq_some_iff.mp hf
    refine x_ctI hf (e_stV (Yc := YX8_dimension) (ci := 7) (av := []) (st := [.ref l0]) dX8_glue_174 q2710 mX8_dimension rfl (k_ok_some b7).1 (k_ok_some b7).2) mX8_dimension.2.2.1 mX8_dimension.2.2.2.2.1 (Nat.le_of_ble_eq_true rfl) (Nat.le_of_ble_eq_true rfl) rfl (fun q hq => pX8_dimension (by omega) hdr hrE hrN hq) (fun x8 h9 hf => ?_)
    obtain ⟨_, b10, hf⟩ := Option.bind_eq_some_iff.mp hf
    refine x_ctI hf (e_stV (Yc := YX8_more) (ci := 7) (av := [.int x8]) (st := []) dX8_glue_177 q3972 mX8_more rfl (k_ok_some b10).1 (k_ok_some b10).2) mX8_more.2.2.1 mX8_more.2.2.2.2.1 (Nat.le_of_ble_eq_true rfl) (Nat.le_of_ble_eq_true rfl) rfl (fun q hq => pX8_more (by omega) hq) (fun x11 h12 hf => ?_)
    refine w_goto 184 dX8_glue_180 (by decide) ?_
    exact (pX8_glue_b184 hd hdr hrE hrN hf).to ⟨rfl, rfl, rfl, rfl, trivial⟩
def fX8_glue (N : Nat) (rE : Nat → Int32 → eH → Option ((Unit ⊕ Nat) × eH)) (rN : Nat → eH → Option ((Int32 ⊕ Nat) × eH)) (this : Nat) (h : eH) : Option ((Unit ⊕ Nat) × eH) :=
  (k_ok 7 h this).bind fun _ =>
  t_B (fX8_signed N rE this h) fun x2 h3 =>
  (g_I 7 h3 this 27).bind fun x4 =>
  (k_ok 7 h3 this).bind fun _ =>
  (fX8_primitive this x2 h3).bind fun q7 =>
  (fX8_isGlue q7.1 q7.2).bind fun q8 =>
  if q8.1 = 0 then
    (k_ok 7 q8.2 this).bind fun _ =>
    t_B (fX8_dimension_2 N rE rN this x2 x4 q8.2) fun x11 h12 =>
    (k_ok 7 h12 this).bind fun _ =>
    t_B (fX8_keyword N rE this 1000000113 h12) fun x14 h15 =>
    if x14 = 0 then
      fX8_glue_b154 N rE rN this x11 (0 : Int32) h15
    else
      (k_ok 7 h15 this).bind fun _ =>
      t_B (fX8_stretch N rE rN this h15) fun x18 h19 =>
      fX8_glue_b154 N rE rN this x11 x18 h19
  else
    (k_ok 7 q8.2 this).bind fun _ =>
    t_B (fX8_cellOf rN this q7.1 q8.2) fun x21 h22 =>
    fX8_glue_b33 N rE rN N this x4 x21 (0 : Int32) h22
theorem pX8_glue {w : eW} {d : Nat} {dr : Nat} (hd : dr + 18 ≤ d) (hdr : 12 ≤ dr) {N : Nat} {rE : Nat → Int32 → eH → Option ((Unit ⊕ Nat) × eH)} {rN : Nat → eH → Option ((Int32 ⊕ Nat) × eH)} (hrE : ∀ a t0 h q, rE a t0 h = some q → wm w dr YX8_expand [.ref a, .int t0] h (e_is (e_rt c_V q))) (hrN : ∀ a h q, rN a h = some q → wm w dr YX8_number [.ref a] h (e_is (e_rt c_I q))) {this : Nat} {h : eH} {q} (hf : fX8_glue N rE rN this h = some q) : wm w d YX8_glue [.ref this] h (e_is (e_rt c_V q)) := by
  obtain ⟨d, rfl⟩ : ∃ e, d = e + 1 := ⟨d - 1, by omega⟩
  show wp w (d + 1) YX8_glue 0 [some (.ref this), none, none, none, none, none, none, none] [] h _
  unfold fX8_glue at hf
  refine w_aload_n dX8_glue_0 rfl rfl ?_
  obtain ⟨_, b1, hf⟩ := Option.bind_eq_some_iff.mp hf
  refine x_ctI hf (e_stV (Yc := YX8_signed) (ci := 7) (av := []) (st := []) dX8_glue_1 q2714 mX8_signed rfl (k_ok_some b1).1 (k_ok_some b1).2) mX8_signed.2.2.1 mX8_signed.2.2.2.2.1 (Nat.le_of_ble_eq_true rfl) (Nat.le_of_ble_eq_true rfl) rfl (fun q hq => pX8_signed (by omega) hdr hrE hq) (fun x2 h3 hf => ?_)
  refine w_istore_n dX8_glue_4 rfl (by decide) (ls' := [some (.ref this), some (.int x2), none, none, none, none, none, none]) rfl ?_
  refine w_aload_n dX8_glue_5 rfl rfl ?_
  obtain ⟨x4, b5, hf⟩ := Option.bind_eq_some_iff.mp hf
  refine GX8_459 b5 dX8_glue_6 rfl ?_
  refine w_istore_n dX8_glue_9 rfl (by decide) (ls' := [some (.ref this), some (.int x2), some (.int x4), none, none, none, none, none]) rfl ?_
  refine w_aload_n dX8_glue_10 rfl rfl ?_
  refine w_iload_n dX8_glue_11 rfl rfl ?_
  obtain ⟨_, b6, hf⟩ := Option.bind_eq_some_iff.mp hf
  refine x_cnI hf (e_stV (Yc := YX8_primitive) (ci := 7) (av := [.int x2]) (st := []) dX8_glue_12 q2568 mX8_primitive rfl (k_ok_some b6).1 (k_ok_some b6).2) mX8_primitive.2.2.1 mX8_primitive.2.2.2.2.1 (Nat.le_of_ble_eq_true rfl) (Nat.le_of_ble_eq_true rfl) (fun q hq => pX8_primitive (by omega) hq) (fun q7 hf => ?_)
  refine w_istore_n dX8_glue_15 rfl (by decide) (ls' := [some (.ref this), some (.int x2), some (.int x4), some (.int q7.1), none, none, none, none]) rfl ?_
  refine w_iload_n dX8_glue_16 rfl rfl ?_
  refine x_cnI hf (e_stS (Yc := YX8_isGlue) (av := [.int q7.1]) (st := []) dX8_glue_17 q2622 mX8_isGlue) mX8_isGlue.2.2.1 mX8_isGlue.2.2.2.2.1 (Nat.le_of_ble_eq_true rfl) (Nat.le_of_ble_eq_true rfl) (fun q hq => pX8_isGlue (by omega) hq) (fun q8 hf => ?_)
  refine w_if_eq 128 dX8_glue_20 (by decide) (fun c9 => ?_) (fun c9 => ?_)
  · replace hf := (if_pos (show q8.1 = 0 from c9)).symm.trans hf
    refine w_aload_n dX8_glue_128 rfl rfl ?_
    refine w_iload_n dX8_glue_129 rfl rfl ?_
    refine w_iload_n dX8_glue_130 rfl rfl ?_
    obtain ⟨_, b10, hf⟩ := Option.bind_eq_some_iff.mp hf
    refine x_ctI hf (e_stV (Yc := YX8_dimension_2) (ci := 7) (av := [.int x2, .int x4]) (st := []) dX8_glue_131 q2718 mX8_dimension_2 rfl (k_ok_some b10).1 (k_ok_some b10).2) mX8_dimension_2.2.2.1 mX8_dimension_2.2.2.2.2.1 (Nat.le_of_ble_eq_true rfl) (Nat.le_of_ble_eq_true rfl) rfl (fun q hq => pX8_dimension_2 (by omega) hdr hrE hrN hq) (fun x11 h12 hf => ?_)
    refine w_istore dX8_glue_134 (by decide) (ls' := [some (.ref this), some (.int x2), some (.int x4), some (.int q7.1), some (.int x11), none, none, none]) rfl ?_
    refine w_aload_n dX8_glue_136 rfl rfl ?_
    refine x_ldcSw (k := 13) dX8_glue_137 rfl ?_
    obtain ⟨_, b13, hf⟩ := Option.bind_eq_some_iff.mp hf
    refine x_ctI hf (e_stV (Yc := YX8_keyword) (ci := 7) (av := [.ref 1000000113]) (st := []) dX8_glue_140 q2743 mX8_keyword rfl (k_ok_some b13).1 (k_ok_some b13).2) mX8_keyword.2.2.1 mX8_keyword.2.2.2.2.1 (Nat.le_of_ble_eq_true rfl) (Nat.le_of_ble_eq_true rfl) rfl (fun q hq => pX8_keyword (by omega) hdr hrE hq) (fun x14 h15 hf => ?_)
    refine w_if_eq 153 dX8_glue_143 (by decide) (fun c16 => ?_) (fun c16 => ?_)
    · replace hf := (if_pos (show x14 = 0 from c16)).symm.trans hf
      refine w_iconst dX8_glue_153 (v := 0) (by decide) ?_
      exact (pX8_glue_b154 hd hdr hrE hrN hf).to ⟨rfl, rfl, trivial⟩
    · replace hf := (if_neg (show ¬ (x14 = 0) from c16)).symm.trans hf
      refine w_aload_n dX8_glue_146 rfl rfl ?_
      obtain ⟨_, b17, hf⟩ := Option.bind_eq_some_iff.mp hf
      refine x_ctI hf (e_stV (Yc := YX8_stretch) (ci := 7) (av := []) (st := []) dX8_glue_147 q3968 mX8_stretch rfl (k_ok_some b17).1 (k_ok_some b17).2) mX8_stretch.2.2.1 mX8_stretch.2.2.2.2.1 (Nat.le_of_ble_eq_true rfl) (Nat.le_of_ble_eq_true rfl) rfl (fun q hq => pX8_stretch (by omega) hdr hrE hrN hq) (fun x18 h19 hf => ?_)
      refine w_goto 154 dX8_glue_150 (by decide) ?_
      exact (pX8_glue_b154 hd hdr hrE hrN hf).to ⟨rfl, rfl, trivial⟩
  · replace hf := (if_neg (show ¬ (q8.1 = 0) from c9)).symm.trans hf
    refine w_aload_n dX8_glue_23 rfl rfl ?_
    refine w_iload_n dX8_glue_24 rfl rfl ?_
    obtain ⟨_, b20, hf⟩ := Option.bind_eq_some_iff.mp hf
    refine x_ctI hf (e_stV (Yc := YX8_cellOf) (ci := 7) (av := [.int q7.1]) (st := []) dX8_glue_25 q2629 mX8_cellOf rfl (k_ok_some b20).1 (k_ok_some b20).2) mX8_cellOf.2.2.1 mX8_cellOf.2.2.2.2.1 (Nat.le_of_ble_eq_true rfl) (Nat.le_of_ble_eq_true rfl) rfl (fun q hq => pX8_cellOf (by omega) hdr hrN hq) (fun x21 h22 hf => ?_)
    refine w_istore dX8_glue_28 (by decide) (ls' := [some (.ref this), some (.int x2), some (.int x4), some (.int q7.1), some (.int x21), none, none, none]) rfl ?_
    refine w_iconst dX8_glue_30 (v := 0) (by decide) ?_
    refine w_istore dX8_glue_31 (by decide) (ls' := [some (.ref this), some (.int x2), some (.int x4), some (.int q7.1), some (.int x21), some (.int (0 : Int32)), none, none]) rfl ?_
    exact (pX8_glue_b33 hd hdr hrE hrN N _ _ _ _ _ _ hf).to ⟨rfl, rfl, rfl, rfl, trivial⟩
abbrev cX8_addGlue : ByteArray := prog_4_method_64_code
def yX8_addGlue : MethodName := ⟨RX8, "addGlue", "(I)V"⟩
def YX8_addGlue : eY := (yX8_addGlue, cX8_addGlue, 5, none, [])
theorem mX8_addGlue : e_mv YX8_addGlue RX8 1 := ⟨q3982, qs201, q3983, by decide, by decide +kernel, (e_sig (by decide +kernel))⟩
theorem dX8_addGlue_0 : decode cX8_addGlue 0 = .ok (.aload_n 0, 1) := dc_42 (by decide +kernel)
theorem dX8_addGlue_1 : decode cX8_addGlue 1 = .ok (.getfield 12, 3) := dc_180 (a := 0) (b := 12) (n := 12) (by decide +kernel)
theorem dX8_addGlue_4 : decode cX8_addGlue 4 = .ok (.getfield 357, 3) := dc_180 (a := 1) (b := 101) (n := 357) (by decide +kernel)
theorem dX8_addGlue_7 : decode cX8_addGlue 7 = .ok (.iload_n 1, 1) := dc_27 (by decide +kernel)
theorem dX8_addGlue_8 : decode cX8_addGlue 8 = .ok (.iconst 1, 1) := dc_4 (by decide +kernel)
theorem dX8_addGlue_9 : decode cX8_addGlue 9 = .ok (.iadd, 1) := dc_96 (by decide +kernel)
theorem dX8_addGlue_10 : decode cX8_addGlue 10 = .ok (.iaload, 1) := dc_46 (by decide +kernel)
theorem dX8_addGlue_11 : decode cX8_addGlue 11 = .ok (.i2l, 1) := dc_133 (by decide +kernel)
theorem dX8_addGlue_12 : decode cX8_addGlue 12 = .ok (.lstore_n 2, 1) := dc_65 (by decide +kernel)
theorem dX8_addGlue_13 : decode cX8_addGlue 13 = .ok (.aload_n 0, 1) := dc_42 (by decide +kernel)
theorem dX8_addGlue_14 : decode cX8_addGlue 14 = .ok (.getfield 12, 3) := dc_180 (a := 0) (b := 12) (n := 12) (by decide +kernel)
theorem dX8_addGlue_17 : decode cX8_addGlue 17 = .ok (.getfield 357, 3) := dc_180 (a := 1) (b := 101) (n := 357) (by decide +kernel)
theorem dX8_addGlue_20 : decode cX8_addGlue 20 = .ok (.iload_n 1, 1) := dc_27 (by decide +kernel)
theorem dX8_addGlue_21 : decode cX8_addGlue 21 = .ok (.iconst 2, 1) := dc_5 (by decide +kernel)
theorem dX8_addGlue_22 : decode cX8_addGlue 22 = .ok (.iadd, 1) := dc_96 (by decide +kernel)
theorem dX8_addGlue_23 : decode cX8_addGlue 23 = .ok (.iaload, 1) := dc_46 (by decide +kernel)
theorem dX8_addGlue_24 : decode cX8_addGlue 24 = .ok (.istore 4, 2) := dc_54 (a := 4) (by decide +kernel)
theorem dX8_addGlue_26 : decode cX8_addGlue 26 = .ok (.aload_n 0, 1) := dc_42 (by decide +kernel)
theorem dX8_addGlue_27 : decode cX8_addGlue 27 = .ok (.getfield 48, 3) := dc_180 (a := 0) (b := 48) (n := 48) (by decide +kernel)
theorem dX8_addGlue_30 : decode cX8_addGlue 30 = .ok (.iconst 0, 1) := dc_3 (by decide +kernel)
theorem dX8_addGlue_31 : decode cX8_addGlue 31 = .ok (.aload_n 0, 1) := dc_42 (by decide +kernel)
theorem dX8_addGlue_32 : decode cX8_addGlue 32 = .ok (.aload_n 0, 1) := dc_42 (by decide +kernel)
theorem dX8_addGlue_33 : decode cX8_addGlue 33 = .ok (.getfield 48, 3) := dc_180 (a := 0) (b := 48) (n := 48) (by decide +kernel)
theorem dX8_addGlue_36 : decode cX8_addGlue 36 = .ok (.iconst 0, 1) := dc_3 (by decide +kernel)
theorem dX8_addGlue_37 : decode cX8_addGlue 37 = .ok (.iaload, 1) := dc_46 (by decide +kernel)
theorem dX8_addGlue_38 : decode cX8_addGlue 38 = .ok (.i2l, 1) := dc_133 (by decide +kernel)
theorem dX8_addGlue_39 : decode cX8_addGlue 39 = .ok (.aload_n 0, 1) := dc_42 (by decide +kernel)
theorem dX8_addGlue_40 : decode cX8_addGlue 40 = .ok (.getfield 12, 3) := dc_180 (a := 0) (b := 12) (n := 12) (by decide +kernel)
theorem dX8_addGlue_43 : decode cX8_addGlue 43 = .ok (.getfield 357, 3) := dc_180 (a := 1) (b := 101) (n := 357) (by decide +kernel)
theorem dX8_addGlue_46 : decode cX8_addGlue 46 = .ok (.iload_n 1, 1) := dc_27 (by decide +kernel)
theorem dX8_addGlue_47 : decode cX8_addGlue 47 = .ok (.iaload, 1) := dc_46 (by decide +kernel)
theorem dX8_addGlue_48 : decode cX8_addGlue 48 = .ok (.i2l, 1) := dc_133 (by decide +kernel)
theorem dX8_addGlue_49 : decode cX8_addGlue 49 = .ok (.ladd, 1) := dc_97 (by decide +kernel)
theorem dX8_addGlue_50 : decode cX8_addGlue 50 = .ok (.invokevirtual 476, 3) := dc_182 (a := 1) (b := 220) (n := 476) (by decide +kernel)
theorem dX8_addGlue_53 : decode cX8_addGlue 53 = .ok (.iastore, 1) := dc_79 (by decide +kernel)
theorem dX8_addGlue_54 : decode cX8_addGlue 54 = .ok (.aload_n 0, 1) := dc_42 (by decide +kernel)
theorem dX8_addGlue_55 : decode cX8_addGlue 55 = .ok (.getfield 48, 3) := dc_180 (a := 0) (b := 48) (n := 48) (by decide +kernel)
theorem dX8_addGlue_58 : decode cX8_addGlue 58 = .ok (.iconst 3, 1) := dc_6 (by decide +kernel)
theorem dX8_addGlue_59 : decode cX8_addGlue 59 = .ok (.aload_n 0, 1) := dc_42 (by decide +kernel)
theorem dX8_addGlue_60 : decode cX8_addGlue 60 = .ok (.aload_n 0, 1) := dc_42 (by decide +kernel)
theorem dX8_addGlue_61 : decode cX8_addGlue 61 = .ok (.getfield 48, 3) := dc_180 (a := 0) (b := 48) (n := 48) (by decide +kernel)
theorem dX8_addGlue_64 : decode cX8_addGlue 64 = .ok (.iconst 3, 1) := dc_6 (by decide +kernel)
theorem dX8_addGlue_65 : decode cX8_addGlue 65 = .ok (.iaload, 1) := dc_46 (by decide +kernel)
theorem dX8_addGlue_66 : decode cX8_addGlue 66 = .ok (.i2l, 1) := dc_133 (by decide +kernel)
theorem dX8_addGlue_67 : decode cX8_addGlue 67 = .ok (.aload_n 0, 1) := dc_42 (by decide +kernel)
theorem dX8_addGlue_68 : decode cX8_addGlue 68 = .ok (.getfield 12, 3) := dc_180 (a := 0) (b := 12) (n := 12) (by decide +kernel)
theorem dX8_addGlue_71 : decode cX8_addGlue 71 = .ok (.getfield 357, 3) := dc_180 (a := 1) (b := 101) (n := 357) (by decide +kernel)
theorem dX8_addGlue_74 : decode cX8_addGlue 74 = .ok (.iload_n 1, 1) := dc_27 (by decide +kernel)
theorem dX8_addGlue_75 : decode cX8_addGlue 75 = .ok (.iconst 3, 1) := dc_6 (by decide +kernel)
theorem dX8_addGlue_76 : decode cX8_addGlue 76 = .ok (.iadd, 1) := dc_96 (by decide +kernel)
theorem dX8_addGlue_77 : decode cX8_addGlue 77 = .ok (.iaload, 1) := dc_46 (by decide +kernel)
theorem dX8_addGlue_78 : decode cX8_addGlue 78 = .ok (.i2l, 1) := dc_133 (by decide +kernel)
theorem dX8_addGlue_79 : decode cX8_addGlue 79 = .ok (.ladd, 1) := dc_97 (by decide +kernel)
theorem dX8_addGlue_80 : decode cX8_addGlue 80 = .ok (.invokevirtual 476, 3) := dc_182 (a := 1) (b := 220) (n := 476) (by decide +kernel)
theorem dX8_addGlue_83 : decode cX8_addGlue 83 = .ok (.iastore, 1) := dc_79 (by decide +kernel)
theorem dX8_addGlue_84 : decode cX8_addGlue 84 = .ok (.iload 4, 2) := dc_21 (a := 4) (by decide +kernel)
theorem dX8_addGlue_86 : decode cX8_addGlue 86 = .ok (.aload_n 0, 1) := dc_42 (by decide +kernel)
theorem dX8_addGlue_87 : decode cX8_addGlue 87 = .ok (.getfield 48, 3) := dc_180 (a := 0) (b := 48) (n := 48) (by decide +kernel)
theorem dX8_addGlue_90 : decode cX8_addGlue 90 = .ok (.iconst 2, 1) := dc_5 (by decide +kernel)
theorem dX8_addGlue_91 : decode cX8_addGlue 91 = .ok (.iaload, 1) := dc_46 (by decide +kernel)
theorem dX8_addGlue_92 : decode cX8_addGlue 92 = .ok (.if_icmp .ne 25, 3) := dc_160 (a := 0) (b := 25) (v := 25) (by decide +kernel)
theorem dX8_addGlue_95 : decode cX8_addGlue 95 = .ok (.aload_n 0, 1) := dc_42 (by decide +kernel)
theorem dX8_addGlue_96 : decode cX8_addGlue 96 = .ok (.getfield 48, 3) := dc_180 (a := 0) (b := 48) (n := 48) (by decide +kernel)
theorem dX8_addGlue_99 : decode cX8_addGlue 99 = .ok (.iconst 1, 1) := dc_4 (by decide +kernel)
theorem dX8_addGlue_100 : decode cX8_addGlue 100 = .ok (.aload_n 0, 1) := dc_42 (by decide +kernel)
theorem dX8_addGlue_101 : decode cX8_addGlue 101 = .ok (.aload_n 0, 1) := dc_42 (by decide +kernel)
theorem dX8_addGlue_102 : decode cX8_addGlue 102 = .ok (.getfield 48, 3) := dc_180 (a := 0) (b := 48) (n := 48) (by decide +kernel)
theorem dX8_addGlue_105 : decode cX8_addGlue 105 = .ok (.iconst 1, 1) := dc_4 (by decide +kernel)
theorem dX8_addGlue_106 : decode cX8_addGlue 106 = .ok (.iaload, 1) := dc_46 (by decide +kernel)
theorem dX8_addGlue_107 : decode cX8_addGlue 107 = .ok (.i2l, 1) := dc_133 (by decide +kernel)
theorem dX8_addGlue_108 : decode cX8_addGlue 108 = .ok (.lload_n 2, 1) := dc_32 (by decide +kernel)
theorem dX8_addGlue_109 : decode cX8_addGlue 109 = .ok (.ladd, 1) := dc_97 (by decide +kernel)
theorem dX8_addGlue_110 : decode cX8_addGlue 110 = .ok (.invokevirtual 476, 3) := dc_182 (a := 1) (b := 220) (n := 476) (by decide +kernel)
theorem dX8_addGlue_113 : decode cX8_addGlue 113 = .ok (.iastore, 1) := dc_79 (by decide +kernel)
theorem dX8_addGlue_114 : decode cX8_addGlue 114 = .ok (.goto 30, 3) := dc_167 (a := 0) (b := 30) (v := 30) (by decide +kernel)
theorem dX8_addGlue_117 : decode cX8_addGlue 117 = .ok (.iload 4, 2) := dc_21 (a := 4) (by decide +kernel)
theorem dX8_addGlue_119 : decode cX8_addGlue 119 = .ok (.aload_n 0, 1) := dc_42 (by decide +kernel)
theorem dX8_addGlue_120 : decode cX8_addGlue 120 = .ok (.getfield 48, 3) := dc_180 (a := 0) (b := 48) (n := 48) (by decide +kernel)
theorem dX8_addGlue_123 : decode cX8_addGlue 123 = .ok (.iconst 2, 1) := dc_5 (by decide +kernel)
theorem dX8_addGlue_124 : decode cX8_addGlue 124 = .ok (.iaload, 1) := dc_46 (by decide +kernel)
theorem dX8_addGlue_125 : decode cX8_addGlue 125 = .ok (.if_icmp .le 19, 3) := dc_164 (a := 0) (b := 19) (v := 19) (by decide +kernel)
theorem dX8_addGlue_128 : decode cX8_addGlue 128 = .ok (.aload_n 0, 1) := dc_42 (by decide +kernel)
theorem dX8_addGlue_129 : decode cX8_addGlue 129 = .ok (.getfield 48, 3) := dc_180 (a := 0) (b := 48) (n := 48) (by decide +kernel)
theorem dX8_addGlue_132 : decode cX8_addGlue 132 = .ok (.iconst 1, 1) := dc_4 (by decide +kernel)
theorem dX8_addGlue_133 : decode cX8_addGlue 133 = .ok (.lload_n 2, 1) := dc_32 (by decide +kernel)
theorem dX8_addGlue_134 : decode cX8_addGlue 134 = .ok (.l2i, 1) := dc_136 (by decide +kernel)
theorem dX8_addGlue_135 : decode cX8_addGlue 135 = .ok (.iastore, 1) := dc_79 (by decide +kernel)
theorem dX8_addGlue_136 : decode cX8_addGlue 136 = .ok (.aload_n 0, 1) := dc_42 (by decide +kernel)
theorem dX8_addGlue_137 : decode cX8_addGlue 137 = .ok (.getfield 48, 3) := dc_180 (a := 0) (b := 48) (n := 48) (by decide +kernel)
theorem dX8_addGlue_140 : decode cX8_addGlue 140 = .ok (.iconst 2, 1) := dc_5 (by decide +kernel)
theorem dX8_addGlue_141 : decode cX8_addGlue 141 = .ok (.iload 4, 2) := dc_21 (a := 4) (by decide +kernel)
theorem dX8_addGlue_143 : decode cX8_addGlue 143 = .ok (.iastore, 1) := dc_79 (by decide +kernel)
theorem dX8_addGlue_144 : decode cX8_addGlue 144 = .ok (.return_, 1) := dc_177 (by decide +kernel)
def fX8_addGlue_b144  (h : eH) : Option ((Unit ⊕ Nat) × eH) :=
  some (.inl (), h)
theorem pX8_addGlue_b144 {w : eW} {d : Nat} (hd : 9 ≤ d + 1)  {h : eH} {q} (hf : fX8_addGlue_b144  h = some q) : wp w (d + 1) YX8_addGlue 144 [none, none, none, none, none] [] h (e_is (e_rt c_V q)) := by
  unfold fX8_addGlue_b144 at hf
  cases hf
  exact w_vret dX8_addGlue_144 rfl rfl
def fX8_addGlue (this : Nat) (p0 : Int32) (h : eH) : Option ((Unit ⊕ Nat) × eH) :=
  (g_A 7 h this 4).bind fun a1 =>
  (g_A 8 h a1 3).bind fun a3 =>
  (r_I 100 h a3 (p0 + (1 : Int32))).bind fun x5 =>
  (g_A 7 h this 4).bind fun a7 =>
  (g_A 8 h a7 3).bind fun a9 =>
  (r_I 100 h a9 (p0 + (2 : Int32))).bind fun x11 =>
  (g_A 7 h this 29).bind fun a13 =>
  (g_A 7 h this 29).bind fun a15 =>
  (r_I 100 h a15 (0 : Int32)).bind fun x17 =>
  (g_A 7 h this 4).bind fun a19 =>
  (g_A 8 h a19 3).bind fun a21 =>
  (r_I 100 h a21 p0).bind fun x23 =>
  (k_ok 7 h this).bind fun _ =>
  t_B (fX8_size this ((x17).toInt64 + (x23).toInt64) h) fun x26 h27 =>
  (q_V 100 h27 a13 (0 : Int32) (.int x26)).bind fun h28 =>
  (g_A 7 h28 this 29).bind fun a30 =>
  (g_A 7 h28 this 29).bind fun a32 =>
  (r_I 100 h28 a32 (3 : Int32)).bind fun x34 =>
  (g_A 7 h28 this 4).bind fun a36 =>
  (g_A 8 h28 a36 3).bind fun a38 =>
  (r_I 100 h28 a38 (p0 + (3 : Int32))).bind fun x40 =>
  (k_ok 7 h28 this).bind fun _ =>
  t_B (fX8_size this ((x34).toInt64 + (x40).toInt64) h28) fun x43 h44 =>
  (q_V 100 h44 a30 (3 : Int32) (.int x43)).bind fun h45 =>
  (g_A 7 h45 this 29).bind fun a47 =>
  (r_I 100 h45 a47 (2 : Int32)).bind fun x49 =>
  if ¬ x11 = x49 then
    (g_A 7 h45 this 29).bind fun a52 =>
    (r_I 100 h45 a52 (2 : Int32)).bind fun x54 =>
    if x11 ≤ x54 then
      fX8_addGlue_b144 h45
    else
      (g_A 7 h45 this 29).bind fun a57 =>
      (q_V 100 h45 a57 (1 : Int32) (.int ((x5).toInt64).toInt32)).bind fun h59 =>
      (g_A 7 h59 this 29).bind fun a61 =>
      (q_V 100 h59 a61 (2 : Int32) (.int x11)).bind fun h63 =>
      fX8_addGlue_b144 h63
  else
    (g_A 7 h45 this 29).bind fun a65 =>
    (g_A 7 h45 this 29).bind fun a67 =>
    (r_I 100 h45 a67 (1 : Int32)).bind fun x69 =>
    (k_ok 7 h45 this).bind fun _ =>
    t_B (fX8_size this ((x69).toInt64 + (x5).toInt64) h45) fun x72 h73 =>
    (q_V 100 h73 a65 (1 : Int32) (.int x72)).bind fun h74 =>
    fX8_addGlue_b144 h74
theorem pX8_addGlue {w : eW} {d : Nat} (hd : 9 ≤ d) {this : Nat} {p0 : Int32} {h : eH} {q} (hf : fX8_addGlue this p0 h = some q) : wm w d YX8_addGlue [.ref this, .int p0] h (e_is (e_rt c_V q)) := by
  obtain ⟨d, rfl⟩ : ∃ e, d = e + 1 := ⟨d - 1, by omega⟩
  show wp w (d + 1) YX8_addGlue 0 [some (.ref this), some (.int p0), none, none, none] [] h _
  unfold fX8_addGlue at hf
  refine w_aload_n dX8_addGlue_0 rfl rfl ?_
  obtain ⟨a1, b2, hf⟩ := Option.bind_eq_some_iff.mp hf
  refine GX8_12 b2 dX8_addGlue_1 rfl ?_
  obtain ⟨a3, b4, hf⟩ := Option.bind_eq_some_iff.mp hf
  refine GX8_357 b4 dX8_addGlue_4 rfl ?_
  refine w_iload_n dX8_addGlue_7 rfl rfl ?_
  refine w_iconst dX8_addGlue_8 (v := 1) (by decide) ?_
  refine w_iadd dX8_addGlue_9 ?_
  obtain ⟨x5, b6, hf⟩ := Option.bind_eq_some_iff.mp hf
  refine x_rI b6 dX8_addGlue_10 ?_
  refine w_i2l dX8_addGlue_11 ?_
  refine w_lstore_n dX8_addGlue_12 rfl (by decide) (ls' := [some (.ref this), some (.int p0), some (.long (x5).toInt64), none, none]) rfl ?_
  refine w_aload_n dX8_addGlue_13 rfl rfl ?_
  obtain ⟨a7, b8, hf⟩ := Option.bind_eq_some_iff.mp hf
  refine GX8_12 b8 dX8_addGlue_14 rfl ?_
  obtain ⟨a9, b10, hf⟩ := Option.bind_eq_some_iff.mp hf
  refine GX8_357 b10 dX8_addGlue_17 rfl ?_
  refine w_iload_n dX8_addGlue_20 rfl rfl ?_
  refine w_iconst dX8_addGlue_21 (v := 2) (by decide) ?_
  refine w_iadd dX8_addGlue_22 ?_
  obtain ⟨x11, b12, hf⟩ := Option.bind_eq_some_iff.mp hf
  refine x_rI b12 dX8_addGlue_23 ?_
  refine w_istore dX8_addGlue_24 (by decide) (ls' := [some (.ref this), some (.int p0), some (.long (x5).toInt64), none, some (.int x11)]) rfl ?_
  refine w_aload_n dX8_addGlue_26 rfl rfl ?_
  obtain ⟨a13, b14, hf⟩ := Option.bind_eq_some_iff.mp hf
  refine GX8_48 b14 dX8_addGlue_27 rfl ?_
  refine w_iconst dX8_addGlue_30 (v := 0) (by decide) ?_
  refine w_aload_n dX8_addGlue_31 rfl rfl ?_
  refine w_aload_n dX8_addGlue_32 rfl rfl ?_
  obtain ⟨a15, b16, hf⟩ := Option.bind_eq_some_iff.mp hf
  refine GX8_48 b16 dX8_addGlue_33 rfl ?_
  refine w_iconst dX8_addGlue_36 (v := 0) (by decide) ?_
  obtain ⟨x17, b18, hf⟩ := Option.bind_eq_some_iff.mp hf
  refine x_rI b18 dX8_addGlue_37 ?_
  refine w_i2l dX8_addGlue_38 ?_
  refine w_aload_n dX8_addGlue_39 rfl rfl ?_
  obtain ⟨a19, b20, hf⟩ := Option.bind_eq_some_iff.mp hf
  refine GX8_12 b20 dX8_addGlue_40 rfl ?_
  obtain ⟨a21, b22, hf⟩ := Option.bind_eq_some_iff.mp hf
  refine GX8_357 b22 dX8_addGlue_43 rfl ?_
  refine w_iload_n dX8_addGlue_46 rfl rfl ?_
  obtain ⟨x23, b24, hf⟩ := Option.bind_eq_some_iff.mp hf
  refine x_rI b24 dX8_addGlue_47 ?_
  refine w_i2l dX8_addGlue_48 ?_
  refine w_ladd dX8_addGlue_49 ?_
  obtain ⟨_, b25, hf⟩ := Option.bind_eq_some_iff.mp hf
  refine x_ctI hf (e_stV (Yc := YX8_size) (ci := 7) (av := [.long ((x17).toInt64 + (x23).toInt64)]) (st := [.int (0 : Int32), .ref a13]) dX8_addGlue_50 q2778 mX8_size rfl (k_ok_some b25).1 (k_ok_some b25).2) mX8_size.2.2.1 mX8_size.2.2.2.2.1 (Nat.le_of_ble_eq_true rfl) (Nat.le_of_ble_eq_true rfl) rfl (fun q hq => pX8_size (by omega) hq) (fun x26 h27 hf => ?_)
  obtain ⟨h28, b29, hf⟩ := Option.bind_eq_some_iff.mp hf
  refine x_qI b29 dX8_addGlue_53 ?_
  refine w_aload_n dX8_addGlue_54 rfl rfl ?_
  obtain ⟨a30, b31, hf⟩ := Option.bind_eq_some_iff.mp hf
  refine GX8_48 b31 dX8_addGlue_55 rfl ?_
  refine w_iconst dX8_addGlue_58 (v := 3) (by decide) ?_
  refine w_aload_n dX8_addGlue_59 rfl rfl ?_
  refine w_aload_n dX8_addGlue_60 rfl rfl ?_
  obtain ⟨a32, b33, hf⟩ := Option.bind_eq_some_iff.mp hf
  refine GX8_48 b33 dX8_addGlue_61 rfl ?_
  refine w_iconst dX8_addGlue_64 (v := 3) (by decide) ?_
  obtain ⟨x34, b35, hf⟩ := Option.bind_eq_some_iff.mp hf
  refine x_rI b35 dX8_addGlue_65 ?_
  refine w_i2l dX8_addGlue_66 ?_
  refine w_aload_n dX8_addGlue_67 rfl rfl ?_
  obtain ⟨a36, b37, hf⟩ := Option.bind_eq_some_iff.mp hf
  refine GX8_12 b37 dX8_addGlue_68 rfl ?_
  obtain ⟨a38, b39, hf⟩ := Option.bind_eq_some_iff.mp hf
  refine GX8_357 b39 dX8_addGlue_71 rfl ?_
  refine w_iload_n dX8_addGlue_74 rfl rfl ?_
  refine w_iconst dX8_addGlue_75 (v := 3) (by decide) ?_
  refine w_iadd dX8_addGlue_76 ?_
  obtain ⟨x40, b41, hf⟩ := Option.bind_eq_some_iff.mp hf
  refine x_rI b41 dX8_addGlue_77 ?_
  refine w_i2l dX8_addGlue_78 ?_
  refine w_ladd dX8_addGlue_79 ?_
  obtain ⟨_, b42, hf⟩ := Option.bind_eq_some_iff.mp hf
  refine x_ctI hf (e_stV (Yc := YX8_size) (ci := 7) (av := [.long ((x34).toInt64 + (x40).toInt64)]) (st := [.int (3 : Int32), .ref a30]) dX8_addGlue_80 q2778 mX8_size rfl (k_ok_some b42).1 (k_ok_some b42).2) mX8_size.2.2.1 mX8_size.2.2.2.2.1 (Nat.le_of_ble_eq_true rfl) (Nat.le_of_ble_eq_true rfl) rfl (fun q hq => pX8_size (by omega) hq) (fun x43 h44 hf => ?_)
  obtain ⟨h45, b46, hf⟩ := Option.bind_eq_some_iff.mp hf
  refine x_qI b46 dX8_addGlue_83 ?_
  refine w_iload dX8_addGlue_84 rfl ?_
  refine w_aload_n dX8_addGlue_86 rfl rfl ?_
  obtain ⟨a47, b48, hf⟩ := Option.bind_eq_some_iff.mp hf
  refine GX8_48 b48 dX8_addGlue_87 rfl ?_
  refine w_iconst dX8_addGlue_90 (v := 2) (by decide) ?_
  obtain ⟨x49, b50, hf⟩ := Option.bind_eq_some_iff.mp hf
  refine x_rI b50 dX8_addGlue_91 ?_
  refine w_icmp_ne 117 dX8_addGlue_92 (by decide) (fun c51 => ?_) (fun c51 => ?_)
  · replace hf := (if_pos (show ¬ x11 = x49 from c51)).symm.trans hf
    refine w_iload dX8_addGlue_117 rfl ?_
    refine w_aload_n dX8_addGlue_119 rfl rfl ?_
    obtain ⟨a52, b53, hf⟩ := Option.bind_eq_some_iff.mp hf
    refine GX8_48 b53 dX8_addGlue_120 rfl ?_
    refine w_iconst dX8_addGlue_123 (v := 2) (by decide) ?_
    obtain ⟨x54, b55, hf⟩ := Option.bind_eq_some_iff.mp hf
    refine x_rI b55 dX8_addGlue_124 ?_
    refine w_icmp_le 144 dX8_addGlue_125 (by decide) (fun c56 => ?_) (fun c56 => ?_)
    · replace hf := (if_pos (show x11 ≤ x54 from c56)).symm.trans hf
      exact (pX8_addGlue_b144 hd hf).to trivial
    · replace hf := (if_neg (show ¬ (x11 ≤ x54) from c56)).symm.trans hf
      refine w_aload_n dX8_addGlue_128 rfl rfl ?_
      obtain ⟨a57, b58, hf⟩ := Option.bind_eq_some_iff.mp hf
      refine GX8_48 b58 dX8_addGlue_129 rfl ?_
      refine w_iconst dX8_addGlue_132 (v := 1) (by decide) ?_
      refine w_lload_n dX8_addGlue_133 rfl rfl ?_
      refine w_l2i dX8_addGlue_134 ?_
      obtain ⟨h59, b60, hf⟩ := Option.bind_eq_some_iff.mp hf
      refine x_qI b60 dX8_addGlue_135 ?_
      refine w_aload_n dX8_addGlue_136 rfl rfl ?_
      obtain ⟨a61, b62, hf⟩ := Option.bind_eq_some_iff.mp hf
      refine GX8_48 b62 dX8_addGlue_137 rfl ?_
      refine w_iconst dX8_addGlue_140 (v := 2) (by decide) ?_
      refine w_iload dX8_addGlue_141 rfl ?_
      obtain ⟨h63, b64, hf⟩ := Option.bind_eq_some_iff.mp hf
      refine x_qI b64 dX8_addGlue_143 ?_
      exact (pX8_addGlue_b144 hd hf).to trivial
  · replace hf := (if_neg (show ¬ (¬ x11 = x49) from (fun z => z c51))).symm.trans hf
    refine w_aload_n dX8_addGlue_95 rfl rfl ?_
    obtain ⟨a65, b66, hf⟩ := Option.bind_eq_some_iff.mp hf
    refine GX8_48 b66 dX8_addGlue_96 rfl ?_
    refine w_iconst dX8_addGlue_99 (v := 1) (by decide) ?_
    refine w_aload_n dX8_addGlue_100 rfl rfl ?_
    refine w_aload_n dX8_addGlue_101 rfl rfl ?_
    obtain ⟨a67, b68, hf⟩ := Option.bind_eq_some_iff.mp hf
    refine GX8_48 b68 dX8_addGlue_102 rfl ?_
    refine w_iconst dX8_addGlue_105 (v := 1) (by decide) ?_
    obtain ⟨x69, b70, hf⟩ := Option.bind_eq_some_iff.mp hf
    refine x_rI b70 dX8_addGlue_106 ?_
    refine w_i2l dX8_addGlue_107 ?_
    refine w_lload_n dX8_addGlue_108 rfl rfl ?_
    refine w_ladd dX8_addGlue_109 ?_
    obtain ⟨_, b71, hf⟩ := Option.bind_eq_some_iff.mp hf
    refine x_ctI hf (e_stV (Yc := YX8_size) (ci := 7) (av := [.long ((x69).toInt64 + (x5).toInt64)]) (st := [.int (1 : Int32), .ref a65]) dX8_addGlue_110 q2778 mX8_size rfl (k_ok_some b71).1 (k_ok_some b71).2) mX8_size.2.2.1 mX8_size.2.2.2.2.1 (Nat.le_of_ble_eq_true rfl) (Nat.le_of_ble_eq_true rfl) rfl (fun q hq => pX8_size (by omega) hq) (fun x72 h73 hf => ?_)
    obtain ⟨h74, b75, hf⟩ := Option.bind_eq_some_iff.mp hf
    refine x_qI b75 dX8_addGlue_113 ?_
    refine w_goto 144 dX8_addGlue_114 (by decide) ?_
    exact (pX8_addGlue_b144 hd hf).to trivial
abbrev cX8_setGlue : ByteArray := prog_4_method_59_code
def yX8_setGlue : MethodName := ⟨RX8, "setGlue", "(IZ)V"⟩
def YX8_setGlue : eY := (yX8_setGlue, cX8_setGlue, 4, none, [])
theorem mX8_setGlue : e_mv YX8_setGlue RX8 2 := ⟨q3986, qs202, q3987, by decide, by decide +kernel, (e_sig (by decide +kernel))⟩
theorem dX8_setGlue_0 : decode cX8_setGlue 0 = .ok (.aload_n 0, 1) := dc_42 (by decide +kernel)
theorem dX8_setGlue_1 : decode cX8_setGlue 1 = .ok (.getfield 48, 3) := dc_180 (a := 0) (b := 48) (n := 48) (by decide +kernel)
theorem dX8_setGlue_4 : decode cX8_setGlue 4 = .ok (.iconst 2, 1) := dc_5 (by decide +kernel)
theorem dX8_setGlue_5 : decode cX8_setGlue 5 = .ok (.aload_n 0, 1) := dc_42 (by decide +kernel)
theorem dX8_setGlue_6 : decode cX8_setGlue 6 = .ok (.getfield 48, 3) := dc_180 (a := 0) (b := 48) (n := 48) (by decide +kernel)
theorem dX8_setGlue_9 : decode cX8_setGlue 9 = .ok (.iconst 1, 1) := dc_4 (by decide +kernel)
theorem dX8_setGlue_10 : decode cX8_setGlue 10 = .ok (.iaload, 1) := dc_46 (by decide +kernel)
theorem dX8_setGlue_11 : decode cX8_setGlue 11 = .ok (.ifCond .ne 7, 3) := dc_154 (a := 0) (b := 7) (v := 7) (by decide +kernel)
theorem dX8_setGlue_14 : decode cX8_setGlue 14 = .ok (.iconst 0, 1) := dc_3 (by decide +kernel)
theorem dX8_setGlue_15 : decode cX8_setGlue 15 = .ok (.goto 9, 3) := dc_167 (a := 0) (b := 9) (v := 9) (by decide +kernel)
theorem dX8_setGlue_18 : decode cX8_setGlue 18 = .ok (.aload_n 0, 1) := dc_42 (by decide +kernel)
theorem dX8_setGlue_19 : decode cX8_setGlue 19 = .ok (.getfield 48, 3) := dc_180 (a := 0) (b := 48) (n := 48) (by decide +kernel)
theorem dX8_setGlue_22 : decode cX8_setGlue 22 = .ok (.iconst 2, 1) := dc_5 (by decide +kernel)
theorem dX8_setGlue_23 : decode cX8_setGlue 23 = .ok (.iaload, 1) := dc_46 (by decide +kernel)
theorem dX8_setGlue_24 : decode cX8_setGlue 24 = .ok (.iastore, 1) := dc_79 (by decide +kernel)
theorem dX8_setGlue_25 : decode cX8_setGlue 25 = .ok (.iconst 0, 1) := dc_3 (by decide +kernel)
theorem dX8_setGlue_26 : decode cX8_setGlue 26 = .ok (.istore_n 3, 1) := dc_62 (by decide +kernel)
theorem dX8_setGlue_27 : decode cX8_setGlue 27 = .ok (.iload_n 3, 1) := dc_29 (by decide +kernel)
theorem dX8_setGlue_28 : decode cX8_setGlue 28 = .ok (.iconst 4, 1) := dc_7 (by decide +kernel)
theorem dX8_setGlue_29 : decode cX8_setGlue 29 = .ok (.if_icmp .ge 26, 3) := dc_162 (a := 0) (b := 26) (v := 26) (by decide +kernel)
theorem dX8_setGlue_32 : decode cX8_setGlue 32 = .ok (.aload_n 0, 1) := dc_42 (by decide +kernel)
theorem dX8_setGlue_33 : decode cX8_setGlue 33 = .ok (.getfield 12, 3) := dc_180 (a := 0) (b := 12) (n := 12) (by decide +kernel)
theorem dX8_setGlue_36 : decode cX8_setGlue 36 = .ok (.iload_n 1, 1) := dc_27 (by decide +kernel)
theorem dX8_setGlue_37 : decode cX8_setGlue 37 = .ok (.iload_n 3, 1) := dc_29 (by decide +kernel)
theorem dX8_setGlue_38 : decode cX8_setGlue 38 = .ok (.iadd, 1) := dc_96 (by decide +kernel)
theorem dX8_setGlue_39 : decode cX8_setGlue 39 = .ok (.aload_n 0, 1) := dc_42 (by decide +kernel)
theorem dX8_setGlue_40 : decode cX8_setGlue 40 = .ok (.getfield 48, 3) := dc_180 (a := 0) (b := 48) (n := 48) (by decide +kernel)
theorem dX8_setGlue_43 : decode cX8_setGlue 43 = .ok (.iload_n 3, 1) := dc_29 (by decide +kernel)
theorem dX8_setGlue_44 : decode cX8_setGlue 44 = .ok (.iaload, 1) := dc_46 (by decide +kernel)
theorem dX8_setGlue_45 : decode cX8_setGlue 45 = .ok (.iload_n 2, 1) := dc_28 (by decide +kernel)
theorem dX8_setGlue_46 : decode cX8_setGlue 46 = .ok (.invokevirtual 507, 3) := dc_182 (a := 1) (b := 251) (n := 507) (by decide +kernel)
theorem dX8_setGlue_49 : decode cX8_setGlue 49 = .ok (.iinc 3 1, 3) := dc_132 (a := 3) (b := 1) (v := 1) (by decide +kernel)
theorem dX8_setGlue_52 : decode cX8_setGlue 52 = .ok (.goto (-25), 3) := dc_167 (a := 255) (b := 231) (v := -25) (by decide +kernel)
theorem dX8_setGlue_55 : decode cX8_setGlue 55 = .ok (.return_, 1) := dc_177 (by decide +kernel)
def fX8_setGlue_b27 (N : Nat) : Nat → Nat → Int32 → Int32 → Int32 → eH → Option (Unit × eH)
  | 0, _, _, _, _, _ => none
  | n + 1, l0, l1, l2, l3, h =>
    if (4 : Int32) ≤ l3 then
      some ((), h)
    else
      (g_A 7 h l0 4).bind fun a2 =>
      (g_A 7 h l0 29).bind fun a4 =>
      (r_I 100 h a4 l3).bind fun x6 =>
      (k_ok 8 h a2).bind fun _ =>
      (fX9_set N a2 (l1 + l3) x6 l2 h).bind fun q9 =>
      fX8_setGlue_b27 N n l0 l1 l2 (l3 + (1 : Int32)) q9.2
theorem pX8_setGlue_b27 {w : eW} {d : Nat} (hd : 4 ≤ d + 1) {N : Nat} : ∀ (n : Nat) l0 l1 l2 l3 h q, fX8_setGlue_b27 N n l0 l1 l2 l3 h = some q → wp w (d + 1) YX8_setGlue 27 [some (.ref l0), some (.int l1), some (.int l2), some (.int l3)] [] h (e_is (e_rn c_V q)) := by
  intro n
  induction n with
  | zero => intro l0 l1 l2 l3 h q hf; simp [fX8_setGlue_b27] at hf
  | succ n ih =>
    intro l0 l1 l2 l3 h q hf
    rw [fX8_setGlue_b27] at hf
    refine w_iload_n dX8_setGlue_27 rfl rfl ?_
    refine w_iconst dX8_setGlue_28 (v := 4) (by decide) ?_
    refine w_icmp_ge 55 dX8_setGlue_29 (by decide) (fun c1 => ?_) (fun c1 => ?_)
    · replace hf := (if_pos (show (4 : Int32) ≤ l3 from c1)).symm.trans hf
      cases hf
      exact w_vret dX8_setGlue_55 rfl rfl
    · replace hf := (if_neg (show ¬ ((4 : Int32) ≤ l3) from c1)).symm.trans hf
      refine w_aload_n dX8_setGlue_32 rfl rfl ?_
      obtain ⟨a2, b3, hf⟩ := Option.bind_eq_some_iff.mp hf
      refine GX8_12 b3 dX8_setGlue_33 rfl ?_
      refine w_iload_n dX8_setGlue_36 rfl rfl ?_
      refine w_iload_n dX8_setGlue_37 rfl rfl ?_
      refine w_iadd dX8_setGlue_38 ?_
      refine w_aload_n dX8_setGlue_39 rfl rfl ?_
      obtain ⟨a4, b5, hf⟩ := Option.bind_eq_some_iff.mp hf
      refine GX8_48 b5 dX8_setGlue_40 rfl ?_
      refine w_iload_n dX8_setGlue_43 rfl rfl ?_
      obtain ⟨x6, b7, hf⟩ := Option.bind_eq_some_iff.mp hf
      refine x_rI b7 dX8_setGlue_44 ?_
      refine w_iload_n dX8_setGlue_45 rfl rfl ?_
      obtain ⟨_, b8, hf⟩ := Option.bind_eq_some_iff.mp hf
      refine x_cnV hf (e_stV (Yc := YX9_set) (ci := 8) (av := [.int (l1 + l3), .int x6, .int l2]) (st := []) dX8_setGlue_46 q3962 mX9_set rfl (k_ok_some b8).1 (k_ok_some b8).2) mX9_set.2.2.1 mX9_set.2.2.2.2.1 (Nat.le_of_ble_eq_true rfl) (Nat.le_of_ble_eq_true rfl) (fun q hq => pX9_set (by omega) hq) (fun q9 hf => ?_)
      refine w_iinc dX8_setGlue_49 (v := (l3 + (1 : Int32))) rfl rfl (by decide) (ls' := [some (.ref l0), some (.int l1), some (.int l2), some (.int (l3 + (1 : Int32)))]) rfl ?_
      refine w_goto 27 dX8_setGlue_52 (by decide) ?_
      exact (ih _ _ _ _ _ _ hf).to ⟨rfl, rfl, rfl, rfl, trivial⟩
def fX8_setGlue_b24 (N : Nat) (l0 : Nat) (l1 : Int32) (l2 : Int32) (s0 : Nat) (s1 : Int32) (s2 : Int32) (h : eH) : Option (Unit × eH) :=
  (q_V 100 h s0 s1 (.int s2)).bind fun h1 =>
  fX8_setGlue_b27 N N l0 l1 l2 (0 : Int32) h1
theorem pX8_setGlue_b24 {w : eW} {d : Nat} (hd : 4 ≤ d + 1) {N : Nat} {l0 : Nat} {l1 : Int32} {l2 : Int32} {s0 : Nat} {s1 : Int32} {s2 : Int32} {h : eH} {q} (hf : fX8_setGlue_b24 N l0 l1 l2 s0 s1 s2 h = some q) : wp w (d + 1) YX8_setGlue 24 [some (.ref l0), some (.int l1), some (.int l2), none] [.int s2, .int s1, .ref s0] h (e_is (e_rn c_V q)) := by
  unfold fX8_setGlue_b24 at hf
  obtain ⟨h1, b2, hf⟩ := Option.bind_eq_some_iff.mp hf
  refine x_qI b2 dX8_setGlue_24 ?_
  refine w_iconst dX8_setGlue_25 (v := 0) (by decide) ?_
  refine w_istore_n dX8_setGlue_26 rfl (by decide) (ls' := [some (.ref l0), some (.int l1), some (.int l2), some (.int (0 : Int32))]) rfl ?_
  exact (pX8_setGlue_b27 hd N _ _ _ _ _ _ hf).to ⟨rfl, rfl, rfl, rfl, trivial⟩
def fX8_setGlue (N : Nat) (this : Nat) (p0 : Int32) (p1 : Int32) (h : eH) : Option (Unit × eH) :=
  (g_A 7 h this 29).bind fun a1 =>
  (g_A 7 h this 29).bind fun a3 =>
  (r_I 100 h a3 (1 : Int32)).bind fun x5 =>
  if ¬ x5 = 0 then
    (g_A 7 h this 29).bind fun a8 =>
    (r_I 100 h a8 (2 : Int32)).bind fun x10 =>
    fX8_setGlue_b24 N this p0 p1 a1 (2 : Int32) x10 h
  else
    fX8_setGlue_b24 N this p0 p1 a1 (2 : Int32) (0 : Int32) h
theorem pX8_setGlue {w : eW} {d : Nat} (hd : 4 ≤ d) {N : Nat} {this : Nat} {p0 : Int32} {p1 : Int32} {h : eH} {q} (hf : fX8_setGlue N this p0 p1 h = some q) : wm w d YX8_setGlue [.ref this, .int p0, .int p1] h (e_is (e_rn c_V q)) := by
  obtain ⟨d, rfl⟩ : ∃ e, d = e + 1 := ⟨d - 1, by omega⟩
  show wp w (d + 1) YX8_setGlue 0 [some (.ref this), some (.int p0), some (.int p1), none] [] h _
  unfold fX8_setGlue at hf
  refine w_aload_n dX8_setGlue_0 rfl rfl ?_
  obtain ⟨a1, b2, hf⟩ := Option.bind_eq_some_iff.mp hf
  refine GX8_48 b2 dX8_setGlue_1 rfl ?_
  refine w_iconst dX8_setGlue_4 (v := 2) (by decide) ?_
  refine w_aload_n dX8_setGlue_5 rfl rfl ?_
  obtain ⟨a3, b4, hf⟩ := Option.bind_eq_some_iff.mp hf
  refine GX8_48 b4 dX8_setGlue_6 rfl ?_
  refine w_iconst dX8_setGlue_9 (v := 1) (by decide) ?_
  obtain ⟨x5, b6, hf⟩ := Option.bind_eq_some_iff.mp hf
  refine x_rI b6 dX8_setGlue_10 ?_
  refine w_if_ne 18 dX8_setGlue_11 (by decide) (fun c7 => ?_) (fun c7 => ?_)
  · replace hf := (if_pos (show ¬ x5 = 0 from c7)).symm.trans hf
    refine w_aload_n dX8_setGlue_18 rfl rfl ?_
    obtain ⟨a8, b9, hf⟩ := Option.bind_eq_some_iff.mp hf
    refine GX8_48 b9 dX8_setGlue_19 rfl ?_
    refine w_iconst dX8_setGlue_22 (v := 2) (by decide) ?_
    obtain ⟨x10, b11, hf⟩ := Option.bind_eq_some_iff.mp hf
    refine x_rI b11 dX8_setGlue_23 ?_
    exact (pX8_setGlue_b24 hd hf).to ⟨rfl, rfl, rfl, trivial⟩
  · replace hf := (if_neg (show ¬ (¬ x5 = 0) from (fun z => z c7))).symm.trans hf
    refine w_iconst dX8_setGlue_14 (v := 0) (by decide) ?_
    refine w_goto 24 dX8_setGlue_15 (by decide) ?_
    exact (pX8_setGlue_b24 hd hf).to ⟨rfl, rfl, rfl, trivial⟩
abbrev cX8_advance : ByteArray := prog_4_method_63_code
def yX8_advance : MethodName := ⟨RX8, "advance", "(IIZ)V"⟩
def YX8_advance : eY := (yX8_advance, cX8_advance, 4, none, [])
theorem mX8_advance : e_mv YX8_advance RX8 3 := ⟨q3955, qs196, q3956, by decide, by decide +kernel, (e_sig (by decide +kernel))⟩
theorem dX8_advance_0 : decode cX8_advance 0 = .ok (.iload_n 1, 1) := dc_27 (by decide +kernel)
theorem dX8_advance_1 : decode cX8_advance 1 = .ok (.invokestatic 354, 3) := dc_184 (a := 1) (b := 98) (n := 354) (by decide +kernel)
theorem dX8_advance_4 : decode cX8_advance 4 = .ok (.ifCond .eq 35, 3) := dc_153 (a := 0) (b := 35) (v := 35) (by decide +kernel)
theorem dX8_advance_7 : decode cX8_advance 7 = .ok (.aload_n 0, 1) := dc_42 (by decide +kernel)
theorem dX8_advance_8 : decode cX8_advance 8 = .ok (.getfield 12, 3) := dc_180 (a := 0) (b := 12) (n := 12) (by decide +kernel)
theorem dX8_advance_11 : decode cX8_advance 11 = .ok (.iload_n 2, 1) := dc_28 (by decide +kernel)
theorem dX8_advance_12 : decode cX8_advance 12 = .ok (.aload_n 0, 1) := dc_42 (by decide +kernel)
theorem dX8_advance_13 : decode cX8_advance 13 = .ok (.aload_n 0, 1) := dc_42 (by decide +kernel)
theorem dX8_advance_14 : decode cX8_advance 14 = .ok (.invokevirtual 225, 3) := dc_182 (a := 0) (b := 225) (n := 225) (by decide +kernel)
theorem dX8_advance_17 : decode cX8_advance 17 = .ok (.i2l, 1) := dc_133 (by decide +kernel)
theorem dX8_advance_18 : decode cX8_advance 18 = .ok (.aload_n 0, 1) := dc_42 (by decide +kernel)
theorem dX8_advance_19 : decode cX8_advance 19 = .ok (.getfield 12, 3) := dc_180 (a := 0) (b := 12) (n := 12) (by decide +kernel)
theorem dX8_advance_22 : decode cX8_advance 22 = .ok (.getfield 357, 3) := dc_180 (a := 1) (b := 101) (n := 357) (by decide +kernel)
theorem dX8_advance_25 : decode cX8_advance 25 = .ok (.iload_n 2, 1) := dc_28 (by decide +kernel)
theorem dX8_advance_26 : decode cX8_advance 26 = .ok (.iaload, 1) := dc_46 (by decide +kernel)
theorem dX8_advance_27 : decode cX8_advance 27 = .ok (.i2l, 1) := dc_133 (by decide +kernel)
theorem dX8_advance_28 : decode cX8_advance 28 = .ok (.ladd, 1) := dc_97 (by decide +kernel)
theorem dX8_advance_29 : decode cX8_advance 29 = .ok (.invokevirtual 529, 3) := dc_182 (a := 2) (b := 17) (n := 529) (by decide +kernel)
theorem dX8_advance_32 : decode cX8_advance 32 = .ok (.iload_n 3, 1) := dc_29 (by decide +kernel)
theorem dX8_advance_33 : decode cX8_advance 33 = .ok (.invokevirtual 507, 3) := dc_182 (a := 1) (b := 251) (n := 507) (by decide +kernel)
theorem dX8_advance_36 : decode cX8_advance 36 = .ok (.goto 57, 3) := dc_167 (a := 0) (b := 57) (v := 57) (by decide +kernel)
theorem dX8_advance_39 : decode cX8_advance 39 = .ok (.iload_n 1, 1) := dc_27 (by decide +kernel)
theorem dX8_advance_40 : decode cX8_advance 40 = .ok (.invokestatic 369, 3) := dc_184 (a := 1) (b := 113) (n := 369) (by decide +kernel)
theorem dX8_advance_43 : decode cX8_advance 43 = .ok (.ifCond .eq 35, 3) := dc_153 (a := 0) (b := 35) (v := 35) (by decide +kernel)
theorem dX8_advance_46 : decode cX8_advance 46 = .ok (.aload_n 0, 1) := dc_42 (by decide +kernel)
theorem dX8_advance_47 : decode cX8_advance 47 = .ok (.getfield 12, 3) := dc_180 (a := 0) (b := 12) (n := 12) (by decide +kernel)
theorem dX8_advance_50 : decode cX8_advance 50 = .ok (.iload_n 2, 1) := dc_28 (by decide +kernel)
theorem dX8_advance_51 : decode cX8_advance 51 = .ok (.aload_n 0, 1) := dc_42 (by decide +kernel)
theorem dX8_advance_52 : decode cX8_advance 52 = .ok (.aload_n 0, 1) := dc_42 (by decide +kernel)
theorem dX8_advance_53 : decode cX8_advance 53 = .ok (.invokevirtual 499, 3) := dc_182 (a := 1) (b := 243) (n := 499) (by decide +kernel)
theorem dX8_advance_56 : decode cX8_advance 56 = .ok (.i2l, 1) := dc_133 (by decide +kernel)
theorem dX8_advance_57 : decode cX8_advance 57 = .ok (.aload_n 0, 1) := dc_42 (by decide +kernel)
theorem dX8_advance_58 : decode cX8_advance 58 = .ok (.getfield 12, 3) := dc_180 (a := 0) (b := 12) (n := 12) (by decide +kernel)
theorem dX8_advance_61 : decode cX8_advance 61 = .ok (.getfield 357, 3) := dc_180 (a := 1) (b := 101) (n := 357) (by decide +kernel)
theorem dX8_advance_64 : decode cX8_advance 64 = .ok (.iload_n 2, 1) := dc_28 (by decide +kernel)
theorem dX8_advance_65 : decode cX8_advance 65 = .ok (.iaload, 1) := dc_46 (by decide +kernel)
theorem dX8_advance_66 : decode cX8_advance 66 = .ok (.i2l, 1) := dc_133 (by decide +kernel)
theorem dX8_advance_67 : decode cX8_advance 67 = .ok (.ladd, 1) := dc_97 (by decide +kernel)
theorem dX8_advance_68 : decode cX8_advance 68 = .ok (.invokevirtual 476, 3) := dc_182 (a := 1) (b := 220) (n := 476) (by decide +kernel)
theorem dX8_advance_71 : decode cX8_advance 71 = .ok (.iload_n 3, 1) := dc_29 (by decide +kernel)
theorem dX8_advance_72 : decode cX8_advance 72 = .ok (.invokevirtual 507, 3) := dc_182 (a := 1) (b := 251) (n := 507) (by decide +kernel)
theorem dX8_advance_75 : decode cX8_advance 75 = .ok (.goto 18, 3) := dc_167 (a := 0) (b := 18) (v := 18) (by decide +kernel)
theorem dX8_advance_78 : decode cX8_advance 78 = .ok (.aload_n 0, 1) := dc_42 (by decide +kernel)
theorem dX8_advance_79 : decode cX8_advance 79 = .ok (.invokevirtual 511, 3) := dc_182 (a := 1) (b := 255) (n := 511) (by decide +kernel)
theorem dX8_advance_82 : decode cX8_advance 82 = .ok (.aload_n 0, 1) := dc_42 (by decide +kernel)
theorem dX8_advance_83 : decode cX8_advance 83 = .ok (.iload_n 2, 1) := dc_28 (by decide +kernel)
theorem dX8_advance_84 : decode cX8_advance 84 = .ok (.invokevirtual 532, 3) := dc_182 (a := 2) (b := 20) (n := 532) (by decide +kernel)
theorem dX8_advance_87 : decode cX8_advance 87 = .ok (.aload_n 0, 1) := dc_42 (by decide +kernel)
theorem dX8_advance_88 : decode cX8_advance 88 = .ok (.iload_n 2, 1) := dc_28 (by decide +kernel)
theorem dX8_advance_89 : decode cX8_advance 89 = .ok (.iload_n 3, 1) := dc_29 (by decide +kernel)
theorem dX8_advance_90 : decode cX8_advance 90 = .ok (.invokevirtual 514, 3) := dc_182 (a := 2) (b := 2) (n := 514) (by decide +kernel)
theorem dX8_advance_93 : decode cX8_advance 93 = .ok (.return_, 1) := dc_177 (by decide +kernel)
def fX8_advance_b93 (N : Nat) (rE : Nat → Int32 → eH → Option ((Unit ⊕ Nat) × eH)) (rN : Nat → eH → Option ((Int32 ⊕ Nat) × eH))  (h : eH) : Option ((Unit ⊕ Nat) × eH) :=
  some (.inl (), h)
theorem pX8_advance_b93 {w : eW} {d : Nat} {dr : Nat} (hd : dr + 19 ≤ d + 1) (hdr : 12 ≤ dr) {N : Nat} {rE : Nat → Int32 → eH → Option ((Unit ⊕ Nat) × eH)} {rN : Nat → eH → Option ((Int32 ⊕ Nat) × eH)} (hrE : ∀ a t0 h q, rE a t0 h = some q → wm w dr YX8_expand [.ref a, .int t0] h (e_is (e_rt c_V q))) (hrN : ∀ a h q, rN a h = some q → wm w dr YX8_number [.ref a] h (e_is (e_rt c_I q)))  {h : eH} {q} (hf : fX8_advance_b93 N rE rN h = some q) : wp w (d + 1) YX8_advance 93 [none, none, none, none] [] h (e_is (e_rt c_V q)) := by
  unfold fX8_advance_b93 at hf
  cases hf
  exact w_vret dX8_advance_93 rfl rfl
def fX8_advance (N : Nat) (rE : Nat → Int32 → eH → Option ((Unit ⊕ Nat) × eH)) (rN : Nat → eH → Option ((Int32 ⊕ Nat) × eH)) (this : Nat) (p0 : Int32) (p1 : Int32) (p2 : Int32) (h : eH) : Option ((Unit ⊕ Nat) × eH) :=
  (fX8_isCounter p0 h).bind fun q1 =>
  if q1.1 = 0 then
    (fX8_isLength p0 q1.2).bind fun q3 =>
    if q3.1 = 0 then
      (k_ok 7 q3.2 this).bind fun _ =>
      t_B (fX8_glue N rE rN this q3.2) fun x6 h7 =>
      (k_ok 7 h7 this).bind fun _ =>
      t_B (fX8_addGlue this p1 h7) fun x9 h10 =>
      (k_ok 7 h10 this).bind fun _ =>
      (fX8_setGlue N this p1 p2 h10).bind fun q12 =>
      fX8_advance_b93 N rE rN q12.2
    else
      (g_A 7 q3.2 this 4).bind fun a13 =>
      (k_ok 7 q3.2 this).bind fun _ =>
      t_B (fX8_dimension N rE rN this q3.2) fun x16 h17 =>
      (g_A 7 h17 this 4).bind fun a18 =>
      (g_A 8 h17 a18 3).bind fun a20 =>
      (r_I 100 h17 a20 p1).bind fun x22 =>
      (k_ok 7 h17 this).bind fun _ =>
      t_B (fX8_size this ((x16).toInt64 + (x22).toInt64) h17) fun x25 h26 =>
      (k_ok 8 h26 a13).bind fun _ =>
      (fX9_set N a13 p1 x25 p2 h26).bind fun q28 =>
      fX8_advance_b93 N rE rN q28.2
  else
    (g_A 7 q1.2 this 4).bind fun a29 =>
    (k_ok 7 q1.2 this).bind fun _ =>
    t_B (rN this q1.2) fun x32 h33 =>
    (g_A 7 h33 this 4).bind fun a34 =>
    (g_A 8 h33 a34 3).bind fun a36 =>
    (r_I 100 h33 a36 p1).bind fun x38 =>
    (k_ok 7 h33 this).bind fun _ =>
    t_B (fX8_counter this ((x32).toInt64 + (x38).toInt64) h33) fun x41 h42 =>
    (k_ok 8 h42 a29).bind fun _ =>
    (fX9_set N a29 p1 x41 p2 h42).bind fun q44 =>
    fX8_advance_b93 N rE rN q44.2
theorem pX8_advance {w : eW} {d : Nat} {dr : Nat} (hd : dr + 19 ≤ d) (hdr : 12 ≤ dr) {N : Nat} {rE : Nat → Int32 → eH → Option ((Unit ⊕ Nat) × eH)} {rN : Nat → eH → Option ((Int32 ⊕ Nat) × eH)} (hrE : ∀ a t0 h q, rE a t0 h = some q → wm w dr YX8_expand [.ref a, .int t0] h (e_is (e_rt c_V q))) (hrN : ∀ a h q, rN a h = some q → wm w dr YX8_number [.ref a] h (e_is (e_rt c_I q))) {this : Nat} {p0 : Int32} {p1 : Int32} {p2 : Int32} {h : eH} {q} (hf : fX8_advance N rE rN this p0 p1 p2 h = some q) : wm w d YX8_advance [.ref this, .int p0, .int p1, .int p2] h (e_is (e_rt c_V q)) := by
  obtain ⟨d, rfl⟩ : ∃ e, d = e + 1 := ⟨d - 1, by omega⟩
  show wp w (d + 1) YX8_advance 0 [some (.ref this), some (.int p0), some (.int p1), some (.int p2)] [] h _
  unfold fX8_advance at hf
  refine w_iload_n dX8_advance_0 rfl rfl ?_
  refine x_cnI hf (e_stS (Yc := YX8_isCounter) (av := [.int p0]) (st := []) dX8_advance_1 q2646 mX8_isCounter) mX8_isCounter.2.2.1 mX8_isCounter.2.2.2.2.1 (Nat.le_of_ble_eq_true rfl) (Nat.le_of_ble_eq_true rfl) (fun q hq => pX8_isCounter (by omega) hq) (fun q1 hf => ?_)
  refine w_if_eq 39 dX8_advance_4 (by decide) (fun c2 => ?_) (fun c2 => ?_)
  · replace hf := (if_pos (show q1.1 = 0 from c2)).symm.trans hf
    refine w_iload_n dX8_advance_39 rfl rfl ?_
    refine x_cnI hf (e_stS (Yc := YX8_isLength) (av := [.int p0]) (st := []) dX8_advance_40 q2619 mX8_isLength) mX8_isLength.2.2.1 mX8_isLength.2.2.2.2.1 (Nat.le_of_ble_eq_true rfl) (Nat.le_of_ble_eq_true rfl) (fun q hq => pX8_isLength (by omega) hq) (fun q3 hf => ?_)
    refine w_if_eq 78 dX8_advance_43 (by decide) (fun c4 => ?_) (fun c4 => ?_)
    · replace hf := (if_pos (show q3.1 = 0 from c4)).symm.trans hf
      refine w_aload_n dX8_advance_78 rfl rfl ?_
      obtain ⟨_, b5, hf⟩ := Option.bind_eq_some_iff.mp hf
      refine x_ctV hf (e_stV (Yc := YX8_glue) (ci := 7) (av := []) (st := []) dX8_advance_79 q3963 mX8_glue rfl (k_ok_some b5).1 (k_ok_some b5).2) mX8_glue.2.2.1 mX8_glue.2.2.2.2.1 (Nat.le_of_ble_eq_true rfl) (Nat.le_of_ble_eq_true rfl) rfl (fun q hq => pX8_glue (by omega) hdr hrE hrN hq) (fun x6 h7 hf => ?_)
      refine w_aload_n dX8_advance_82 rfl rfl ?_
      refine w_iload_n dX8_advance_83 rfl rfl ?_
      obtain ⟨_, b8, hf⟩ := Option.bind_eq_some_iff.mp hf
      refine x_ctV hf (e_stV (Yc := YX8_addGlue) (ci := 7) (av := [.int p1]) (st := []) dX8_advance_84 q3980 mX8_addGlue rfl (k_ok_some b8).1 (k_ok_some b8).2) mX8_addGlue.2.2.1 mX8_addGlue.2.2.2.2.1 (Nat.le_of_ble_eq_true rfl) (Nat.le_of_ble_eq_true rfl) rfl (fun q hq => pX8_addGlue (by omega) hq) (fun x9 h10 hf => ?_)
      refine w_aload_n dX8_advance_87 rfl rfl ?_
      refine w_iload_n dX8_advance_88 rfl rfl ?_
      refine w_iload_n dX8_advance_89 rfl rfl ?_
      obtain ⟨_, b11, hf⟩ := Option.bind_eq_some_iff.mp hf
      refine x_cnV hf (e_stV (Yc := YX8_setGlue) (ci := 7) (av := [.int p1, .int p2]) (st := []) dX8_advance_90 q3984 mX8_setGlue rfl (k_ok_some b11).1 (k_ok_some b11).2) mX8_setGlue.2.2.1 mX8_setGlue.2.2.2.2.1 (Nat.le_of_ble_eq_true rfl) (Nat.le_of_ble_eq_true rfl) (fun q hq => pX8_setGlue (by omega) hq) (fun q12 hf => ?_)
      exact (pX8_advance_b93 hd hdr hrE hrN hf).to trivial
    · replace hf := (if_neg (show ¬ (q3.1 = 0) from c4)).symm.trans hf
      refine w_aload_n dX8_advance_46 rfl rfl ?_
      obtain ⟨a13, b14, hf⟩ := Option.bind_eq_some_iff.mp hf
      refine GX8_12 b14 dX8_advance_47 rfl ?_
      refine w_iload_n dX8_advance_50 rfl rfl ?_
      refine w_aload_n dX8_advance_51 rfl rfl ?_
      refine w_aload_n dX8_advance_52 rfl rfl ?_
      obtain ⟨_, b15, hf⟩ := Option.bind_eq_some_iff.mp hf
      refine x_ctI hf (e_stV (Yc := YX8_dimension) (ci := 7) (av := []) (st := [.ref this, .int p1, .ref a13]) dX8_advance_53 q2710 mX8_dimension rfl (k_ok_some b15).1 (k_ok_some b15).2) mX8_dimension.2.2.1 mX8_dimension.2.2.2.2.1 (Nat.le_of_ble_eq_true rfl) (Nat.le_of_ble_eq_true rfl) rfl (fun q hq => pX8_dimension (by omega) hdr hrE hrN hq) (fun x16 h17 hf => ?_)
      refine w_i2l dX8_advance_56 ?_
      refine w_aload_n dX8_advance_57 rfl rfl ?_
      obtain ⟨a18, b19, hf⟩ := Option.bind_eq_some_iff.mp hf
      refine GX8_12 b19 dX8_advance_58 rfl ?_
      obtain ⟨a20, b21, hf⟩ := Option.bind_eq_some_iff.mp hf
      refine GX8_357 b21 dX8_advance_61 rfl ?_
      refine w_iload_n dX8_advance_64 rfl rfl ?_
      obtain ⟨x22, b23, hf⟩ := Option.bind_eq_some_iff.mp hf
      refine x_rI b23 dX8_advance_65 ?_
      refine w_i2l dX8_advance_66 ?_
      refine w_ladd dX8_advance_67 ?_
      obtain ⟨_, b24, hf⟩ := Option.bind_eq_some_iff.mp hf
      refine x_ctI hf (e_stV (Yc := YX8_size) (ci := 7) (av := [.long ((x16).toInt64 + (x22).toInt64)]) (st := [.int p1, .ref a13]) dX8_advance_68 q2778 mX8_size rfl (k_ok_some b24).1 (k_ok_some b24).2) mX8_size.2.2.1 mX8_size.2.2.2.2.1 (Nat.le_of_ble_eq_true rfl) (Nat.le_of_ble_eq_true rfl) rfl (fun q hq => pX8_size (by omega) hq) (fun x25 h26 hf => ?_)
      refine w_iload_n dX8_advance_71 rfl rfl ?_
      obtain ⟨_, b27, hf⟩ := Option.bind_eq_some_iff.mp hf
      refine x_cnV hf (e_stV (Yc := YX9_set) (ci := 8) (av := [.int p1, .int x25, .int p2]) (st := []) dX8_advance_72 q3962 mX9_set rfl (k_ok_some b27).1 (k_ok_some b27).2) mX9_set.2.2.1 mX9_set.2.2.2.2.1 (Nat.le_of_ble_eq_true rfl) (Nat.le_of_ble_eq_true rfl) (fun q hq => pX9_set (by omega) hq) (fun q28 hf => ?_)
      refine w_goto 93 dX8_advance_75 (by decide) ?_
      exact (pX8_advance_b93 hd hdr hrE hrN hf).to trivial
  · replace hf := (if_neg (show ¬ (q1.1 = 0) from c2)).symm.trans hf
    refine w_aload_n dX8_advance_7 rfl rfl ?_
    obtain ⟨a29, b30, hf⟩ := Option.bind_eq_some_iff.mp hf
    refine GX8_12 b30 dX8_advance_8 rfl ?_
    refine w_iload_n dX8_advance_11 rfl rfl ?_
    refine w_aload_n dX8_advance_12 rfl rfl ?_
    refine w_aload_n dX8_advance_13 rfl rfl ?_
    obtain ⟨_, b31, hf⟩ := Option.bind_eq_some_iff.mp hf
    refine x_ctI hf (e_stV (Yc := YX8_number) (ci := 7) (av := []) (st := [.ref this, .int p1, .ref a29]) dX8_advance_14 q2590 mX8_number rfl (k_ok_some b31).1 (k_ok_some b31).2) mX8_number.2.2.1 mX8_number.2.2.2.2.1 (Nat.le_of_ble_eq_true rfl) (Nat.le_of_ble_eq_true rfl) rfl (fun q hq => (hrN _ _ _ hq).up (by omega)) (fun x32 h33 hf => ?_)
    refine w_i2l dX8_advance_17 ?_
    refine w_aload_n dX8_advance_18 rfl rfl ?_
    obtain ⟨a34, b35, hf⟩ := Option.bind_eq_some_iff.mp hf
    refine GX8_12 b35 dX8_advance_19 rfl ?_
    obtain ⟨a36, b37, hf⟩ := Option.bind_eq_some_iff.mp hf
    refine GX8_357 b37 dX8_advance_22 rfl ?_
    refine w_iload_n dX8_advance_25 rfl rfl ?_
    obtain ⟨x38, b39, hf⟩ := Option.bind_eq_some_iff.mp hf
    refine x_rI b39 dX8_advance_26 ?_
    refine w_i2l dX8_advance_27 ?_
    refine w_ladd dX8_advance_28 ?_
    obtain ⟨_, b40, hf⟩ := Option.bind_eq_some_iff.mp hf
    refine x_ctI hf (e_stV (Yc := YX8_counter) (ci := 7) (av := [.long ((x32).toInt64 + (x38).toInt64)]) (st := [.int p1, .ref a29]) dX8_advance_29 q3957 mX8_counter rfl (k_ok_some b40).1 (k_ok_some b40).2) mX8_counter.2.2.1 mX8_counter.2.2.2.2.1 (Nat.le_of_ble_eq_true rfl) (Nat.le_of_ble_eq_true rfl) rfl (fun q hq => pX8_counter (by omega) hq) (fun x41 h42 hf => ?_)
    refine w_iload_n dX8_advance_32 rfl rfl ?_
    obtain ⟨_, b43, hf⟩ := Option.bind_eq_some_iff.mp hf
    refine x_cnV hf (e_stV (Yc := YX9_set) (ci := 8) (av := [.int p1, .int x41, .int p2]) (st := []) dX8_advance_33 q3962 mX9_set rfl (k_ok_some b43).1 (k_ok_some b43).2) mX9_set.2.2.1 mX9_set.2.2.2.2.1 (Nat.le_of_ble_eq_true rfl) (Nat.le_of_ble_eq_true rfl) (fun q hq => pX9_set (by omega) hq) (fun q44 hf => ?_)
    refine w_goto 93 dX8_advance_36 (by decide) ?_
    exact (pX8_advance_b93 hd hdr hrE hrN hf).to trivial
abbrev cX8_reckoned : ByteArray := prog_4_method_61_code
def yX8_reckoned : MethodName := ⟨RX8, "reckoned", "(IJJ)J"⟩
def YX8_reckoned : eY := (yX8_reckoned, cX8_reckoned, 6, (Option.some FieldType.long), [])
theorem mX8_reckoned : e_mv YX8_reckoned RX8 3 := ⟨q3990, qs203, q3991, by decide, by decide +kernel, (e_sig (by decide +kernel))⟩
theorem dX8_reckoned_0 : decode cX8_reckoned 0 = .ok (.aload_n 0, 1) := dc_42 (by decide +kernel)
theorem dX8_reckoned_1 : decode cX8_reckoned 1 = .ok (.getfield 51, 3) := dc_180 (a := 0) (b := 51) (n := 51) (by decide +kernel)
theorem dX8_reckoned_4 : decode cX8_reckoned 4 = .ok (.iload_n 1, 1) := dc_27 (by decide +kernel)
theorem dX8_reckoned_5 : decode cX8_reckoned 5 = .ok (.bipush 64, 2) := dc_16 (a := 64) (v := 64) (by decide +kernel)
theorem dX8_reckoned_7 : decode cX8_reckoned 7 = .ok (.if_icmp .ne 10, 3) := dc_160 (a := 0) (b := 10) (v := 10) (by decide +kernel)
theorem dX8_reckoned_10 : decode cX8_reckoned 10 = .ok (.lload 4, 2) := dc_22 (a := 4) (by decide +kernel)
theorem dX8_reckoned_12 : decode cX8_reckoned 12 = .ok (.lconst 0, 1) := dc_9 (by decide +kernel)
theorem dX8_reckoned_13 : decode cX8_reckoned 13 = .ok (.lcmp, 1) := dc_148 (by decide +kernel)
theorem dX8_reckoned_14 : decode cX8_reckoned 14 = .ok (.ifCond .eq 7, 3) := dc_153 (a := 0) (b := 7) (v := 7) (by decide +kernel)
theorem dX8_reckoned_17 : decode cX8_reckoned 17 = .ok (.iconst 1, 1) := dc_4 (by decide +kernel)
theorem dX8_reckoned_18 : decode cX8_reckoned 18 = .ok (.goto 4, 3) := dc_167 (a := 0) (b := 4) (v := 4) (by decide +kernel)
theorem dX8_reckoned_21 : decode cX8_reckoned 21 = .ok (.iconst 0, 1) := dc_3 (by decide +kernel)
theorem dX8_reckoned_22 : decode cX8_reckoned 22 = .ok (.bipush 7, 2) := dc_16 (a := 7) (v := 7) (by decide +kernel)
theorem dX8_reckoned_24 : decode cX8_reckoned 24 = .ok (.invokevirtual 145, 3) := dc_182 (a := 0) (b := 145) (n := 145) (by decide +kernel)
theorem dX8_reckoned_27 : decode cX8_reckoned 27 = .ok (.iload_n 1, 1) := dc_27 (by decide +kernel)
theorem dX8_reckoned_28 : decode cX8_reckoned 28 = .ok (.bipush 63, 2) := dc_16 (a := 63) (v := 63) (by decide +kernel)
theorem dX8_reckoned_30 : decode cX8_reckoned 30 = .ok (.if_icmp .ne 10, 3) := dc_160 (a := 0) (b := 10) (v := 10) (by decide +kernel)
theorem dX8_reckoned_33 : decode cX8_reckoned 33 = .ok (.lload_n 2, 1) := dc_32 (by decide +kernel)
theorem dX8_reckoned_34 : decode cX8_reckoned 34 = .ok (.lload 4, 2) := dc_22 (a := 4) (by decide +kernel)
theorem dX8_reckoned_36 : decode cX8_reckoned 36 = .ok (.lmul, 1) := dc_105 (by decide +kernel)
theorem dX8_reckoned_37 : decode cX8_reckoned 37 = .ok (.goto 7, 3) := dc_167 (a := 0) (b := 7) (v := 7) (by decide +kernel)
theorem dX8_reckoned_40 : decode cX8_reckoned 40 = .ok (.lload_n 2, 1) := dc_32 (by decide +kernel)
theorem dX8_reckoned_41 : decode cX8_reckoned 41 = .ok (.lload 4, 2) := dc_22 (a := 4) (by decide +kernel)
theorem dX8_reckoned_43 : decode cX8_reckoned 43 = .ok (.ldiv, 1) := dc_109 (by decide +kernel)
theorem dX8_reckoned_44 : decode cX8_reckoned 44 = .ok (.lreturn, 1) := dc_173 (by decide +kernel)
def fX8_reckoned_b44 (s0 : Int64) (h : eH) : Option ((Int64 ⊕ Nat) × eH) :=
  some (.inl s0, h)
theorem pX8_reckoned_b44 {w : eW} {d : Nat} (hd : 8 ≤ d + 1) {s0 : Int64} {h : eH} {q} (hf : fX8_reckoned_b44 s0 h = some q) : wp w (d + 1) YX8_reckoned 44 [none, none, none, none, none, none] [.long s0] h (e_is (e_rt c_J q)) := by
  unfold fX8_reckoned_b44 at hf
  cases hf
  exact w_lret dX8_reckoned_44 rfl rfl
def fX8_reckoned_b22 (l1 : Int32) (l2 : Int64) (l4 : Int64) (s0 : Nat) (s1 : Int32) (h : eH) : Option ((Int64 ⊕ Nat) × eH) :=
  (k_ok 3 h s0).bind fun _ =>
  t_B (fX4_want s0 s1 (7 : Int32) h) fun x2 h3 =>
  if ¬ l1 = (63 : Int32) then
    if l4 = 0 then none else
    fX8_reckoned_b44 (l2 / l4) h3
  else
    fX8_reckoned_b44 (l2 * l4) h3
theorem pX8_reckoned_b22 {w : eW} {d : Nat} (hd : 8 ≤ d + 1) {l1 : Int32} {l2 : Int64} {l4 : Int64} {s0 : Nat} {s1 : Int32} {h : eH} {q} (hf : fX8_reckoned_b22 l1 l2 l4 s0 s1 h = some q) : wp w (d + 1) YX8_reckoned 22 [none, some (.int l1), some (.long l2), none, some (.long l4), none] [.int s1, .ref s0] h (e_is (e_rt c_J q)) := by
  unfold fX8_reckoned_b22 at hf
  refine w_bipush dX8_reckoned_22 (v := 7) (by decide) ?_
  obtain ⟨_, b1, hf⟩ := Option.bind_eq_some_iff.mp hf
  refine x_ctV hf (e_stV (Yc := YX4_want) (ci := 3) (av := [.int s1, .int (7 : Int32)]) (st := []) dX8_reckoned_24 q2500 mX4_want rfl (k_ok_some b1).1 (k_ok_some b1).2) mX4_want.2.2.1 mX4_want.2.2.2.2.1 (Nat.le_of_ble_eq_true rfl) (Nat.le_of_ble_eq_true rfl) rfl (fun q hq => pX4_want (by omega) hq) (fun x2 h3 hf => ?_)
  refine w_iload_n dX8_reckoned_27 rfl rfl ?_
  refine w_bipush dX8_reckoned_28 (v := 63) (by decide) ?_
  refine w_icmp_ne 40 dX8_reckoned_30 (by decide) (fun c4 => ?_) (fun c4 => ?_)
  · replace hf := (if_pos (show ¬ l1 = (63 : Int32) from c4)).symm.trans hf
    refine w_lload_n dX8_reckoned_40 rfl rfl ?_
    refine w_lload dX8_reckoned_41 rfl ?_
    by_cases c5 : l4 = 0
    · exact absurd ((if_pos c5).symm.trans hf) (by simp)
    replace hf := (if_neg c5).symm.trans hf
    refine w_ldiv dX8_reckoned_43 c5 ?_
    exact (pX8_reckoned_b44 hd hf).to trivial
  · replace hf := (if_neg (show ¬ (¬ l1 = (63 : Int32)) from (fun z => z c4))).symm.trans hf
    refine w_lload_n dX8_reckoned_33 rfl rfl ?_
    refine w_lload dX8_reckoned_34 rfl ?_
    refine w_lmul dX8_reckoned_36 ?_
    refine w_goto 44 dX8_reckoned_37 (by decide) ?_
    exact (pX8_reckoned_b44 hd hf).to trivial
def fX8_reckoned_b17 (l1 : Int32) (l2 : Int64) (l4 : Int64) (s0 : Nat) (h : eH) : Option ((Int64 ⊕ Nat) × eH) :=
  fX8_reckoned_b22 l1 l2 l4 s0 (1 : Int32) h
theorem pX8_reckoned_b17 {w : eW} {d : Nat} (hd : 8 ≤ d + 1) {l1 : Int32} {l2 : Int64} {l4 : Int64} {s0 : Nat} {h : eH} {q} (hf : fX8_reckoned_b17 l1 l2 l4 s0 h = some q) : wp w (d + 1) YX8_reckoned 17 [none, some (.int l1), some (.long l2), none, some (.long l4), none] [.ref s0] h (e_is (e_rt c_J q)) := by
  unfold fX8_reckoned_b17 at hf
  refine w_iconst dX8_reckoned_17 (v := 1) (by decide) ?_
  refine w_goto 22 dX8_reckoned_18 (by decide) ?_
  exact (pX8_reckoned_b22 hd hf).to ⟨rfl, rfl, rfl, trivial⟩
def fX8_reckoned (this : Nat) (p0 : Int32) (p1 : Int64) (p2 : Int64) (h : eH) : Option ((Int64 ⊕ Nat) × eH) :=
  (g_A 7 h this 0).bind fun a1 =>
  if ¬ p0 = (64 : Int32) then
    fX8_reckoned_b17 p0 p1 p2 a1 h
  else
    if (lg_cmp p2 (0 : Int64)) = 0 then
      fX8_reckoned_b22 p0 p1 p2 a1 (0 : Int32) h
    else
      fX8_reckoned_b17 p0 p1 p2 a1 h
theorem pX8_reckoned {w : eW} {d : Nat} (hd : 8 ≤ d) {this : Nat} {p0 : Int32} {p1 : Int64} {p2 : Int64} {h : eH} {q} (hf : fX8_reckoned this p0 p1 p2 h = some q) : wm w d YX8_reckoned [.ref this, .int p0, .long p1, .long p2] h (e_is (e_rt c_J q)) := by
  obtain ⟨d, rfl⟩ : ∃ e, d = e + 1 := ⟨d - 1, by omega⟩
  show wp w (d + 1) YX8_reckoned 0 [some (.ref this), some (.int p0), some (.long p1), none, some (.long p2), none] [] h _
  unfold fX8_reckoned at hf
  refine w_aload_n dX8_reckoned_0 rfl rfl ?_
  obtain ⟨a1, b2, hf⟩ := Option.bind_eq_some_iff.mp hf
  refine GX8_51 b2 dX8_reckoned_1 rfl ?_
  refine w_iload_n dX8_reckoned_4 rfl rfl ?_
  refine w_bipush dX8_reckoned_5 (v := 64) (by decide) ?_
  refine w_icmp_ne 17 dX8_reckoned_7 (by decide) (fun c3 => ?_) (fun c3 => ?_)
  · replace hf := (if_pos (show ¬ p0 = (64 : Int32) from c3)).symm.trans hf
    exact (pX8_reckoned_b17 hd hf).to ⟨rfl, rfl, rfl, trivial⟩
  · replace hf := (if_neg (show ¬ (¬ p0 = (64 : Int32)) from (fun z => z c3))).symm.trans hf
    refine w_lload dX8_reckoned_10 rfl ?_
    refine w_lconst dX8_reckoned_12 (v := 0) (by decide) ?_
    refine w_lcmp dX8_reckoned_13 ?_
    refine w_if_eq 21 dX8_reckoned_14 (by decide) (fun c4 => ?_) (fun c4 => ?_)
    · replace hf := (if_pos (show (lg_cmp p2 (0 : Int64)) = 0 from c4)).symm.trans hf
      refine w_iconst dX8_reckoned_21 (v := 0) (by decide) ?_
      exact (pX8_reckoned_b22 hd hf).to ⟨rfl, rfl, rfl, trivial⟩
    · replace hf := (if_neg (show ¬ ((lg_cmp p2 (0 : Int64)) = 0) from c4)).symm.trans hf
      exact (pX8_reckoned_b17 hd hf).to ⟨rfl, rfl, rfl, trivial⟩
abbrev cX8_reckon : ByteArray := prog_4_method_62_code
def yX8_reckon : MethodName := ⟨RX8, "reckon", "(IZ)V"⟩
def YX8_reckon : eY := (yX8_reckon, cX8_reckon, 10, none, [])
theorem mX8_reckon : e_mv YX8_reckon RX8 2 := ⟨q3950, qs195, q3951, by decide, by decide +kernel, (e_sig (by decide +kernel))⟩
theorem dX8_reckon_0 : decode cX8_reckon 0 = .ok (.aload_n 0, 1) := dc_42 (by decide +kernel)
theorem dX8_reckon_1 : decode cX8_reckon 1 = .ok (.aload_n 0, 1) := dc_42 (by decide +kernel)
theorem dX8_reckon_2 : decode cX8_reckon 2 = .ok (.invokevirtual 335, 3) := dc_182 (a := 1) (b := 79) (n := 335) (by decide +kernel)
theorem dX8_reckon_5 : decode cX8_reckon 5 = .ok (.invokevirtual 243, 3) := dc_182 (a := 0) (b := 243) (n := 243) (by decide +kernel)
theorem dX8_reckon_8 : decode cX8_reckon 8 = .ok (.istore_n 3, 1) := dc_62 (by decide +kernel)
theorem dX8_reckon_9 : decode cX8_reckon 9 = .ok (.aload_n 0, 1) := dc_42 (by decide +kernel)
theorem dX8_reckon_10 : decode cX8_reckon 10 = .ok (.getfield 51, 3) := dc_180 (a := 0) (b := 51) (n := 51) (by decide +kernel)
theorem dX8_reckon_13 : decode cX8_reckon 13 = .ok (.iload_n 3, 1) := dc_29 (by decide +kernel)
theorem dX8_reckon_14 : decode cX8_reckon 14 = .ok (.bipush 67, 2) := dc_16 (a := 67) (v := 67) (by decide +kernel)
theorem dX8_reckon_16 : decode cX8_reckon 16 = .ok (.if_icmp .lt 7, 3) := dc_161 (a := 0) (b := 7) (v := 7) (by decide +kernel)
theorem dX8_reckon_19 : decode cX8_reckon 19 = .ok (.iconst 1, 1) := dc_4 (by decide +kernel)
theorem dX8_reckon_20 : decode cX8_reckon 20 = .ok (.goto 4, 3) := dc_167 (a := 0) (b := 4) (v := 4) (by decide +kernel)
theorem dX8_reckon_23 : decode cX8_reckon 23 = .ok (.iconst 0, 1) := dc_3 (by decide +kernel)
theorem dX8_reckon_24 : decode cX8_reckon 24 = .ok (.bipush 6, 2) := dc_16 (a := 6) (v := 6) (by decide +kernel)
theorem dX8_reckon_26 : decode cX8_reckon 26 = .ok (.invokevirtual 145, 3) := dc_182 (a := 0) (b := 145) (n := 145) (by decide +kernel)
theorem dX8_reckon_29 : decode cX8_reckon 29 = .ok (.aload_n 0, 1) := dc_42 (by decide +kernel)
theorem dX8_reckon_30 : decode cX8_reckon 30 = .ok (.iload_n 3, 1) := dc_29 (by decide +kernel)
theorem dX8_reckon_31 : decode cX8_reckon 31 = .ok (.invokevirtual 360, 3) := dc_182 (a := 1) (b := 104) (n := 360) (by decide +kernel)
theorem dX8_reckon_34 : decode cX8_reckon 34 = .ok (.istore 4, 2) := dc_54 (a := 4) (by decide +kernel)
theorem dX8_reckon_36 : decode cX8_reckon 36 = .ok (.aload_n 0, 1) := dc_42 (by decide +kernel)
theorem dX8_reckon_37 : decode cX8_reckon 37 = .ok (.ldc_w 520, 3) := dc_19 (a := 2) (b := 8) (n := 520) (by decide +kernel)
theorem dX8_reckon_40 : decode cX8_reckon 40 = .ok (.invokevirtual 419, 3) := dc_182 (a := 1) (b := 163) (n := 419) (by decide +kernel)
theorem dX8_reckon_43 : decode cX8_reckon 43 = .ok (.istore 5, 2) := dc_54 (a := 5) (by decide +kernel)
theorem dX8_reckon_45 : decode cX8_reckon 45 = .ok (.iload_n 1, 1) := dc_27 (by decide +kernel)
theorem dX8_reckon_46 : decode cX8_reckon 46 = .ok (.bipush 62, 2) := dc_16 (a := 62) (v := 62) (by decide +kernel)
theorem dX8_reckon_48 : decode cX8_reckon 48 = .ok (.if_icmp .ne 12, 3) := dc_160 (a := 0) (b := 12) (v := 12) (by decide +kernel)
theorem dX8_reckon_51 : decode cX8_reckon 51 = .ok (.aload_n 0, 1) := dc_42 (by decide +kernel)
theorem dX8_reckon_52 : decode cX8_reckon 52 = .ok (.iload_n 3, 1) := dc_29 (by decide +kernel)
theorem dX8_reckon_53 : decode cX8_reckon 53 = .ok (.iload 4, 2) := dc_21 (a := 4) (by decide +kernel)
theorem dX8_reckon_55 : decode cX8_reckon 55 = .ok (.iload_n 2, 1) := dc_28 (by decide +kernel)
theorem dX8_reckon_56 : decode cX8_reckon 56 = .ok (.invokevirtual 522, 3) := dc_182 (a := 2) (b := 10) (n := 522) (by decide +kernel)
theorem dX8_reckon_59 : decode cX8_reckon 59 = .ok (.return_, 1) := dc_177 (by decide +kernel)
theorem dX8_reckon_60 : decode cX8_reckon 60 = .ok (.aload_n 0, 1) := dc_42 (by decide +kernel)
theorem dX8_reckon_61 : decode cX8_reckon 61 = .ok (.invokevirtual 225, 3) := dc_182 (a := 0) (b := 225) (n := 225) (by decide +kernel)
theorem dX8_reckon_64 : decode cX8_reckon 64 = .ok (.i2l, 1) := dc_133 (by decide +kernel)
theorem dX8_reckon_65 : decode cX8_reckon 65 = .ok (.lstore 6, 2) := dc_55 (a := 6) (by decide +kernel)
theorem dX8_reckon_67 : decode cX8_reckon 67 = .ok (.iload_n 3, 1) := dc_29 (by decide +kernel)
theorem dX8_reckon_68 : decode cX8_reckon 68 = .ok (.invokestatic 372, 3) := dc_184 (a := 1) (b := 116) (n := 372) (by decide +kernel)
theorem dX8_reckon_71 : decode cX8_reckon 71 = .ok (.ifCond .eq 111, 3) := dc_153 (a := 0) (b := 111) (v := 111) (by decide +kernel)
theorem dX8_reckon_74 : decode cX8_reckon 74 = .ok (.iconst 0, 1) := dc_3 (by decide +kernel)
theorem dX8_reckon_75 : decode cX8_reckon 75 = .ok (.istore 8, 2) := dc_54 (a := 8) (by decide +kernel)
theorem dX8_reckon_77 : decode cX8_reckon 77 = .ok (.iload 8, 2) := dc_21 (a := 8) (by decide +kernel)
theorem dX8_reckon_79 : decode cX8_reckon 79 = .ok (.iconst 4, 1) := dc_7 (by decide +kernel)
theorem dX8_reckon_80 : decode cX8_reckon 80 = .ok (.if_icmp .ge 62, 3) := dc_162 (a := 0) (b := 62) (v := 62) (by decide +kernel)
theorem dX8_reckon_83 : decode cX8_reckon 83 = .ok (.aload_n 0, 1) := dc_42 (by decide +kernel)
theorem dX8_reckon_84 : decode cX8_reckon 84 = .ok (.getfield 48, 3) := dc_180 (a := 0) (b := 48) (n := 48) (by decide +kernel)
theorem dX8_reckon_87 : decode cX8_reckon 87 = .ok (.iload 8, 2) := dc_21 (a := 8) (by decide +kernel)
theorem dX8_reckon_89 : decode cX8_reckon 89 = .ok (.iload 8, 2) := dc_21 (a := 8) (by decide +kernel)
theorem dX8_reckon_91 : decode cX8_reckon 91 = .ok (.iconst 2, 1) := dc_5 (by decide +kernel)
theorem dX8_reckon_92 : decode cX8_reckon 92 = .ok (.if_icmp .ne 18, 3) := dc_160 (a := 0) (b := 18) (v := 18) (by decide +kernel)
theorem dX8_reckon_95 : decode cX8_reckon 95 = .ok (.aload_n 0, 1) := dc_42 (by decide +kernel)
theorem dX8_reckon_96 : decode cX8_reckon 96 = .ok (.getfield 12, 3) := dc_180 (a := 0) (b := 12) (n := 12) (by decide +kernel)
theorem dX8_reckon_99 : decode cX8_reckon 99 = .ok (.getfield 357, 3) := dc_180 (a := 1) (b := 101) (n := 357) (by decide +kernel)
theorem dX8_reckon_102 : decode cX8_reckon 102 = .ok (.iload 4, 2) := dc_21 (a := 4) (by decide +kernel)
theorem dX8_reckon_104 : decode cX8_reckon 104 = .ok (.iconst 2, 1) := dc_5 (by decide +kernel)
theorem dX8_reckon_105 : decode cX8_reckon 105 = .ok (.iadd, 1) := dc_96 (by decide +kernel)
theorem dX8_reckon_106 : decode cX8_reckon 106 = .ok (.iaload, 1) := dc_46 (by decide +kernel)
theorem dX8_reckon_107 : decode cX8_reckon 107 = .ok (.goto 28, 3) := dc_167 (a := 0) (b := 28) (v := 28) (by decide +kernel)
theorem dX8_reckon_110 : decode cX8_reckon 110 = .ok (.aload_n 0, 1) := dc_42 (by decide +kernel)
theorem dX8_reckon_111 : decode cX8_reckon 111 = .ok (.aload_n 0, 1) := dc_42 (by decide +kernel)
theorem dX8_reckon_112 : decode cX8_reckon 112 = .ok (.iload_n 1, 1) := dc_27 (by decide +kernel)
theorem dX8_reckon_113 : decode cX8_reckon 113 = .ok (.aload_n 0, 1) := dc_42 (by decide +kernel)
theorem dX8_reckon_114 : decode cX8_reckon 114 = .ok (.getfield 12, 3) := dc_180 (a := 0) (b := 12) (n := 12) (by decide +kernel)
theorem dX8_reckon_117 : decode cX8_reckon 117 = .ok (.getfield 357, 3) := dc_180 (a := 1) (b := 101) (n := 357) (by decide +kernel)
theorem dX8_reckon_120 : decode cX8_reckon 120 = .ok (.iload 4, 2) := dc_21 (a := 4) (by decide +kernel)
theorem dX8_reckon_122 : decode cX8_reckon 122 = .ok (.iload 8, 2) := dc_21 (a := 8) (by decide +kernel)
theorem dX8_reckon_124 : decode cX8_reckon 124 = .ok (.iadd, 1) := dc_96 (by decide +kernel)
theorem dX8_reckon_125 : decode cX8_reckon 125 = .ok (.iaload, 1) := dc_46 (by decide +kernel)
theorem dX8_reckon_126 : decode cX8_reckon 126 = .ok (.i2l, 1) := dc_133 (by decide +kernel)
theorem dX8_reckon_127 : decode cX8_reckon 127 = .ok (.lload 6, 2) := dc_22 (a := 6) (by decide +kernel)
theorem dX8_reckon_129 : decode cX8_reckon 129 = .ok (.invokevirtual 525, 3) := dc_182 (a := 2) (b := 13) (n := 525) (by decide +kernel)
theorem dX8_reckon_132 : decode cX8_reckon 132 = .ok (.invokevirtual 476, 3) := dc_182 (a := 1) (b := 220) (n := 476) (by decide +kernel)
theorem dX8_reckon_135 : decode cX8_reckon 135 = .ok (.iastore, 1) := dc_79 (by decide +kernel)
theorem dX8_reckon_136 : decode cX8_reckon 136 = .ok (.iinc 8 1, 3) := dc_132 (a := 8) (b := 1) (v := 1) (by decide +kernel)
theorem dX8_reckon_139 : decode cX8_reckon 139 = .ok (.goto (-62), 3) := dc_167 (a := 255) (b := 194) (v := -62) (by decide +kernel)
theorem dX8_reckon_142 : decode cX8_reckon 142 = .ok (.aload_n 0, 1) := dc_42 (by decide +kernel)
theorem dX8_reckon_143 : decode cX8_reckon 143 = .ok (.getfield 51, 3) := dc_180 (a := 0) (b := 51) (n := 51) (by decide +kernel)
theorem dX8_reckon_146 : decode cX8_reckon 146 = .ok (.aload_n 0, 1) := dc_42 (by decide +kernel)
theorem dX8_reckon_147 : decode cX8_reckon 147 = .ok (.getfield 48, 3) := dc_180 (a := 0) (b := 48) (n := 48) (by decide +kernel)
theorem dX8_reckon_150 : decode cX8_reckon 150 = .ok (.iconst 1, 1) := dc_4 (by decide +kernel)
theorem dX8_reckon_151 : decode cX8_reckon 151 = .ok (.iaload, 1) := dc_46 (by decide +kernel)
theorem dX8_reckon_152 : decode cX8_reckon 152 = .ok (.ifCond .lt 16, 3) := dc_155 (a := 0) (b := 16) (v := 16) (by decide +kernel)
theorem dX8_reckon_155 : decode cX8_reckon 155 = .ok (.aload_n 0, 1) := dc_42 (by decide +kernel)
theorem dX8_reckon_156 : decode cX8_reckon 156 = .ok (.getfield 48, 3) := dc_180 (a := 0) (b := 48) (n := 48) (by decide +kernel)
theorem dX8_reckon_159 : decode cX8_reckon 159 = .ok (.iconst 3, 1) := dc_6 (by decide +kernel)
theorem dX8_reckon_160 : decode cX8_reckon 160 = .ok (.iaload, 1) := dc_46 (by decide +kernel)
theorem dX8_reckon_161 : decode cX8_reckon 161 = .ok (.ifCond .lt 7, 3) := dc_155 (a := 0) (b := 7) (v := 7) (by decide +kernel)
theorem dX8_reckon_164 : decode cX8_reckon 164 = .ok (.iconst 1, 1) := dc_4 (by decide +kernel)
theorem dX8_reckon_165 : decode cX8_reckon 165 = .ok (.goto 4, 3) := dc_167 (a := 0) (b := 4) (v := 4) (by decide +kernel)
theorem dX8_reckon_168 : decode cX8_reckon 168 = .ok (.iconst 0, 1) := dc_3 (by decide +kernel)
theorem dX8_reckon_169 : decode cX8_reckon 169 = .ok (.bipush 7, 2) := dc_16 (a := 7) (v := 7) (by decide +kernel)
theorem dX8_reckon_171 : decode cX8_reckon 171 = .ok (.invokevirtual 145, 3) := dc_182 (a := 0) (b := 145) (n := 145) (by decide +kernel)
theorem dX8_reckon_174 : decode cX8_reckon 174 = .ok (.aload_n 0, 1) := dc_42 (by decide +kernel)
theorem dX8_reckon_175 : decode cX8_reckon 175 = .ok (.iload 4, 2) := dc_21 (a := 4) (by decide +kernel)
theorem dX8_reckon_177 : decode cX8_reckon 177 = .ok (.iload_n 2, 1) := dc_28 (by decide +kernel)
theorem dX8_reckon_178 : decode cX8_reckon 178 = .ok (.invokevirtual 514, 3) := dc_182 (a := 2) (b := 2) (n := 514) (by decide +kernel)
theorem dX8_reckon_181 : decode cX8_reckon 181 = .ok (.return_, 1) := dc_177 (by decide +kernel)
theorem dX8_reckon_182 : decode cX8_reckon 182 = .ok (.aload_n 0, 1) := dc_42 (by decide +kernel)
theorem dX8_reckon_183 : decode cX8_reckon 183 = .ok (.iload_n 1, 1) := dc_27 (by decide +kernel)
theorem dX8_reckon_184 : decode cX8_reckon 184 = .ok (.aload_n 0, 1) := dc_42 (by decide +kernel)
theorem dX8_reckon_185 : decode cX8_reckon 185 = .ok (.getfield 12, 3) := dc_180 (a := 0) (b := 12) (n := 12) (by decide +kernel)
theorem dX8_reckon_188 : decode cX8_reckon 188 = .ok (.getfield 357, 3) := dc_180 (a := 1) (b := 101) (n := 357) (by decide +kernel)
theorem dX8_reckon_191 : decode cX8_reckon 191 = .ok (.iload 4, 2) := dc_21 (a := 4) (by decide +kernel)
theorem dX8_reckon_193 : decode cX8_reckon 193 = .ok (.iaload, 1) := dc_46 (by decide +kernel)
theorem dX8_reckon_194 : decode cX8_reckon 194 = .ok (.i2l, 1) := dc_133 (by decide +kernel)
theorem dX8_reckon_195 : decode cX8_reckon 195 = .ok (.lload 6, 2) := dc_22 (a := 6) (by decide +kernel)
theorem dX8_reckon_197 : decode cX8_reckon 197 = .ok (.invokevirtual 525, 3) := dc_182 (a := 2) (b := 13) (n := 525) (by decide +kernel)
theorem dX8_reckon_200 : decode cX8_reckon 200 = .ok (.lstore 8, 2) := dc_55 (a := 8) (by decide +kernel)
theorem dX8_reckon_202 : decode cX8_reckon 202 = .ok (.aload_n 0, 1) := dc_42 (by decide +kernel)
theorem dX8_reckon_203 : decode cX8_reckon 203 = .ok (.getfield 12, 3) := dc_180 (a := 0) (b := 12) (n := 12) (by decide +kernel)
theorem dX8_reckon_206 : decode cX8_reckon 206 = .ok (.iload 4, 2) := dc_21 (a := 4) (by decide +kernel)
theorem dX8_reckon_208 : decode cX8_reckon 208 = .ok (.iload_n 3, 1) := dc_29 (by decide +kernel)
theorem dX8_reckon_209 : decode cX8_reckon 209 = .ok (.invokestatic 354, 3) := dc_184 (a := 1) (b := 98) (n := 354) (by decide +kernel)
theorem dX8_reckon_212 : decode cX8_reckon 212 = .ok (.ifCond .eq 12, 3) := dc_153 (a := 0) (b := 12) (v := 12) (by decide +kernel)
theorem dX8_reckon_215 : decode cX8_reckon 215 = .ok (.aload_n 0, 1) := dc_42 (by decide +kernel)
theorem dX8_reckon_216 : decode cX8_reckon 216 = .ok (.lload 8, 2) := dc_22 (a := 8) (by decide +kernel)
theorem dX8_reckon_218 : decode cX8_reckon 218 = .ok (.invokevirtual 529, 3) := dc_182 (a := 2) (b := 17) (n := 529) (by decide +kernel)
theorem dX8_reckon_221 : decode cX8_reckon 221 = .ok (.goto 9, 3) := dc_167 (a := 0) (b := 9) (v := 9) (by decide +kernel)
theorem dX8_reckon_224 : decode cX8_reckon 224 = .ok (.aload_n 0, 1) := dc_42 (by decide +kernel)
theorem dX8_reckon_225 : decode cX8_reckon 225 = .ok (.lload 8, 2) := dc_22 (a := 8) (by decide +kernel)
theorem dX8_reckon_227 : decode cX8_reckon 227 = .ok (.invokevirtual 476, 3) := dc_182 (a := 1) (b := 220) (n := 476) (by decide +kernel)
theorem dX8_reckon_230 : decode cX8_reckon 230 = .ok (.iload_n 2, 1) := dc_28 (by decide +kernel)
theorem dX8_reckon_231 : decode cX8_reckon 231 = .ok (.invokevirtual 507, 3) := dc_182 (a := 1) (b := 251) (n := 507) (by decide +kernel)
theorem dX8_reckon_234 : decode cX8_reckon 234 = .ok (.return_, 1) := dc_177 (by decide +kernel)
def fX8_reckon_b135 (N : Nat) (rE : Nat → Int32 → eH → Option ((Unit ⊕ Nat) × eH)) (rN : Nat → eH → Option ((Int32 ⊕ Nat) × eH)) (k77 : Nat → Int32 → Int32 → Int32 → Int64 → Int32 → eH → Option ((Unit ⊕ Nat) × eH)) (l0 : Nat) (l1 : Int32) (l2 : Int32) (l4 : Int32) (l6 : Int64) (l8 : Int32) (s0 : Nat) (s1 : Int32) (s2 : Int32) (h : eH) : Option ((Unit ⊕ Nat) × eH) :=
  (q_V 100 h s0 s1 (.int s2)).bind fun h1 =>
  k77 l0 l1 l2 l4 l6 (l8 + (1 : Int32)) h1
theorem pX8_reckon_b135 {w : eW} {d : Nat} {dr : Nat} (hd : dr + 20 ≤ d + 1) (hdr : 12 ≤ dr) {N : Nat} {rE : Nat → Int32 → eH → Option ((Unit ⊕ Nat) × eH)} {rN : Nat → eH → Option ((Int32 ⊕ Nat) × eH)} (hrE : ∀ a t0 h q, rE a t0 h = some q → wm w dr YX8_expand [.ref a, .int t0] h (e_is (e_rt c_V q))) (hrN : ∀ a h q, rN a h = some q → wm w dr YX8_number [.ref a] h (e_is (e_rt c_I q))) {k77 : Nat → Int32 → Int32 → Int32 → Int64 → Int32 → eH → Option ((Unit ⊕ Nat) × eH)} (hk77 : ∀ l0 l1 l2 l4 l6 l8 h q, k77 l0 l1 l2 l4 l6 l8 h = some q → wp w (d + 1) YX8_reckon 77 [some (.ref l0), some (.int l1), some (.int l2), none, some (.int l4), none, some (.long l6), none, some (.int l8), none] [] h (e_is (e_rt c_V q))) {l0 : Nat} {l1 : Int32} {l2 : Int32} {l4 : Int32} {l6 : Int64} {l8 : Int32} {s0 : Nat} {s1 : Int32} {s2 : Int32} {h : eH} {q} (hf : fX8_reckon_b135 N rE rN k77 l0 l1 l2 l4 l6 l8 s0 s1 s2 h = some q) : wp w (d + 1) YX8_reckon 135 [some (.ref l0), some (.int l1), some (.int l2), none, some (.int l4), none, some (.long l6), none, some (.int l8), none] [.int s2, .int s1, .ref s0] h (e_is (e_rt c_V q)) := by
  unfold fX8_reckon_b135 at hf
  obtain ⟨h1, b2, hf⟩ := Option.bind_eq_some_iff.mp hf
  refine x_qI b2 dX8_reckon_135 ?_
  refine w_iinc dX8_reckon_136 (v := (l8 + (1 : Int32))) rfl rfl (by decide) (ls' := [some (.ref l0), some (.int l1), some (.int l2), none, some (.int l4), none, some (.long l6), none, some (.int (l8 + (1 : Int32))), none]) rfl ?_
  refine w_goto 77 dX8_reckon_139 (by decide) ?_
  exact (hk77 _ _ _ _ _ _ _ _ hf).to ⟨rfl, rfl, rfl, rfl, rfl, rfl, trivial⟩
def fX8_reckon_b169 (N : Nat) (rE : Nat → Int32 → eH → Option ((Unit ⊕ Nat) × eH)) (rN : Nat → eH → Option ((Int32 ⊕ Nat) × eH)) (l0 : Nat) (l2 : Int32) (l4 : Int32) (s0 : Nat) (s1 : Int32) (h : eH) : Option ((Unit ⊕ Nat) × eH) :=
  (k_ok 3 h s0).bind fun _ =>
  t_B (fX4_want s0 s1 (7 : Int32) h) fun x2 h3 =>
  (k_ok 7 h3 l0).bind fun _ =>
  (fX8_setGlue N l0 l4 l2 h3).bind fun q5 =>
  some (.inl (), q5.2)
theorem pX8_reckon_b169 {w : eW} {d : Nat} {dr : Nat} (hd : dr + 20 ≤ d + 1) (hdr : 12 ≤ dr) {N : Nat} {rE : Nat → Int32 → eH → Option ((Unit ⊕ Nat) × eH)} {rN : Nat → eH → Option ((Int32 ⊕ Nat) × eH)} (hrE : ∀ a t0 h q, rE a t0 h = some q → wm w dr YX8_expand [.ref a, .int t0] h (e_is (e_rt c_V q))) (hrN : ∀ a h q, rN a h = some q → wm w dr YX8_number [.ref a] h (e_is (e_rt c_I q))) {l0 : Nat} {l2 : Int32} {l4 : Int32} {s0 : Nat} {s1 : Int32} {h : eH} {q} (hf : fX8_reckon_b169 N rE rN l0 l2 l4 s0 s1 h = some q) : wp w (d + 1) YX8_reckon 169 [some (.ref l0), none, some (.int l2), none, some (.int l4), none, none, none, none, none] [.int s1, .ref s0] h (e_is (e_rt c_V q)) := by
  unfold fX8_reckon_b169 at hf
  refine w_bipush dX8_reckon_169 (v := 7) (by decide) ?_
  obtain ⟨_, b1, hf⟩ := Option.bind_eq_some_iff.mp hf
  refine x_ctV hf (e_stV (Yc := YX4_want) (ci := 3) (av := [.int s1, .int (7 : Int32)]) (st := []) dX8_reckon_171 q2500 mX4_want rfl (k_ok_some b1).1 (k_ok_some b1).2) mX4_want.2.2.1 mX4_want.2.2.2.2.1 (Nat.le_of_ble_eq_true rfl) (Nat.le_of_ble_eq_true rfl) rfl (fun q hq => pX4_want (by omega) hq) (fun x2 h3 hf => ?_)
  refine w_aload_n dX8_reckon_174 rfl rfl ?_
  refine w_iload dX8_reckon_175 rfl ?_
  refine w_iload_n dX8_reckon_177 rfl rfl ?_
  obtain ⟨_, b4, hf⟩ := Option.bind_eq_some_iff.mp hf
  refine x_cnV hf (e_stV (Yc := YX8_setGlue) (ci := 7) (av := [.int l4, .int l2]) (st := []) dX8_reckon_178 q3984 mX8_setGlue rfl (k_ok_some b4).1 (k_ok_some b4).2) mX8_setGlue.2.2.1 mX8_setGlue.2.2.2.2.1 (Nat.le_of_ble_eq_true rfl) (Nat.le_of_ble_eq_true rfl) (fun q hq => pX8_setGlue (by omega) hq) (fun q5 hf => ?_)
  cases hf
  exact w_vret dX8_reckon_181 rfl rfl
def fX8_reckon_b168 (N : Nat) (rE : Nat → Int32 → eH → Option ((Unit ⊕ Nat) × eH)) (rN : Nat → eH → Option ((Int32 ⊕ Nat) × eH)) (l0 : Nat) (l2 : Int32) (l4 : Int32) (s0 : Nat) (h : eH) : Option ((Unit ⊕ Nat) × eH) :=
  fX8_reckon_b169 N rE rN l0 l2 l4 s0 (0 : Int32) h
theorem pX8_reckon_b168 {w : eW} {d : Nat} {dr : Nat} (hd : dr + 20 ≤ d + 1) (hdr : 12 ≤ dr) {N : Nat} {rE : Nat → Int32 → eH → Option ((Unit ⊕ Nat) × eH)} {rN : Nat → eH → Option ((Int32 ⊕ Nat) × eH)} (hrE : ∀ a t0 h q, rE a t0 h = some q → wm w dr YX8_expand [.ref a, .int t0] h (e_is (e_rt c_V q))) (hrN : ∀ a h q, rN a h = some q → wm w dr YX8_number [.ref a] h (e_is (e_rt c_I q))) {l0 : Nat} {l2 : Int32} {l4 : Int32} {s0 : Nat} {h : eH} {q} (hf : fX8_reckon_b168 N rE rN l0 l2 l4 s0 h = some q) : wp w (d + 1) YX8_reckon 168 [some (.ref l0), none, some (.int l2), none, some (.int l4), none, none, none, none, none] [.ref s0] h (e_is (e_rt c_V q)) := by
  unfold fX8_reckon_b168 at hf
  refine w_iconst dX8_reckon_168 (v := 0) (by decide) ?_
  exact (pX8_reckon_b169 hd hdr hrE hrN hf).to ⟨rfl, rfl, rfl, trivial⟩
def fX8_reckon_b77 (N : Nat) (rE : Nat → Int32 → eH → Option ((Unit ⊕ Nat) × eH)) (rN : Nat → eH → Option ((Int32 ⊕ Nat) × eH)) : Nat → Nat → Int32 → Int32 → Int32 → Int64 → Int32 → eH → Option ((Unit ⊕ Nat) × eH)
  | 0, _, _, _, _, _, _, _ => none
  | n + 1, l0, l1, l2, l4, l6, l8, h =>
    if (4 : Int32) ≤ l8 then
      (g_A 7 h l0 0).bind fun a2 =>
      (g_A 7 h l0 29).bind fun a4 =>
      (r_I 100 h a4 (1 : Int32)).bind fun x6 =>
      if x6 < 0 then
        fX8_reckon_b168 N rE rN l0 l2 l4 a2 h
      else
        (g_A 7 h l0 29).bind fun a9 =>
        (r_I 100 h a9 (3 : Int32)).bind fun x11 =>
        if x11 < 0 then
          fX8_reckon_b168 N rE rN l0 l2 l4 a2 h
        else
          fX8_reckon_b169 N rE rN l0 l2 l4 a2 (1 : Int32) h
    else
      (g_A 7 h l0 29).bind fun a14 =>
      if ¬ l8 = (2 : Int32) then
        (g_A 7 h l0 4).bind fun a17 =>
        (g_A 8 h a17 3).bind fun a19 =>
        (r_I 100 h a19 (l4 + l8)).bind fun x21 =>
        (k_ok 7 h l0).bind fun _ =>
        t_B (fX8_reckoned l0 l1 (x21).toInt64 l6 h) fun x24 h25 =>
        (k_ok 7 h25 l0).bind fun _ =>
        t_B (fX8_size l0 x24 h25) fun x27 h28 =>
        fX8_reckon_b135 N rE rN (fX8_reckon_b77 N rE rN n) l0 l1 l2 l4 l6 l8 a14 l8 x27 h28
      else
        (g_A 7 h l0 4).bind fun a29 =>
        (g_A 8 h a29 3).bind fun a31 =>
        (r_I 100 h a31 (l4 + (2 : Int32))).bind fun x33 =>
        fX8_reckon_b135 N rE rN (fX8_reckon_b77 N rE rN n) l0 l1 l2 l4 l6 l8 a14 l8 x33 h
theorem pX8_reckon_b77 {w : eW} {d : Nat} {dr : Nat} (hd : dr + 20 ≤ d + 1) (hdr : 12 ≤ dr) {N : Nat} {rE : Nat → Int32 → eH → Option ((Unit ⊕ Nat) × eH)} {rN : Nat → eH → Option ((Int32 ⊕ Nat) × eH)} (hrE : ∀ a t0 h q, rE a t0 h = some q → wm w dr YX8_expand [.ref a, .int t0] h (e_is (e_rt c_V q))) (hrN : ∀ a h q, rN a h = some q → wm w dr YX8_number [.ref a] h (e_is (e_rt c_I q))) : ∀ (n : Nat) l0 l1 l2 l4 l6 l8 h q, fX8_reckon_b77 N rE rN n l0 l1 l2 l4 l6 l8 h = some q → wp w (d + 1) YX8_reckon 77 [some (.ref l0), some (.int l1), some (.int l2), none, some (.int l4), none, some (.long l6), none, some (.int l8), none] [] h (e_is (e_rt c_V q)) := by
  intro n
  induction n with
  | zero => intro l0 l1 l2 l4 l6 l8 h q hf; simp [fX8_reckon_b77] at hf
  | succ n ih =>
    intro l0 l1 l2 l4 l6 l8 h q hf
    rw [fX8_reckon_b77] at hf
    refine w_iload dX8_reckon_77 rfl ?_
    refine w_iconst dX8_reckon_79 (v := 4) (by decide) ?_
    refine w_icmp_ge 142 dX8_reckon_80 (by decide) (fun c1 => ?_) (fun c1 => ?_)
    · replace hf := (if_pos (show (4 : Int32) ≤ l8 from c1)).symm.trans hf
      refine w_aload_n dX8_reckon_142 rfl rfl ?_
      obtain ⟨a2, b3, hf⟩ := Option.bind_eq_some_iff.mp hf
      refine GX8_51 b3 dX8_reckon_143 rfl ?_
      refine w_aload_n dX8_reckon_146 rfl rfl ?_
      obtain ⟨a4, b5, hf⟩ := Option.bind_eq_some_iff.mp hf
      refine GX8_48 b5 dX8_reckon_147 rfl ?_
      refine w_iconst dX8_reckon_150 (v := 1) (by decide) ?_
      obtain ⟨x6, b7, hf⟩ := Option.bind_eq_some_iff.mp hf
      refine x_rI b7 dX8_reckon_151 ?_
      refine w_if_lt 168 dX8_reckon_152 (by decide) (fun c8 => ?_) (fun c8 => ?_)
      · replace hf := (if_pos (show x6 < 0 from c8)).symm.trans hf
        exact (pX8_reckon_b168 hd hdr hrE hrN hf).to ⟨rfl, rfl, rfl, trivial⟩
      · replace hf := (if_neg (show ¬ (x6 < 0) from c8)).symm.trans hf
        refine w_aload_n dX8_reckon_155 rfl rfl ?_
        obtain ⟨a9, b10, hf⟩ := Option.bind_eq_some_iff.mp hf
        refine GX8_48 b10 dX8_reckon_156 rfl ?_
        refine w_iconst dX8_reckon_159 (v := 3) (by decide) ?_
        obtain ⟨x11, b12, hf⟩ := Option.bind_eq_some_iff.mp hf
        refine x_rI b12 dX8_reckon_160 ?_
        refine w_if_lt 168 dX8_reckon_161 (by decide) (fun c13 => ?_) (fun c13 => ?_)
        · replace hf := (if_pos (show x11 < 0 from c13)).symm.trans hf
          exact (pX8_reckon_b168 hd hdr hrE hrN hf).to ⟨rfl, rfl, rfl, trivial⟩
        · replace hf := (if_neg (show ¬ (x11 < 0) from c13)).symm.trans hf
          refine w_iconst dX8_reckon_164 (v := 1) (by decide) ?_
          refine w_goto 169 dX8_reckon_165 (by decide) ?_
          exact (pX8_reckon_b169 hd hdr hrE hrN hf).to ⟨rfl, rfl, rfl, trivial⟩
    · replace hf := (if_neg (show ¬ ((4 : Int32) ≤ l8) from c1)).symm.trans hf
      refine w_aload_n dX8_reckon_83 rfl rfl ?_
      obtain ⟨a14, b15, hf⟩ := Option.bind_eq_some_iff.mp hf
      refine GX8_48 b15 dX8_reckon_84 rfl ?_
      refine w_iload dX8_reckon_87 rfl ?_
      refine w_iload dX8_reckon_89 rfl ?_
      refine w_iconst dX8_reckon_91 (v := 2) (by decide) ?_
      refine w_icmp_ne 110 dX8_reckon_92 (by decide) (fun c16 => ?_) (fun c16 => ?_)
      · replace hf := (if_pos (show ¬ l8 = (2 : Int32) from c16)).symm.trans hf
        refine w_aload_n dX8_reckon_110 rfl rfl ?_
        refine w_aload_n dX8_reckon_111 rfl rfl ?_
        refine w_iload_n dX8_reckon_112 rfl rfl ?_
        refine w_aload_n dX8_reckon_113 rfl rfl ?_
        obtain ⟨a17, b18, hf⟩ := Option.bind_eq_some_iff.mp hf
        refine GX8_12 b18 dX8_reckon_114 rfl ?_
        obtain ⟨a19, b20, hf⟩ := Option.bind_eq_some_iff.mp hf
        refine GX8_357 b20 dX8_reckon_117 rfl ?_
        refine w_iload dX8_reckon_120 rfl ?_
        refine w_iload dX8_reckon_122 rfl ?_
        refine w_iadd dX8_reckon_124 ?_
        obtain ⟨x21, b22, hf⟩ := Option.bind_eq_some_iff.mp hf
        refine x_rI b22 dX8_reckon_125 ?_
        refine w_i2l dX8_reckon_126 ?_
        refine w_lload dX8_reckon_127 rfl ?_
        obtain ⟨_, b23, hf⟩ := Option.bind_eq_some_iff.mp hf
        refine x_ctJ hf (e_stV (Yc := YX8_reckoned) (ci := 7) (av := [.int l1, .long (x21).toInt64, .long l6]) (st := [.ref l0, .int l8, .ref a14]) dX8_reckon_129 q3988 mX8_reckoned rfl (k_ok_some b23).1 (k_ok_some b23).2) mX8_reckoned.2.2.1 mX8_reckoned.2.2.2.2.1 (Nat.le_of_ble_eq_true rfl) (Nat.le_of_ble_eq_true rfl) rfl (fun q hq => pX8_reckoned (by omega) hq) (fun x24 h25 hf => ?_)
        obtain ⟨_, b26, hf⟩ := Option.bind_eq_some_iff.mp hf
        refine x_ctI hf (e_stV (Yc := YX8_size) (ci := 7) (av := [.long x24]) (st := [.int l8, .ref a14]) dX8_reckon_132 q2778 mX8_size rfl (k_ok_some b26).1 (k_ok_some b26).2) mX8_size.2.2.1 mX8_size.2.2.2.2.1 (Nat.le_of_ble_eq_true rfl) (Nat.le_of_ble_eq_true rfl) rfl (fun q hq => pX8_size (by omega) hq) (fun x27 h28 hf => ?_)
        exact (pX8_reckon_b135 hd hdr hrE hrN ih hf).to ⟨rfl, rfl, rfl, rfl, rfl, rfl, trivial⟩
      · replace hf := (if_neg (show ¬ (¬ l8 = (2 : Int32)) from (fun z => z c16))).symm.trans hf
        refine w_aload_n dX8_reckon_95 rfl rfl ?_
        obtain ⟨a29, b30, hf⟩ := Option.bind_eq_some_iff.mp hf
        refine GX8_12 b30 dX8_reckon_96 rfl ?_
        obtain ⟨a31, b32, hf⟩ := Option.bind_eq_some_iff.mp hf
        refine GX8_357 b32 dX8_reckon_99 rfl ?_
        refine w_iload dX8_reckon_102 rfl ?_
        refine w_iconst dX8_reckon_104 (v := 2) (by decide) ?_
        refine w_iadd dX8_reckon_105 ?_
        obtain ⟨x33, b34, hf⟩ := Option.bind_eq_some_iff.mp hf
        refine x_rI b34 dX8_reckon_106 ?_
        refine w_goto 135 dX8_reckon_107 (by decide) ?_
        exact (pX8_reckon_b135 hd hdr hrE hrN ih hf).to ⟨rfl, rfl, rfl, rfl, rfl, rfl, trivial⟩
def fX8_reckon_b230 (N : Nat) (rE : Nat → Int32 → eH → Option ((Unit ⊕ Nat) × eH)) (rN : Nat → eH → Option ((Int32 ⊕ Nat) × eH)) (l2 : Int32) (s0 : Nat) (s1 : Int32) (s2 : Int32) (h : eH) : Option ((Unit ⊕ Nat) × eH) :=
  (k_ok 8 h s0).bind fun _ =>
  (fX9_set N s0 s1 s2 l2 h).bind fun q2 =>
  some (.inl (), q2.2)
theorem pX8_reckon_b230 {w : eW} {d : Nat} {dr : Nat} (hd : dr + 20 ≤ d + 1) (hdr : 12 ≤ dr) {N : Nat} {rE : Nat → Int32 → eH → Option ((Unit ⊕ Nat) × eH)} {rN : Nat → eH → Option ((Int32 ⊕ Nat) × eH)} (hrE : ∀ a t0 h q, rE a t0 h = some q → wm w dr YX8_expand [.ref a, .int t0] h (e_is (e_rt c_V q))) (hrN : ∀ a h q, rN a h = some q → wm w dr YX8_number [.ref a] h (e_is (e_rt c_I q))) {l2 : Int32} {s0 : Nat} {s1 : Int32} {s2 : Int32} {h : eH} {q} (hf : fX8_reckon_b230 N rE rN l2 s0 s1 s2 h = some q) : wp w (d + 1) YX8_reckon 230 [none, none, some (.int l2), none, none, none, none, none, none, none] [.int s2, .int s1, .ref s0] h (e_is (e_rt c_V q)) := by
  unfold fX8_reckon_b230 at hf
  refine w_iload_n dX8_reckon_230 rfl rfl ?_
  obtain ⟨_, b1, hf⟩ := Option.bind_eq_some_iff.mp hf
  refine x_cnV hf (e_stV (Yc := YX9_set) (ci := 8) (av := [.int s1, .int s2, .int l2]) (st := []) dX8_reckon_231 q3962 mX9_set rfl (k_ok_some b1).1 (k_ok_some b1).2) mX9_set.2.2.1 mX9_set.2.2.2.2.1 (Nat.le_of_ble_eq_true rfl) (Nat.le_of_ble_eq_true rfl) (fun q hq => pX9_set (by omega) hq) (fun q2 hf => ?_)
  cases hf
  exact w_vret dX8_reckon_234 rfl rfl
def fX8_reckon_b24 (N : Nat) (rE : Nat → Int32 → eH → Option ((Unit ⊕ Nat) × eH)) (rN : Nat → eH → Option ((Int32 ⊕ Nat) × eH)) (l0 : Nat) (l1 : Int32) (l2 : Int32) (l3 : Int32) (s0 : Nat) (s1 : Int32) (h : eH) : Option ((Unit ⊕ Nat) × eH) :=
  (k_ok 3 h s0).bind fun _ =>
  t_B (fX4_want s0 s1 (6 : Int32) h) fun x2 h3 =>
  (k_ok 7 h3 l0).bind fun _ =>
  t_B (fX8_cellOf rN l0 l3 h3) fun x5 h6 =>
  (k_ok 7 h6 l0).bind fun _ =>
  t_B (fX8_keyword N rE l0 1000000112 h6) fun x8 h9 =>
  if ¬ l1 = (62 : Int32) then
    (k_ok 7 h9 l0).bind fun _ =>
    t_B (rN l0 h9) fun x12 h13 =>
    (fX8_isGlue l3 h13).bind fun q14 =>
    if q14.1 = 0 then
      (g_A 7 q14.2 l0 4).bind fun a16 =>
      (g_A 8 q14.2 a16 3).bind fun a18 =>
      (r_I 100 q14.2 a18 x5).bind fun x20 =>
      (k_ok 7 q14.2 l0).bind fun _ =>
      t_B (fX8_reckoned l0 l1 (x20).toInt64 (x12).toInt64 q14.2) fun x23 h24 =>
      (g_A 7 h24 l0 4).bind fun a25 =>
      (fX8_isCounter l3 h24).bind fun q27 =>
      if q27.1 = 0 then
        (k_ok 7 q27.2 l0).bind fun _ =>
        t_B (fX8_size l0 x23 q27.2) fun x30 h31 =>
        fX8_reckon_b230 N rE rN l2 a25 x5 x30 h31
      else
        (k_ok 7 q27.2 l0).bind fun _ =>
        t_B (fX8_counter l0 x23 q27.2) fun x33 h34 =>
        fX8_reckon_b230 N rE rN l2 a25 x5 x33 h34
    else
      fX8_reckon_b77 N rE rN N l0 l1 l2 x5 (x12).toInt64 (0 : Int32) q14.2
  else
    (k_ok 7 h9 l0).bind fun _ =>
    t_B (fX8_advance N rE rN l0 l3 x5 l2 h9) fun x36 h37 =>
    some (.inl (), h37)
theorem pX8_reckon_b24 {w : eW} {d : Nat} {dr : Nat} (hd : dr + 20 ≤ d + 1) (hdr : 12 ≤ dr) {N : Nat} {rE : Nat → Int32 → eH → Option ((Unit ⊕ Nat) × eH)} {rN : Nat → eH → Option ((Int32 ⊕ Nat) × eH)} (hrE : ∀ a t0 h q, rE a t0 h = some q → wm w dr YX8_expand [.ref a, .int t0] h (e_is (e_rt c_V q))) (hrN : ∀ a h q, rN a h = some q → wm w dr YX8_number [.ref a] h (e_is (e_rt c_I q))) {l0 : Nat} {l1 : Int32} {l2 : Int32} {l3 : Int32} {s0 : Nat} {s1 : Int32} {h : eH} {q} (hf : fX8_reckon_b24 N rE rN l0 l1 l2 l3 s0 s1 h = some q) : wp w (d + 1) YX8_reckon 24 [some (.ref l0), some (.int l1), some (.int l2), some (.int l3), none, none, none, none, none, none] [.int s1, .ref s0] h (e_is (e_rt c_V q)) := by
  unfold fX8_reckon_b24 at hf
  refine w_bipush dX8_reckon_24 (v := 6) (by decide) ?_
  obtain ⟨_, b1, hf⟩ := Option.bind_eq_some_iff.mp hf
  refine x_ctV hf (e_stV (Yc := YX4_want) (ci := 3) (av := [.int s1, .int (6 : Int32)]) (st := []) dX8_reckon_26 q2500 mX4_want rfl (k_ok_some b1).1 (k_ok_some b1).2) mX4_want.2.2.1 mX4_want.2.2.2.2.1 (Nat.le_of_ble_eq_true rfl) (Nat.le_of_ble_eq_true rfl) rfl (fun q hq => pX4_want (by omega) hq) (fun x2 h3 hf => ?_)
  refine w_aload_n dX8_reckon_29 rfl rfl ?_
  refine w_iload_n dX8_reckon_30 rfl rfl ?_
  obtain ⟨_, b4, hf⟩ := Option.bind_eq_some_iff.mp hf
  refine x_ctI hf (e_stV (Yc := YX8_cellOf) (ci := 7) (av := [.int l3]) (st := []) dX8_reckon_31 q2629 mX8_cellOf rfl (k_ok_some b4).1 (k_ok_some b4).2) mX8_cellOf.2.2.1 mX8_cellOf.2.2.2.2.1 (Nat.le_of_ble_eq_true rfl) (Nat.le_of_ble_eq_true rfl) rfl (fun q hq => pX8_cellOf (by omega) hdr hrN hq) (fun x5 h6 hf => ?_)
  refine w_istore dX8_reckon_34 (by decide) (ls' := [some (.ref l0), some (.int l1), some (.int l2), some (.int l3), some (.int x5), none, none, none, none, none]) rfl ?_
  refine w_aload_n dX8_reckon_36 rfl rfl ?_
  refine x_ldcSw (k := 12) dX8_reckon_37 rfl ?_
  obtain ⟨_, b7, hf⟩ := Option.bind_eq_some_iff.mp hf
  refine x_ctI hf (e_stV (Yc := YX8_keyword) (ci := 7) (av := [.ref 1000000112]) (st := []) dX8_reckon_40 q2743 mX8_keyword rfl (k_ok_some b7).1 (k_ok_some b7).2) mX8_keyword.2.2.1 mX8_keyword.2.2.2.2.1 (Nat.le_of_ble_eq_true rfl) (Nat.le_of_ble_eq_true rfl) rfl (fun q hq => pX8_keyword (by omega) hdr hrE hq) (fun x8 h9 hf => ?_)
  refine w_istore dX8_reckon_43 (by decide) (ls' := [some (.ref l0), some (.int l1), some (.int l2), some (.int l3), some (.int x5), some (.int x8), none, none, none, none]) rfl ?_
  refine w_iload_n dX8_reckon_45 rfl rfl ?_
  refine w_bipush dX8_reckon_46 (v := 62) (by decide) ?_
  refine w_icmp_ne 60 dX8_reckon_48 (by decide) (fun c10 => ?_) (fun c10 => ?_)
  · replace hf := (if_pos (show ¬ l1 = (62 : Int32) from c10)).symm.trans hf
    refine w_aload_n dX8_reckon_60 rfl rfl ?_
    obtain ⟨_, b11, hf⟩ := Option.bind_eq_some_iff.mp hf
    refine x_ctI hf (e_stV (Yc := YX8_number) (ci := 7) (av := []) (st := []) dX8_reckon_61 q2590 mX8_number rfl (k_ok_some b11).1 (k_ok_some b11).2) mX8_number.2.2.1 mX8_number.2.2.2.2.1 (Nat.le_of_ble_eq_true rfl) (Nat.le_of_ble_eq_true rfl) rfl (fun q hq => (hrN _ _ _ hq).up (by omega)) (fun x12 h13 hf => ?_)
    refine w_i2l dX8_reckon_64 ?_
    refine w_lstore dX8_reckon_65 (by decide) (ls' := [some (.ref l0), some (.int l1), some (.int l2), some (.int l3), some (.int x5), some (.int x8), some (.long (x12).toInt64), none, none, none]) rfl ?_
    refine w_iload_n dX8_reckon_67 rfl rfl ?_
    refine x_cnI hf (e_stS (Yc := YX8_isGlue) (av := [.int l3]) (st := []) dX8_reckon_68 q2622 mX8_isGlue) mX8_isGlue.2.2.1 mX8_isGlue.2.2.2.2.1 (Nat.le_of_ble_eq_true rfl) (Nat.le_of_ble_eq_true rfl) (fun q hq => pX8_isGlue (by omega) hq) (fun q14 hf => ?_)
    refine w_if_eq 182 dX8_reckon_71 (by decide) (fun c15 => ?_) (fun c15 => ?_)
    · replace hf := (if_pos (show q14.1 = 0 from c15)).symm.trans hf
      refine w_aload_n dX8_reckon_182 rfl rfl ?_
      refine w_iload_n dX8_reckon_183 rfl rfl ?_
      refine w_aload_n dX8_reckon_184 rfl rfl ?_
      obtain ⟨a16, b17, hf⟩ := Option.bind_eq_some_iff.mp hf
      refine GX8_12 b17 dX8_reckon_185 rfl ?_
      obtain ⟨a18, b19, hf⟩ := Option.bind_eq_some_iff.mp hf
      refine GX8_357 b19 dX8_reckon_188 rfl ?_
      refine w_iload dX8_reckon_191 rfl ?_
      obtain ⟨x20, b21, hf⟩ := Option.bind_eq_some_iff.mp hf
      refine x_rI b21 dX8_reckon_193 ?_
      refine w_i2l dX8_reckon_194 ?_
      refine w_lload dX8_reckon_195 rfl ?_
      obtain ⟨_, b22, hf⟩ := Option.bind_eq_some_iff.mp hf
      refine x_ctJ hf (e_stV (Yc := YX8_reckoned) (ci := 7) (av := [.int l1, .long (x20).toInt64, .long (x12).toInt64]) (st := []) dX8_reckon_197 q3988 mX8_reckoned rfl (k_ok_some b22).1 (k_ok_some b22).2) mX8_reckoned.2.2.1 mX8_reckoned.2.2.2.2.1 (Nat.le_of_ble_eq_true rfl) (Nat.le_of_ble_eq_true rfl) rfl (fun q hq => pX8_reckoned (by omega) hq) (fun x23 h24 hf => ?_)
      refine w_lstore dX8_reckon_200 (by decide) (ls' := [some (.ref l0), some (.int l1), some (.int l2), some (.int l3), some (.int x5), some (.int x8), some (.long (x12).toInt64), none, some (.long x23), none]) rfl ?_
      refine w_aload_n dX8_reckon_202 rfl rfl ?_
      obtain ⟨a25, b26, hf⟩ := Option.bind_eq_some_iff.mp hf
      refine GX8_12 b26 dX8_reckon_203 rfl ?_
      refine w_iload dX8_reckon_206 rfl ?_
      refine w_iload_n dX8_reckon_208 rfl rfl ?_
      refine x_cnI hf (e_stS (Yc := YX8_isCounter) (av := [.int l3]) (st := [.int x5, .ref a25]) dX8_reckon_209 q2646 mX8_isCounter) mX8_isCounter.2.2.1 mX8_isCounter.2.2.2.2.1 (Nat.le_of_ble_eq_true rfl) (Nat.le_of_ble_eq_true rfl) (fun q hq => pX8_isCounter (by omega) hq) (fun q27 hf => ?_)
      refine w_if_eq 224 dX8_reckon_212 (by decide) (fun c28 => ?_) (fun c28 => ?_)
      · replace hf := (if_pos (show q27.1 = 0 from c28)).symm.trans hf
        refine w_aload_n dX8_reckon_224 rfl rfl ?_
        refine w_lload dX8_reckon_225 rfl ?_
        obtain ⟨_, b29, hf⟩ := Option.bind_eq_some_iff.mp hf
        refine x_ctI hf (e_stV (Yc := YX8_size) (ci := 7) (av := [.long x23]) (st := [.int x5, .ref a25]) dX8_reckon_227 q2778 mX8_size rfl (k_ok_some b29).1 (k_ok_some b29).2) mX8_size.2.2.1 mX8_size.2.2.2.2.1 (Nat.le_of_ble_eq_true rfl) (Nat.le_of_ble_eq_true rfl) rfl (fun q hq => pX8_size (by omega) hq) (fun x30 h31 hf => ?_)
        exact (pX8_reckon_b230 hd hdr hrE hrN hf).to ⟨rfl, trivial⟩
      · replace hf := (if_neg (show ¬ (q27.1 = 0) from c28)).symm.trans hf
        refine w_aload_n dX8_reckon_215 rfl rfl ?_
        refine w_lload dX8_reckon_216 rfl ?_
        obtain ⟨_, b32, hf⟩ := Option.bind_eq_some_iff.mp hf
        refine x_ctI hf (e_stV (Yc := YX8_counter) (ci := 7) (av := [.long x23]) (st := [.int x5, .ref a25]) dX8_reckon_218 q3957 mX8_counter rfl (k_ok_some b32).1 (k_ok_some b32).2) mX8_counter.2.2.1 mX8_counter.2.2.2.2.1 (Nat.le_of_ble_eq_true rfl) (Nat.le_of_ble_eq_true rfl) rfl (fun q hq => pX8_counter (by omega) hq) (fun x33 h34 hf => ?_)
        refine w_goto 230 dX8_reckon_221 (by decide) ?_
        exact (pX8_reckon_b230 hd hdr hrE hrN hf).to ⟨rfl, trivial⟩
    · replace hf := (if_neg (show ¬ (q14.1 = 0) from c15)).symm.trans hf
      refine w_iconst dX8_reckon_74 (v := 0) (by decide) ?_
      refine w_istore dX8_reckon_75 (by decide) (ls' := [some (.ref l0), some (.int l1), some (.int l2), some (.int l3), some (.int x5), some (.int x8), some (.long (x12).toInt64), none, some (.int (0 : Int32)), none]) rfl ?_
      exact (pX8_reckon_b77 hd hdr hrE hrN N _ _ _ _ _ _ _ _ hf).to ⟨rfl, rfl, rfl, rfl, rfl, rfl, trivial⟩
  · replace hf := (if_neg (show ¬ (¬ l1 = (62 : Int32)) from (fun z => z c10))).symm.trans hf
    refine w_aload_n dX8_reckon_51 rfl rfl ?_
    refine w_iload_n dX8_reckon_52 rfl rfl ?_
    refine w_iload dX8_reckon_53 rfl ?_
    refine w_iload_n dX8_reckon_55 rfl rfl ?_
    obtain ⟨_, b35, hf⟩ := Option.bind_eq_some_iff.mp hf
    refine x_ctV hf (e_stV (Yc := YX8_advance) (ci := 7) (av := [.int l3, .int x5, .int l2]) (st := []) dX8_reckon_56 q3953 mX8_advance rfl (k_ok_some b35).1 (k_ok_some b35).2) mX8_advance.2.2.1 mX8_advance.2.2.2.2.1 (Nat.le_of_ble_eq_true rfl) (Nat.le_of_ble_eq_true rfl) rfl (fun q hq => pX8_advance (by omega) hdr hrE hrN hq) (fun x36 h37 hf => ?_)
    cases hf
    exact w_vret dX8_reckon_59 rfl rfl
def fX8_reckon (N : Nat) (rE : Nat → Int32 → eH → Option ((Unit ⊕ Nat) × eH)) (rN : Nat → eH → Option ((Int32 ⊕ Nat) × eH)) (this : Nat) (p0 : Int32) (p1 : Int32) (h : eH) : Option ((Unit ⊕ Nat) × eH) :=
  (k_ok 7 h this).bind fun _ =>
  t_B (fX8_needSolid N rE this h) fun x2 h3 =>
  (k_ok 7 h3 this).bind fun _ =>
  (fX8_primitive this x2 h3).bind fun q5 =>
  (g_A 7 q5.2 this 0).bind fun a6 =>
  if q5.1 < (67 : Int32) then
    fX8_reckon_b24 N rE rN this p0 p1 q5.1 a6 (0 : Int32) q5.2
  else
    fX8_reckon_b24 N rE rN this p0 p1 q5.1 a6 (1 : Int32) q5.2
theorem pX8_reckon {w : eW} {d : Nat} {dr : Nat} (hd : dr + 20 ≤ d) (hdr : 12 ≤ dr) {N : Nat} {rE : Nat → Int32 → eH → Option ((Unit ⊕ Nat) × eH)} {rN : Nat → eH → Option ((Int32 ⊕ Nat) × eH)} (hrE : ∀ a t0 h q, rE a t0 h = some q → wm w dr YX8_expand [.ref a, .int t0] h (e_is (e_rt c_V q))) (hrN : ∀ a h q, rN a h = some q → wm w dr YX8_number [.ref a] h (e_is (e_rt c_I q))) {this : Nat} {p0 : Int32} {p1 : Int32} {h : eH} {q} (hf : fX8_reckon N rE rN this p0 p1 h = some q) : wm w d YX8_reckon [.ref this, .int p0, .int p1] h (e_is (e_rt c_V q)) := by
  obtain ⟨d, rfl⟩ : ∃ e, d = e + 1 := ⟨d - 1, by omega⟩
  show wp w (d + 1) YX8_reckon 0 [some (.ref this), some (.int p0), some (.int p1), none, none, none, none, none, none, none] [] h _
  unfold fX8_reckon at hf
  refine w_aload_n dX8_reckon_0 rfl rfl ?_
  refine w_aload_n dX8_reckon_1 rfl rfl ?_
  obtain ⟨_, b1, hf⟩ := Option.bind_eq_some_iff.mp hf
  refine x_ctI hf (e_stV (Yc := YX8_needSolid) (ci := 7) (av := []) (st := [.ref this]) dX8_reckon_2 q2594 mX8_needSolid rfl (k_ok_some b1).1 (k_ok_some b1).2) mX8_needSolid.2.2.1 mX8_needSolid.2.2.2.2.1 (Nat.le_of_ble_eq_true rfl) (Nat.le_of_ble_eq_true rfl) rfl (fun q hq => pX8_needSolid (by omega) hdr hrE hq) (fun x2 h3 hf => ?_)
  obtain ⟨_, b4, hf⟩ := Option.bind_eq_some_iff.mp hf
  refine x_cnI hf (e_stV (Yc := YX8_primitive) (ci := 7) (av := [.int x2]) (st := []) dX8_reckon_5 q2568 mX8_primitive rfl (k_ok_some b4).1 (k_ok_some b4).2) mX8_primitive.2.2.1 mX8_primitive.2.2.2.2.1 (Nat.le_of_ble_eq_true rfl) (Nat.le_of_ble_eq_true rfl) (fun q hq => pX8_primitive (by omega) hq) (fun q5 hf => ?_)
  refine w_istore_n dX8_reckon_8 rfl (by decide) (ls' := [some (.ref this), some (.int p0), some (.int p1), some (.int q5.1), none, none, none, none, none, none]) rfl ?_
  refine w_aload_n dX8_reckon_9 rfl rfl ?_
  obtain ⟨a6, b7, hf⟩ := Option.bind_eq_some_iff.mp hf
  refine GX8_51 b7 dX8_reckon_10 rfl ?_
  refine w_iload_n dX8_reckon_13 rfl rfl ?_
  refine w_bipush dX8_reckon_14 (v := 67) (by decide) ?_
  refine w_icmp_lt 23 dX8_reckon_16 (by decide) (fun c8 => ?_) (fun c8 => ?_)
  · replace hf := (if_pos (show q5.1 < (67 : Int32) from c8)).symm.trans hf
    refine w_iconst dX8_reckon_23 (v := 0) (by decide) ?_
    exact (pX8_reckon_b24 hd hdr hrE hrN hf).to ⟨rfl, rfl, rfl, rfl, trivial⟩
  · replace hf := (if_neg (show ¬ (q5.1 < (67 : Int32)) from c8)).symm.trans hf
    refine w_iconst dX8_reckon_19 (v := 1) (by decide) ?_
    refine w_goto 24 dX8_reckon_20 (by decide) ?_
    exact (pX8_reckon_b24 hd hdr hrE hrN hf).to ⟨rfl, rfl, rfl, rfl, trivial⟩
abbrev cX3_readBox : ByteArray := prog_26_method_20_code
def yX3_readBox : MethodName := ⟨RX3, "readBox", "(IIIZ)V"⟩
def YX3_readBox : eY := (yX3_readBox, cX3_readBox, 8, none, [])
theorem mX3_readBox : e_mv YX3_readBox RX3 4 := ⟨q3994, qs204, q3995, by decide, by decide +kernel, (e_sig (by decide +kernel))⟩
theorem dX3_readBox_0 : decode cX3_readBox 0 = .ok (.iload_n 1, 1) := dc_27 (by decide +kernel)
theorem dX3_readBox_1 : decode cX3_readBox 1 = .ok (.bipush 43, 2) := dc_16 (a := 43) (v := 43) (by decide +kernel)
theorem dX3_readBox_3 : decode cX3_readBox 3 = .ok (.if_icmp .eq 9, 3) := dc_159 (a := 0) (b := 9) (v := 9) (by decide +kernel)
theorem dX3_readBox_6 : decode cX3_readBox 6 = .ok (.iload_n 1, 1) := dc_27 (by decide +kernel)
theorem dX3_readBox_7 : decode cX3_readBox 7 = .ok (.bipush 44, 2) := dc_16 (a := 44) (v := 44) (by decide +kernel)
theorem dX3_readBox_9 : decode cX3_readBox 9 = .ok (.if_icmp .ne 59, 3) := dc_160 (a := 0) (b := 59) (v := 59) (by decide +kernel)
theorem dX3_readBox_12 : decode cX3_readBox 12 = .ok (.sipush 1583, 3) := dc_17 (a := 6) (b := 47) (v := 1583) (by decide +kernel)
theorem dX3_readBox_15 : decode cX3_readBox 15 = .ok (.aload_n 0, 1) := dc_42 (by decide +kernel)
theorem dX3_readBox_16 : decode cX3_readBox 16 = .ok (.getfield 45, 3) := dc_180 (a := 0) (b := 45) (n := 45) (by decide +kernel)
theorem dX3_readBox_19 : decode cX3_readBox 19 = .ok (.sipush 255, 3) := dc_17 (a := 0) (b := 255) (v := 255) (by decide +kernel)
theorem dX3_readBox_22 : decode cX3_readBox 22 = .ok (.invokevirtual 404, 3) := dc_182 (a := 1) (b := 148) (n := 404) (by decide +kernel)
theorem dX3_readBox_25 : decode cX3_readBox 25 = .ok (.iadd, 1) := dc_96 (by decide +kernel)
theorem dX3_readBox_26 : decode cX3_readBox 26 = .ok (.istore 5, 2) := dc_54 (a := 5) (by decide +kernel)
theorem dX3_readBox_28 : decode cX3_readBox 28 = .ok (.aload_n 0, 1) := dc_42 (by decide +kernel)
theorem dX3_readBox_29 : decode cX3_readBox 29 = .ok (.getfield 53, 3) := dc_180 (a := 0) (b := 53) (n := 53) (by decide +kernel)
theorem dX3_readBox_32 : decode cX3_readBox 32 = .ok (.getfield 311, 3) := dc_180 (a := 1) (b := 55) (n := 311) (by decide +kernel)
theorem dX3_readBox_35 : decode cX3_readBox 35 = .ok (.iload 5, 2) := dc_21 (a := 5) (by decide +kernel)
theorem dX3_readBox_37 : decode cX3_readBox 37 = .ok (.iaload, 1) := dc_46 (by decide +kernel)
theorem dX3_readBox_38 : decode cX3_readBox 38 = .ok (.istore 6, 2) := dc_54 (a := 6) (by decide +kernel)
theorem dX3_readBox_40 : decode cX3_readBox 40 = .ok (.iload_n 1, 1) := dc_27 (by decide +kernel)
theorem dX3_readBox_41 : decode cX3_readBox 41 = .ok (.bipush 43, 2) := dc_16 (a := 43) (v := 43) (by decide +kernel)
theorem dX3_readBox_43 : decode cX3_readBox 43 = .ok (.if_icmp .ne 14, 3) := dc_160 (a := 0) (b := 14) (v := 14) (by decide +kernel)
theorem dX3_readBox_46 : decode cX3_readBox 46 = .ok (.aload_n 0, 1) := dc_42 (by decide +kernel)
theorem dX3_readBox_47 : decode cX3_readBox 47 = .ok (.getfield 53, 3) := dc_180 (a := 0) (b := 53) (n := 53) (by decide +kernel)
theorem dX3_readBox_50 : decode cX3_readBox 50 = .ok (.getfield 311, 3) := dc_180 (a := 1) (b := 55) (n := 311) (by decide +kernel)
theorem dX3_readBox_53 : decode cX3_readBox 53 = .ok (.iload 5, 2) := dc_21 (a := 5) (by decide +kernel)
theorem dX3_readBox_55 : decode cX3_readBox 55 = .ok (.iconst (-1), 1) := dc_2 (by decide +kernel)
theorem dX3_readBox_56 : decode cX3_readBox 56 = .ok (.iastore, 1) := dc_79 (by decide +kernel)
theorem dX3_readBox_57 : decode cX3_readBox 57 = .ok (.aload_n 0, 1) := dc_42 (by decide +kernel)
theorem dX3_readBox_58 : decode cX3_readBox 58 = .ok (.iload 6, 2) := dc_21 (a := 6) (by decide +kernel)
theorem dX3_readBox_60 : decode cX3_readBox 60 = .ok (.iload_n 2, 1) := dc_28 (by decide +kernel)
theorem dX3_readBox_61 : decode cX3_readBox 61 = .ok (.iload_n 3, 1) := dc_29 (by decide +kernel)
theorem dX3_readBox_62 : decode cX3_readBox 62 = .ok (.iload 4, 2) := dc_21 (a := 4) (by decide +kernel)
theorem dX3_readBox_64 : decode cX3_readBox 64 = .ok (.invokevirtual 407, 3) := dc_182 (a := 1) (b := 151) (n := 407) (by decide +kernel)
theorem dX3_readBox_67 : decode cX3_readBox 67 = .ok (.return_, 1) := dc_177 (by decide +kernel)
theorem dX3_readBox_68 : decode cX3_readBox 68 = .ok (.aload_n 0, 1) := dc_42 (by decide +kernel)
theorem dX3_readBox_69 : decode cX3_readBox 69 = .ok (.getfield 14, 3) := dc_180 (a := 0) (b := 14) (n := 14) (by decide +kernel)
theorem dX3_readBox_72 : decode cX3_readBox 72 = .ok (.iload_n 1, 1) := dc_27 (by decide +kernel)
theorem dX3_readBox_73 : decode cX3_readBox 73 = .ok (.bipush 41, 2) := dc_16 (a := 41) (v := 41) (by decide +kernel)
theorem dX3_readBox_75 : decode cX3_readBox 75 = .ok (.if_icmp .eq 9, 3) := dc_159 (a := 0) (b := 9) (v := 9) (by decide +kernel)
theorem dX3_readBox_78 : decode cX3_readBox 78 = .ok (.iload_n 1, 1) := dc_27 (by decide +kernel)
theorem dX3_readBox_79 : decode cX3_readBox 79 = .ok (.bipush 42, 2) := dc_16 (a := 42) (v := 42) (by decide +kernel)
theorem dX3_readBox_81 : decode cX3_readBox 81 = .ok (.if_icmp .ne 7, 3) := dc_160 (a := 0) (b := 7) (v := 7) (by decide +kernel)
theorem dX3_readBox_84 : decode cX3_readBox 84 = .ok (.iconst 1, 1) := dc_4 (by decide +kernel)
theorem dX3_readBox_85 : decode cX3_readBox 85 = .ok (.goto 4, 3) := dc_167 (a := 0) (b := 4) (v := 4) (by decide +kernel)
theorem dX3_readBox_88 : decode cX3_readBox 88 = .ok (.iconst 0, 1) := dc_3 (by decide +kernel)
theorem dX3_readBox_89 : decode cX3_readBox 89 = .ok (.bipush 6, 2) := dc_16 (a := 6) (v := 6) (by decide +kernel)
theorem dX3_readBox_91 : decode cX3_readBox 91 = .ok (.invokevirtual 289, 3) := dc_182 (a := 1) (b := 33) (n := 289) (by decide +kernel)
theorem dX3_readBox_94 : decode cX3_readBox 94 = .ok (.aload_n 0, 1) := dc_42 (by decide +kernel)
theorem dX3_readBox_95 : decode cX3_readBox 95 = .ok (.getfield 45, 3) := dc_180 (a := 0) (b := 45) (n := 45) (by decide +kernel)
theorem dX3_readBox_98 : decode cX3_readBox 98 = .ok (.ldc_w 411, 3) := dc_19 (a := 1) (b := 155) (n := 411) (by decide +kernel)
theorem dX3_readBox_101 : decode cX3_readBox 101 = .ok (.invokevirtual 412, 3) := dc_182 (a := 1) (b := 156) (n := 412) (by decide +kernel)
theorem dX3_readBox_104 : decode cX3_readBox 104 = .ok (.ifCond .eq 7, 3) := dc_153 (a := 0) (b := 7) (v := 7) (by decide +kernel)
theorem dX3_readBox_107 : decode cX3_readBox 107 = .ok (.iconst 1, 1) := dc_4 (by decide +kernel)
theorem dX3_readBox_108 : decode cX3_readBox 108 = .ok (.goto 21, 3) := dc_167 (a := 0) (b := 21) (v := 21) (by decide +kernel)
theorem dX3_readBox_111 : decode cX3_readBox 111 = .ok (.aload_n 0, 1) := dc_42 (by decide +kernel)
theorem dX3_readBox_112 : decode cX3_readBox 112 = .ok (.getfield 45, 3) := dc_180 (a := 0) (b := 45) (n := 45) (by decide +kernel)
theorem dX3_readBox_115 : decode cX3_readBox 115 = .ok (.ldc_w 416, 3) := dc_19 (a := 1) (b := 160) (n := 416) (by decide +kernel)
theorem dX3_readBox_118 : decode cX3_readBox 118 = .ok (.invokevirtual 412, 3) := dc_182 (a := 1) (b := 156) (n := 412) (by decide +kernel)
theorem dX3_readBox_121 : decode cX3_readBox 121 = .ok (.ifCond .eq 7, 3) := dc_153 (a := 0) (b := 7) (v := 7) (by decide +kernel)
theorem dX3_readBox_124 : decode cX3_readBox 124 = .ok (.iconst 2, 1) := dc_5 (by decide +kernel)
theorem dX3_readBox_125 : decode cX3_readBox 125 = .ok (.goto 4, 3) := dc_167 (a := 0) (b := 4) (v := 4) (by decide +kernel)
theorem dX3_readBox_128 : decode cX3_readBox 128 = .ok (.iconst 0, 1) := dc_3 (by decide +kernel)
theorem dX3_readBox_129 : decode cX3_readBox 129 = .ok (.istore 5, 2) := dc_54 (a := 5) (by decide +kernel)
theorem dX3_readBox_131 : decode cX3_readBox 131 = .ok (.iload 5, 2) := dc_21 (a := 5) (by decide +kernel)
theorem dX3_readBox_133 : decode cX3_readBox 133 = .ok (.ifCond .le 13, 3) := dc_158 (a := 0) (b := 13) (v := 13) (by decide +kernel)
theorem dX3_readBox_136 : decode cX3_readBox 136 = .ok (.aload_n 0, 1) := dc_42 (by decide +kernel)
theorem dX3_readBox_137 : decode cX3_readBox 137 = .ok (.getfield 45, 3) := dc_180 (a := 0) (b := 45) (n := 45) (by decide +kernel)
theorem dX3_readBox_140 : decode cX3_readBox 140 = .ok (.invokevirtual 418, 3) := dc_182 (a := 1) (b := 162) (n := 418) (by decide +kernel)
theorem dX3_readBox_143 : decode cX3_readBox 143 = .ok (.goto 4, 3) := dc_167 (a := 0) (b := 4) (v := 4) (by decide +kernel)
theorem dX3_readBox_146 : decode cX3_readBox 146 = .ok (.iconst 0, 1) := dc_3 (by decide +kernel)
theorem dX3_readBox_147 : decode cX3_readBox 147 = .ok (.istore 6, 2) := dc_54 (a := 6) (by decide +kernel)
theorem dX3_readBox_149 : decode cX3_readBox 149 = .ok (.aload_n 0, 1) := dc_42 (by decide +kernel)
theorem dX3_readBox_150 : decode cX3_readBox 150 = .ok (.invokevirtual 421, 3) := dc_182 (a := 1) (b := 165) (n := 421) (by decide +kernel)
theorem dX3_readBox_153 : decode cX3_readBox 153 = .ok (.istore 7, 2) := dc_54 (a := 7) (by decide +kernel)
theorem dX3_readBox_155 : decode cX3_readBox 155 = .ok (.aload_n 0, 1) := dc_42 (by decide +kernel)
theorem dX3_readBox_156 : decode cX3_readBox 156 = .ok (.getfield 14, 3) := dc_180 (a := 0) (b := 14) (n := 14) (by decide +kernel)
theorem dX3_readBox_159 : decode cX3_readBox 159 = .ok (.aload_n 0, 1) := dc_42 (by decide +kernel)
theorem dX3_readBox_160 : decode cX3_readBox 160 = .ok (.getfield 45, 3) := dc_180 (a := 0) (b := 45) (n := 45) (by decide +kernel)
theorem dX3_readBox_163 : decode cX3_readBox 163 = .ok (.iload 7, 2) := dc_21 (a := 7) (by decide +kernel)
theorem dX3_readBox_165 : decode cX3_readBox 165 = .ok (.invokevirtual 424, 3) := dc_182 (a := 1) (b := 168) (n := 424) (by decide +kernel)
theorem dX3_readBox_168 : decode cX3_readBox 168 = .ok (.iconst 3, 1) := dc_6 (by decide +kernel)
theorem dX3_readBox_169 : decode cX3_readBox 169 = .ok (.if_icmp .ne 23, 3) := dc_160 (a := 0) (b := 23) (v := 23) (by decide +kernel)
theorem dX3_readBox_172 : decode cX3_readBox 172 = .ok (.aload_n 0, 1) := dc_42 (by decide +kernel)
theorem dX3_readBox_173 : decode cX3_readBox 173 = .ok (.getfield 45, 3) := dc_180 (a := 0) (b := 45) (n := 45) (by decide +kernel)
theorem dX3_readBox_176 : decode cX3_readBox 176 = .ok (.iload 7, 2) := dc_21 (a := 7) (by decide +kernel)
theorem dX3_readBox_178 : decode cX3_readBox 178 = .ok (.invokevirtual 425, 3) := dc_182 (a := 1) (b := 169) (n := 425) (by decide +kernel)
theorem dX3_readBox_181 : decode cX3_readBox 181 = .ok (.invokestatic 428, 3) := dc_184 (a := 1) (b := 172) (n := 428) (by decide +kernel)
theorem dX3_readBox_184 : decode cX3_readBox 184 = .ok (.iconst 1, 1) := dc_4 (by decide +kernel)
theorem dX3_readBox_185 : decode cX3_readBox 185 = .ok (.if_icmp .ne 7, 3) := dc_160 (a := 0) (b := 7) (v := 7) (by decide +kernel)
theorem dX3_readBox_188 : decode cX3_readBox 188 = .ok (.iconst 1, 1) := dc_4 (by decide +kernel)
theorem dX3_readBox_189 : decode cX3_readBox 189 = .ok (.goto 4, 3) := dc_167 (a := 0) (b := 4) (v := 4) (by decide +kernel)
theorem dX3_readBox_192 : decode cX3_readBox 192 = .ok (.iconst 0, 1) := dc_3 (by decide +kernel)
theorem dX3_readBox_193 : decode cX3_readBox 193 = .ok (.bipush 6, 2) := dc_16 (a := 6) (v := 6) (by decide +kernel)
theorem dX3_readBox_195 : decode cX3_readBox 195 = .ok (.invokevirtual 289, 3) := dc_182 (a := 1) (b := 33) (n := 289) (by decide +kernel)
theorem dX3_readBox_198 : decode cX3_readBox 198 = .ok (.aload_n 0, 1) := dc_42 (by decide +kernel)
theorem dX3_readBox_199 : decode cX3_readBox 199 = .ok (.iconst 3, 1) := dc_6 (by decide +kernel)
theorem dX3_readBox_200 : decode cX3_readBox 200 = .ok (.invokevirtual 431, 3) := dc_182 (a := 1) (b := 175) (n := 431) (by decide +kernel)
theorem dX3_readBox_203 : decode cX3_readBox 203 = .ok (.aload_n 0, 1) := dc_42 (by decide +kernel)
theorem dX3_readBox_204 : decode cX3_readBox 204 = .ok (.iload_n 1, 1) := dc_27 (by decide +kernel)
theorem dX3_readBox_205 : decode cX3_readBox 205 = .ok (.bipush 41, 2) := dc_16 (a := 41) (v := 41) (by decide +kernel)
theorem dX3_readBox_207 : decode cX3_readBox 207 = .ok (.if_icmp .ne 7, 3) := dc_160 (a := 0) (b := 7) (v := 7) (by decide +kernel)
theorem dX3_readBox_210 : decode cX3_readBox 210 = .ok (.iconst 3, 1) := dc_6 (by decide +kernel)
theorem dX3_readBox_211 : decode cX3_readBox 211 = .ok (.goto 4, 3) := dc_167 (a := 0) (b := 4) (v := 4) (by decide +kernel)
theorem dX3_readBox_214 : decode cX3_readBox 214 = .ok (.iconst 1, 1) := dc_4 (by decide +kernel)
theorem dX3_readBox_215 : decode cX3_readBox 215 = .ok (.invokevirtual 305, 3) := dc_182 (a := 1) (b := 49) (n := 305) (by decide +kernel)
theorem dX3_readBox_218 : decode cX3_readBox 218 = .ok (.aload_n 0, 1) := dc_42 (by decide +kernel)
theorem dX3_readBox_219 : decode cX3_readBox 219 = .ok (.getfield 146, 3) := dc_180 (a := 0) (b := 146) (n := 146) (by decide +kernel)
theorem dX3_readBox_222 : decode cX3_readBox 222 = .ok (.aload_n 0, 1) := dc_42 (by decide +kernel)
theorem dX3_readBox_223 : decode cX3_readBox 223 = .ok (.getfield 211, 3) := dc_180 (a := 0) (b := 211) (n := 211) (by decide +kernel)
theorem dX3_readBox_226 : decode cX3_readBox 226 = .ok (.iload 5, 2) := dc_21 (a := 5) (by decide +kernel)
theorem dX3_readBox_228 : decode cX3_readBox 228 = .ok (.iastore, 1) := dc_79 (by decide +kernel)
theorem dX3_readBox_229 : decode cX3_readBox 229 = .ok (.aload_n 0, 1) := dc_42 (by decide +kernel)
theorem dX3_readBox_230 : decode cX3_readBox 230 = .ok (.getfield 149, 3) := dc_180 (a := 0) (b := 149) (n := 149) (by decide +kernel)
theorem dX3_readBox_233 : decode cX3_readBox 233 = .ok (.aload_n 0, 1) := dc_42 (by decide +kernel)
theorem dX3_readBox_234 : decode cX3_readBox 234 = .ok (.getfield 211, 3) := dc_180 (a := 0) (b := 211) (n := 211) (by decide +kernel)
theorem dX3_readBox_237 : decode cX3_readBox 237 = .ok (.iload 6, 2) := dc_21 (a := 6) (by decide +kernel)
theorem dX3_readBox_239 : decode cX3_readBox 239 = .ok (.iastore, 1) := dc_79 (by decide +kernel)
theorem dX3_readBox_240 : decode cX3_readBox 240 = .ok (.aload_n 0, 1) := dc_42 (by decide +kernel)
theorem dX3_readBox_241 : decode cX3_readBox 241 = .ok (.getfield 152, 3) := dc_180 (a := 0) (b := 152) (n := 152) (by decide +kernel)
theorem dX3_readBox_244 : decode cX3_readBox 244 = .ok (.aload_n 0, 1) := dc_42 (by decide +kernel)
theorem dX3_readBox_245 : decode cX3_readBox 245 = .ok (.getfield 211, 3) := dc_180 (a := 0) (b := 211) (n := 211) (by decide +kernel)
theorem dX3_readBox_248 : decode cX3_readBox 248 = .ok (.iload_n 2, 1) := dc_28 (by decide +kernel)
theorem dX3_readBox_249 : decode cX3_readBox 249 = .ok (.iastore, 1) := dc_79 (by decide +kernel)
theorem dX3_readBox_250 : decode cX3_readBox 250 = .ok (.aload_n 0, 1) := dc_42 (by decide +kernel)
theorem dX3_readBox_251 : decode cX3_readBox 251 = .ok (.getfield 155, 3) := dc_180 (a := 0) (b := 155) (n := 155) (by decide +kernel)
theorem dX3_readBox_254 : decode cX3_readBox 254 = .ok (.aload_n 0, 1) := dc_42 (by decide +kernel)
theorem dX3_readBox_255 : decode cX3_readBox 255 = .ok (.getfield 211, 3) := dc_180 (a := 0) (b := 211) (n := 211) (by decide +kernel)
theorem dX3_readBox_258 : decode cX3_readBox 258 = .ok (.iload_n 3, 1) := dc_29 (by decide +kernel)
theorem dX3_readBox_259 : decode cX3_readBox 259 = .ok (.iastore, 1) := dc_79 (by decide +kernel)
theorem dX3_readBox_260 : decode cX3_readBox 260 = .ok (.aload_n 0, 1) := dc_42 (by decide +kernel)
theorem dX3_readBox_261 : decode cX3_readBox 261 = .ok (.getfield 158, 3) := dc_180 (a := 0) (b := 158) (n := 158) (by decide +kernel)
theorem dX3_readBox_264 : decode cX3_readBox 264 = .ok (.aload_n 0, 1) := dc_42 (by decide +kernel)
theorem dX3_readBox_265 : decode cX3_readBox 265 = .ok (.getfield 211, 3) := dc_180 (a := 0) (b := 211) (n := 211) (by decide +kernel)
theorem dX3_readBox_268 : decode cX3_readBox 268 = .ok (.iload 4, 2) := dc_21 (a := 4) (by decide +kernel)
theorem dX3_readBox_270 : decode cX3_readBox 270 = .ok (.bastore, 1) := dc_84 (by decide +kernel)
theorem dX3_readBox_271 : decode cX3_readBox 271 = .ok (.return_, 1) := dc_177 (by decide +kernel)
def fX3_readBox_b57 (N : Nat) (rE : Nat → Int32 → eH → Option ((Unit ⊕ Nat) × eH)) (rN : Nat → eH → Option ((Int32 ⊕ Nat) × eH)) (l0 : Nat) (l2 : Int32) (l3 : Int32) (l4 : Int32) (l6 : Int32) (h : eH) : Option ((Unit ⊕ Nat) × eH) :=
  (k_ok 2 h l0).bind fun _ =>
  t_B (fX3_deliver N l0 l6 l2 l3 l4 h) fun x2 h3 =>
  some (.inl (), h3)
theorem pX3_readBox_b57 {w : eW} {d : Nat} {dr : Nat} (hd : dr + 18 ≤ d + 1) (hdr : 12 ≤ dr) {N : Nat} {rE : Nat → Int32 → eH → Option ((Unit ⊕ Nat) × eH)} {rN : Nat → eH → Option ((Int32 ⊕ Nat) × eH)} (hrE : ∀ a t0 h q, rE a t0 h = some q → wm w dr YX8_expand [.ref a, .int t0] h (e_is (e_rt c_V q))) (hrN : ∀ a h q, rN a h = some q → wm w dr YX8_number [.ref a] h (e_is (e_rt c_I q))) {l0 : Nat} {l2 : Int32} {l3 : Int32} {l4 : Int32} {l6 : Int32} {h : eH} {q} (hf : fX3_readBox_b57 N rE rN l0 l2 l3 l4 l6 h = some q) : wp w (d + 1) YX3_readBox 57 [some (.ref l0), none, some (.int l2), some (.int l3), some (.int l4), none, some (.int l6), none] [] h (e_is (e_rt c_V q)) := by
  unfold fX3_readBox_b57 at hf
  refine w_aload_n dX3_readBox_57 rfl rfl ?_
  refine w_iload dX3_readBox_58 rfl ?_
  refine w_iload_n dX3_readBox_60 rfl rfl ?_
  refine w_iload_n dX3_readBox_61 rfl rfl ?_
  refine w_iload dX3_readBox_62 rfl ?_
  obtain ⟨_, b1, hf⟩ := Option.bind_eq_some_iff.mp hf
  refine x_ctV hf (e_stV (Yc := YX3_deliver) (ci := 2) (av := [.int l6, .int l2, .int l3, .int l4]) (st := []) dX3_readBox_64 q3875 mX3_deliver rfl (k_ok_some b1).1 (k_ok_some b1).2) mX3_deliver.2.2.1 mX3_deliver.2.2.2.2.1 (Nat.le_of_ble_eq_true rfl) (Nat.le_of_ble_eq_true rfl) rfl (fun q hq => pX3_deliver (by omega) hq) (fun x2 h3 hf => ?_)
  cases hf
  exact w_vret dX3_readBox_67 rfl rfl
def fX3_readBox_b12 (N : Nat) (rE : Nat → Int32 → eH → Option ((Unit ⊕ Nat) × eH)) (rN : Nat → eH → Option ((Int32 ⊕ Nat) × eH)) (l0 : Nat) (l1 : Int32) (l2 : Int32) (l3 : Int32) (l4 : Int32) (h : eH) : Option ((Unit ⊕ Nat) × eH) :=
  (g_A 2 h l0 5).bind fun a1 =>
  (k_ok 7 h a1).bind fun _ =>
  t_B (fX8_within rN a1 (255 : Int32) h) fun x4 h5 =>
  (g_A 2 h5 l0 6).bind fun a6 =>
  (g_A 8 h5 a6 3).bind fun a8 =>
  (r_I 100 h5 a8 ((1583 : Int32) + x4)).bind fun x10 =>
  if ¬ l1 = (43 : Int32) then
    fX3_readBox_b57 N rE rN l0 l2 l3 l4 x10 h5
  else
    (g_A 2 h5 l0 6).bind fun a13 =>
    (g_A 8 h5 a13 3).bind fun a15 =>
    (q_V 100 h5 a15 ((1583 : Int32) + x4) (.int (-1 : Int32))).bind fun h17 =>
    fX3_readBox_b57 N rE rN l0 l2 l3 l4 x10 h17
theorem pX3_readBox_b12 {w : eW} {d : Nat} {dr : Nat} (hd : dr + 18 ≤ d + 1) (hdr : 12 ≤ dr) {N : Nat} {rE : Nat → Int32 → eH → Option ((Unit ⊕ Nat) × eH)} {rN : Nat → eH → Option ((Int32 ⊕ Nat) × eH)} (hrE : ∀ a t0 h q, rE a t0 h = some q → wm w dr YX8_expand [.ref a, .int t0] h (e_is (e_rt c_V q))) (hrN : ∀ a h q, rN a h = some q → wm w dr YX8_number [.ref a] h (e_is (e_rt c_I q))) {l0 : Nat} {l1 : Int32} {l2 : Int32} {l3 : Int32} {l4 : Int32} {h : eH} {q} (hf : fX3_readBox_b12 N rE rN l0 l1 l2 l3 l4 h = some q) : wp w (d + 1) YX3_readBox 12 [some (.ref l0), some (.int l1), some (.int l2), some (.int l3), some (.int l4), none, none, none] [] h (e_is (e_rt c_V q)) := by
  unfold fX3_readBox_b12 at hf
  refine w_sipush dX3_readBox_12 (v := 1583) (by decide) ?_
  refine w_aload_n dX3_readBox_15 rfl rfl ?_
  obtain ⟨a1, b2, hf⟩ := Option.bind_eq_some_iff.mp hf
  refine GX3_45 b2 dX3_readBox_16 rfl ?_
  refine w_sipush dX3_readBox_19 (v := 255) (by decide) ?_
  obtain ⟨_, b3, hf⟩ := Option.bind_eq_some_iff.mp hf
  refine x_ctI hf (e_stVN (Yc := YX8_within) (ci := 7) (av := [.int (255 : Int32)]) (st := [.int (1583 : Int32)]) dX3_readBox_22 q3892 mX8_within rfl (k_ok_some b3).1 (k_ok_some b3).2) mX8_within.2.2.1 mX8_within.2.2.2.2.1 (Nat.le_of_ble_eq_true rfl) (Nat.le_of_ble_eq_true rfl) rfl (fun q hq => pX8_within (by omega) hdr hrN hq) (fun x4 h5 hf => ?_)
  refine w_iadd dX3_readBox_25 ?_
  refine w_istore dX3_readBox_26 (by decide) (ls' := [some (.ref l0), some (.int l1), some (.int l2), some (.int l3), some (.int l4), some (.int ((1583 : Int32) + x4)), none, none]) rfl ?_
  refine w_aload_n dX3_readBox_28 rfl rfl ?_
  obtain ⟨a6, b7, hf⟩ := Option.bind_eq_some_iff.mp hf
  refine GX3_53 b7 dX3_readBox_29 rfl ?_
  obtain ⟨a8, b9, hf⟩ := Option.bind_eq_some_iff.mp hf
  refine GX3_311 b9 dX3_readBox_32 rfl ?_
  refine w_iload dX3_readBox_35 rfl ?_
  obtain ⟨x10, b11, hf⟩ := Option.bind_eq_some_iff.mp hf
  refine x_rI b11 dX3_readBox_37 ?_
  refine w_istore dX3_readBox_38 (by decide) (ls' := [some (.ref l0), some (.int l1), some (.int l2), some (.int l3), some (.int l4), some (.int ((1583 : Int32) + x4)), some (.int x10), none]) rfl ?_
  refine w_iload_n dX3_readBox_40 rfl rfl ?_
  refine w_bipush dX3_readBox_41 (v := 43) (by decide) ?_
  refine w_icmp_ne 57 dX3_readBox_43 (by decide) (fun c12 => ?_) (fun c12 => ?_)
  · replace hf := (if_pos (show ¬ l1 = (43 : Int32) from c12)).symm.trans hf
    exact (pX3_readBox_b57 hd hdr hrE hrN hf).to ⟨rfl, rfl, rfl, rfl, rfl, trivial⟩
  · replace hf := (if_neg (show ¬ (¬ l1 = (43 : Int32)) from (fun z => z c12))).symm.trans hf
    refine w_aload_n dX3_readBox_46 rfl rfl ?_
    obtain ⟨a13, b14, hf⟩ := Option.bind_eq_some_iff.mp hf
    refine GX3_53 b14 dX3_readBox_47 rfl ?_
    obtain ⟨a15, b16, hf⟩ := Option.bind_eq_some_iff.mp hf
    refine GX3_311 b16 dX3_readBox_50 rfl ?_
    refine w_iload dX3_readBox_53 rfl ?_
    refine w_iconst dX3_readBox_55 (v := -1) (by decide) ?_
    obtain ⟨h17, b18, hf⟩ := Option.bind_eq_some_iff.mp hf
    refine x_qI b18 dX3_readBox_56 ?_
    exact (pX3_readBox_b57 hd hdr hrE hrN hf).to ⟨rfl, rfl, rfl, rfl, rfl, trivial⟩
def fX3_readBox_b215 (N : Nat) (rE : Nat → Int32 → eH → Option ((Unit ⊕ Nat) × eH)) (rN : Nat → eH → Option ((Int32 ⊕ Nat) × eH)) (l0 : Nat) (l2 : Int32) (l3 : Int32) (l4 : Int32) (l5 : Int32) (l6 : Int32) (s0 : Nat) (s1 : Int32) (h : eH) : Option ((Unit ⊕ Nat) × eH) :=
  (k_ok 2 h s0).bind fun _ =>
  (fX3_push s0 s1 h).bind fun q2 =>
  (g_A 2 q2.2 l0 22).bind fun a3 =>
  (g_I 2 q2.2 l0 27).bind fun x5 =>
  (q_V 100 q2.2 a3 x5 (.int l5)).bind fun h7 =>
  (g_A 2 h7 l0 23).bind fun a9 =>
  (g_I 2 h7 l0 27).bind fun x11 =>
  (q_V 100 h7 a9 x11 (.int l6)).bind fun h13 =>
  (g_A 2 h13 l0 24).bind fun a15 =>
  (g_I 2 h13 l0 27).bind fun x17 =>
  (q_V 100 h13 a15 x17 (.int l2)).bind fun h19 =>
  (g_A 2 h19 l0 25).bind fun a21 =>
  (g_I 2 h19 l0 27).bind fun x23 =>
  (q_V 100 h19 a21 x23 (.int l3)).bind fun h25 =>
  (g_A 2 h25 l0 26).bind fun a27 =>
  (g_I 2 h25 l0 27).bind fun x29 =>
  (q_V 103 h25 a27 x29 (.int (l4 &&& 1))).bind fun h31 =>
  some (.inl (), h31)
theorem pX3_readBox_b215 {w : eW} {d : Nat} {dr : Nat} (hd : dr + 18 ≤ d + 1) (hdr : 12 ≤ dr) {N : Nat} {rE : Nat → Int32 → eH → Option ((Unit ⊕ Nat) × eH)} {rN : Nat → eH → Option ((Int32 ⊕ Nat) × eH)} (hrE : ∀ a t0 h q, rE a t0 h = some q → wm w dr YX8_expand [.ref a, .int t0] h (e_is (e_rt c_V q))) (hrN : ∀ a h q, rN a h = some q → wm w dr YX8_number [.ref a] h (e_is (e_rt c_I q))) {l0 : Nat} {l2 : Int32} {l3 : Int32} {l4 : Int32} {l5 : Int32} {l6 : Int32} {s0 : Nat} {s1 : Int32} {h : eH} {q} (hf : fX3_readBox_b215 N rE rN l0 l2 l3 l4 l5 l6 s0 s1 h = some q) : wp w (d + 1) YX3_readBox 215 [some (.ref l0), none, some (.int l2), some (.int l3), some (.int l4), some (.int l5), some (.int l6), none] [.int s1, .ref s0] h (e_is (e_rt c_V q)) := by
  unfold fX3_readBox_b215 at hf
  obtain ⟨_, b1, hf⟩ := Option.bind_eq_some_iff.mp hf
  refine x_cnV hf (e_stV (Yc := YX3_push) (ci := 2) (av := [.int s1]) (st := []) dX3_readBox_215 q3478 mX3_push rfl (k_ok_some b1).1 (k_ok_some b1).2) mX3_push.2.2.1 mX3_push.2.2.2.2.1 (Nat.le_of_ble_eq_true rfl) (Nat.le_of_ble_eq_true rfl) (fun q hq => pX3_push (by omega) hq) (fun q2 hf => ?_)
  refine w_aload_n dX3_readBox_218 rfl rfl ?_
  obtain ⟨a3, b4, hf⟩ := Option.bind_eq_some_iff.mp hf
  refine GX3_146 b4 dX3_readBox_219 rfl ?_
  refine w_aload_n dX3_readBox_222 rfl rfl ?_
  obtain ⟨x5, b6, hf⟩ := Option.bind_eq_some_iff.mp hf
  refine GX3_211 b6 dX3_readBox_223 rfl ?_
  refine w_iload dX3_readBox_226 rfl ?_
  obtain ⟨h7, b8, hf⟩ := Option.bind_eq_some_iff.mp hf
  refine x_qI b8 dX3_readBox_228 ?_
  refine w_aload_n dX3_readBox_229 rfl rfl ?_
  obtain ⟨a9, b10, hf⟩ := Option.bind_eq_some_iff.mp hf
  refine GX3_149 b10 dX3_readBox_230 rfl ?_
  refine w_aload_n dX3_readBox_233 rfl rfl ?_
  obtain ⟨x11, b12, hf⟩ := Option.bind_eq_some_iff.mp hf
  refine GX3_211 b12 dX3_readBox_234 rfl ?_
  refine w_iload dX3_readBox_237 rfl ?_
  obtain ⟨h13, b14, hf⟩ := Option.bind_eq_some_iff.mp hf
  refine x_qI b14 dX3_readBox_239 ?_
  refine w_aload_n dX3_readBox_240 rfl rfl ?_
  obtain ⟨a15, b16, hf⟩ := Option.bind_eq_some_iff.mp hf
  refine GX3_152 b16 dX3_readBox_241 rfl ?_
  refine w_aload_n dX3_readBox_244 rfl rfl ?_
  obtain ⟨x17, b18, hf⟩ := Option.bind_eq_some_iff.mp hf
  refine GX3_211 b18 dX3_readBox_245 rfl ?_
  refine w_iload_n dX3_readBox_248 rfl rfl ?_
  obtain ⟨h19, b20, hf⟩ := Option.bind_eq_some_iff.mp hf
  refine x_qI b20 dX3_readBox_249 ?_
  refine w_aload_n dX3_readBox_250 rfl rfl ?_
  obtain ⟨a21, b22, hf⟩ := Option.bind_eq_some_iff.mp hf
  refine GX3_155 b22 dX3_readBox_251 rfl ?_
  refine w_aload_n dX3_readBox_254 rfl rfl ?_
  obtain ⟨x23, b24, hf⟩ := Option.bind_eq_some_iff.mp hf
  refine GX3_211 b24 dX3_readBox_255 rfl ?_
  refine w_iload_n dX3_readBox_258 rfl rfl ?_
  obtain ⟨h25, b26, hf⟩ := Option.bind_eq_some_iff.mp hf
  refine x_qI b26 dX3_readBox_259 ?_
  refine w_aload_n dX3_readBox_260 rfl rfl ?_
  obtain ⟨a27, b28, hf⟩ := Option.bind_eq_some_iff.mp hf
  refine GX3_158 b28 dX3_readBox_261 rfl ?_
  refine w_aload_n dX3_readBox_264 rfl rfl ?_
  obtain ⟨x29, b30, hf⟩ := Option.bind_eq_some_iff.mp hf
  refine GX3_211 b30 dX3_readBox_265 rfl ?_
  refine w_iload dX3_readBox_268 rfl ?_
  obtain ⟨h31, b32, hf⟩ := Option.bind_eq_some_iff.mp hf
  refine x_qZ b32 dX3_readBox_270 ?_
  cases hf
  exact w_vret dX3_readBox_271 rfl rfl
def fX3_readBox_b193 (N : Nat) (rE : Nat → Int32 → eH → Option ((Unit ⊕ Nat) × eH)) (rN : Nat → eH → Option ((Int32 ⊕ Nat) × eH)) (l0 : Nat) (l1 : Int32) (l2 : Int32) (l3 : Int32) (l4 : Int32) (l5 : Int32) (l6 : Int32) (s0 : Nat) (s1 : Int32) (h : eH) : Option ((Unit ⊕ Nat) × eH) :=
  (k_ok 3 h s0).bind fun _ =>
  t_B (fX4_want s0 s1 (6 : Int32) h) fun x2 h3 =>
  (k_ok 2 h3 l0).bind fun _ =>
  t_B (fX3_open l0 (3 : Int32) h3) fun x5 h6 =>
  if ¬ l1 = (41 : Int32) then
    fX3_readBox_b215 N rE rN l0 l2 l3 l4 l5 l6 l0 (1 : Int32) h6
  else
    fX3_readBox_b215 N rE rN l0 l2 l3 l4 l5 l6 l0 (3 : Int32) h6
theorem pX3_readBox_b193 {w : eW} {d : Nat} {dr : Nat} (hd : dr + 18 ≤ d + 1) (hdr : 12 ≤ dr) {N : Nat} {rE : Nat → Int32 → eH → Option ((Unit ⊕ Nat) × eH)} {rN : Nat → eH → Option ((Int32 ⊕ Nat) × eH)} (hrE : ∀ a t0 h q, rE a t0 h = some q → wm w dr YX8_expand [.ref a, .int t0] h (e_is (e_rt c_V q))) (hrN : ∀ a h q, rN a h = some q → wm w dr YX8_number [.ref a] h (e_is (e_rt c_I q))) {l0 : Nat} {l1 : Int32} {l2 : Int32} {l3 : Int32} {l4 : Int32} {l5 : Int32} {l6 : Int32} {s0 : Nat} {s1 : Int32} {h : eH} {q} (hf : fX3_readBox_b193 N rE rN l0 l1 l2 l3 l4 l5 l6 s0 s1 h = some q) : wp w (d + 1) YX3_readBox 193 [some (.ref l0), some (.int l1), some (.int l2), some (.int l3), some (.int l4), some (.int l5), some (.int l6), none] [.int s1, .ref s0] h (e_is (e_rt c_V q)) := by
  unfold fX3_readBox_b193 at hf
  refine w_bipush dX3_readBox_193 (v := 6) (by decide) ?_
  obtain ⟨_, b1, hf⟩ := Option.bind_eq_some_iff.mp hf
  refine x_ctV hf (e_stV (Yc := YX4_want) (ci := 3) (av := [.int s1, .int (6 : Int32)]) (st := []) dX3_readBox_195 q2846 mX4_want rfl (k_ok_some b1).1 (k_ok_some b1).2) mX4_want.2.2.1 mX4_want.2.2.2.2.1 (Nat.le_of_ble_eq_true rfl) (Nat.le_of_ble_eq_true rfl) rfl (fun q hq => pX4_want (by omega) hq) (fun x2 h3 hf => ?_)
  refine w_aload_n dX3_readBox_198 rfl rfl ?_
  refine w_iconst dX3_readBox_199 (v := 3) (by decide) ?_
  obtain ⟨_, b4, hf⟩ := Option.bind_eq_some_iff.mp hf
  refine x_ctV hf (e_stV (Yc := YX3_open) (ci := 2) (av := [.int (3 : Int32)]) (st := []) dX3_readBox_200 q3649 mX3_open rfl (k_ok_some b4).1 (k_ok_some b4).2) mX3_open.2.2.1 mX3_open.2.2.2.2.1 (Nat.le_of_ble_eq_true rfl) (Nat.le_of_ble_eq_true rfl) rfl (fun q hq => pX3_open (by omega) hq) (fun x5 h6 hf => ?_)
  refine w_aload_n dX3_readBox_203 rfl rfl ?_
  refine w_iload_n dX3_readBox_204 rfl rfl ?_
  refine w_bipush dX3_readBox_205 (v := 41) (by decide) ?_
  refine w_icmp_ne 214 dX3_readBox_207 (by decide) (fun c7 => ?_) (fun c7 => ?_)
  · replace hf := (if_pos (show ¬ l1 = (41 : Int32) from c7)).symm.trans hf
    refine w_iconst dX3_readBox_214 (v := 1) (by decide) ?_
    exact (pX3_readBox_b215 hd hdr hrE hrN hf).to ⟨rfl, rfl, rfl, rfl, rfl, rfl, trivial⟩
  · replace hf := (if_neg (show ¬ (¬ l1 = (41 : Int32)) from (fun z => z c7))).symm.trans hf
    refine w_iconst dX3_readBox_210 (v := 3) (by decide) ?_
    refine w_goto 215 dX3_readBox_211 (by decide) ?_
    exact (pX3_readBox_b215 hd hdr hrE hrN hf).to ⟨rfl, rfl, rfl, rfl, rfl, rfl, trivial⟩
def fX3_readBox_b192 (N : Nat) (rE : Nat → Int32 → eH → Option ((Unit ⊕ Nat) × eH)) (rN : Nat → eH → Option ((Int32 ⊕ Nat) × eH)) (l0 : Nat) (l1 : Int32) (l2 : Int32) (l3 : Int32) (l4 : Int32) (l5 : Int32) (l6 : Int32) (s0 : Nat) (h : eH) : Option ((Unit ⊕ Nat) × eH) :=
  fX3_readBox_b193 N rE rN l0 l1 l2 l3 l4 l5 l6 s0 (0 : Int32) h
theorem pX3_readBox_b192 {w : eW} {d : Nat} {dr : Nat} (hd : dr + 18 ≤ d + 1) (hdr : 12 ≤ dr) {N : Nat} {rE : Nat → Int32 → eH → Option ((Unit ⊕ Nat) × eH)} {rN : Nat → eH → Option ((Int32 ⊕ Nat) × eH)} (hrE : ∀ a t0 h q, rE a t0 h = some q → wm w dr YX8_expand [.ref a, .int t0] h (e_is (e_rt c_V q))) (hrN : ∀ a h q, rN a h = some q → wm w dr YX8_number [.ref a] h (e_is (e_rt c_I q))) {l0 : Nat} {l1 : Int32} {l2 : Int32} {l3 : Int32} {l4 : Int32} {l5 : Int32} {l6 : Int32} {s0 : Nat} {h : eH} {q} (hf : fX3_readBox_b192 N rE rN l0 l1 l2 l3 l4 l5 l6 s0 h = some q) : wp w (d + 1) YX3_readBox 192 [some (.ref l0), some (.int l1), some (.int l2), some (.int l3), some (.int l4), some (.int l5), some (.int l6), none] [.ref s0] h (e_is (e_rt c_V q)) := by
  unfold fX3_readBox_b192 at hf
  refine w_iconst dX3_readBox_192 (v := 0) (by decide) ?_
  exact (pX3_readBox_b193 hd hdr hrE hrN hf).to ⟨rfl, rfl, rfl, rfl, rfl, rfl, rfl, trivial⟩
def fX3_readBox_b147 (N : Nat) (rE : Nat → Int32 → eH → Option ((Unit ⊕ Nat) × eH)) (rN : Nat → eH → Option ((Int32 ⊕ Nat) × eH)) (l0 : Nat) (l1 : Int32) (l2 : Int32) (l3 : Int32) (l4 : Int32) (l5 : Int32) (s0 : Int32) (h : eH) : Option ((Unit ⊕ Nat) × eH) :=
  (k_ok 2 h l0).bind fun _ =>
  t_B (fX3_solid N rE l0 h) fun x2 h3 =>
  (g_A 2 h3 l0 0).bind fun a4 =>
  (g_A 2 h3 l0 5).bind fun a6 =>
  (k_ok 7 h3 a6).bind fun _ =>
  (fX8_kind a6 x2 h3).bind fun q9 =>
  if ¬ q9.1 = (3 : Int32) then
    fX3_readBox_b192 N rE rN l0 l1 l2 l3 l4 l5 s0 a4 q9.2
  else
    (g_A 2 q9.2 l0 5).bind fun a11 =>
    (k_ok 7 q9.2 a11).bind fun _ =>
    (fX8_value a11 x2 q9.2).bind fun q14 =>
    (fX1_category q14.1 q14.2).bind fun q15 =>
    if ¬ q15.1 = (1 : Int32) then
      fX3_readBox_b192 N rE rN l0 l1 l2 l3 l4 l5 s0 a4 q15.2
    else
      fX3_readBox_b193 N rE rN l0 l1 l2 l3 l4 l5 s0 a4 (1 : Int32) q15.2
theorem pX3_readBox_b147 {w : eW} {d : Nat} {dr : Nat} (hd : dr + 18 ≤ d + 1) (hdr : 12 ≤ dr) {N : Nat} {rE : Nat → Int32 → eH → Option ((Unit ⊕ Nat) × eH)} {rN : Nat → eH → Option ((Int32 ⊕ Nat) × eH)} (hrE : ∀ a t0 h q, rE a t0 h = some q → wm w dr YX8_expand [.ref a, .int t0] h (e_is (e_rt c_V q))) (hrN : ∀ a h q, rN a h = some q → wm w dr YX8_number [.ref a] h (e_is (e_rt c_I q))) {l0 : Nat} {l1 : Int32} {l2 : Int32} {l3 : Int32} {l4 : Int32} {l5 : Int32} {s0 : Int32} {h : eH} {q} (hf : fX3_readBox_b147 N rE rN l0 l1 l2 l3 l4 l5 s0 h = some q) : wp w (d + 1) YX3_readBox 147 [some (.ref l0), some (.int l1), some (.int l2), some (.int l3), some (.int l4), some (.int l5), none, none] [.int s0] h (e_is (e_rt c_V q)) := by
  unfold fX3_readBox_b147 at hf
  refine w_istore dX3_readBox_147 (by decide) (ls' := [some (.ref l0), some (.int l1), some (.int l2), some (.int l3), some (.int l4), some (.int l5), some (.int s0), none]) rfl ?_
  refine w_aload_n dX3_readBox_149 rfl rfl ?_
  obtain ⟨_, b1, hf⟩ := Option.bind_eq_some_iff.mp hf
  refine x_ctI hf (e_stV (Yc := YX3_solid) (ci := 2) (av := []) (st := []) dX3_readBox_150 q3897 mX3_solid rfl (k_ok_some b1).1 (k_ok_some b1).2) mX3_solid.2.2.1 mX3_solid.2.2.2.2.1 (Nat.le_of_ble_eq_true rfl) (Nat.le_of_ble_eq_true rfl) rfl (fun q hq => pX3_solid (by omega) hdr hrE hq) (fun x2 h3 hf => ?_)
  refine w_istore dX3_readBox_153 (by decide) (ls' := [some (.ref l0), some (.int l1), some (.int l2), some (.int l3), some (.int l4), some (.int l5), some (.int s0), some (.int x2)]) rfl ?_
  refine w_aload_n dX3_readBox_155 rfl rfl ?_
  obtain ⟨a4, b5, hf⟩ := Option.bind_eq_some_iff.mp hf
  refine GX3_14 b5 dX3_readBox_156 rfl ?_
  refine w_aload_n dX3_readBox_159 rfl rfl ?_
  obtain ⟨a6, b7, hf⟩ := Option.bind_eq_some_iff.mp hf
  refine GX3_45 b7 dX3_readBox_160 rfl ?_
  refine w_iload dX3_readBox_163 rfl ?_
  obtain ⟨_, b8, hf⟩ := Option.bind_eq_some_iff.mp hf
  refine x_cnI hf (e_stVN (Yc := YX8_kind) (ci := 7) (av := [.int x2]) (st := [.ref a4]) dX3_readBox_165 q2789 mX8_kind rfl (k_ok_some b8).1 (k_ok_some b8).2) mX8_kind.2.2.1 mX8_kind.2.2.2.2.1 (Nat.le_of_ble_eq_true rfl) (Nat.le_of_ble_eq_true rfl) (fun q hq => pX8_kind (by omega) hq) (fun q9 hf => ?_)
  refine w_iconst dX3_readBox_168 (v := 3) (by decide) ?_
  refine w_icmp_ne 192 dX3_readBox_169 (by decide) (fun c10 => ?_) (fun c10 => ?_)
  · replace hf := (if_pos (show ¬ q9.1 = (3 : Int32) from c10)).symm.trans hf
    exact (pX3_readBox_b192 hd hdr hrE hrN hf).to ⟨rfl, rfl, rfl, rfl, rfl, rfl, rfl, trivial⟩
  · replace hf := (if_neg (show ¬ (¬ q9.1 = (3 : Int32)) from (fun z => z c10))).symm.trans hf
    refine w_aload_n dX3_readBox_172 rfl rfl ?_
    obtain ⟨a11, b12, hf⟩ := Option.bind_eq_some_iff.mp hf
    refine GX3_45 b12 dX3_readBox_173 rfl ?_
    refine w_iload dX3_readBox_176 rfl ?_
    obtain ⟨_, b13, hf⟩ := Option.bind_eq_some_iff.mp hf
    refine x_cnI hf (e_stVN (Yc := YX8_value) (ci := 7) (av := [.int x2]) (st := [.ref a4]) dX3_readBox_178 q2790 mX8_value rfl (k_ok_some b13).1 (k_ok_some b13).2) mX8_value.2.2.1 mX8_value.2.2.2.2.1 (Nat.le_of_ble_eq_true rfl) (Nat.le_of_ble_eq_true rfl) (fun q hq => pX8_value (by omega) hq) (fun q14 hf => ?_)
    refine x_cnI hf (e_stSN (Yc := YX1_category) (av := [.int q14.1]) (st := [.ref a4]) dX3_readBox_181 q2791 mX1_category) mX1_category.2.2.1 mX1_category.2.2.2.2.1 (Nat.le_of_ble_eq_true rfl) (Nat.le_of_ble_eq_true rfl) (fun q hq => pX1_category (by omega) hq) (fun q15 hf => ?_)
    refine w_iconst dX3_readBox_184 (v := 1) (by decide) ?_
    refine w_icmp_ne 192 dX3_readBox_185 (by decide) (fun c16 => ?_) (fun c16 => ?_)
    · replace hf := (if_pos (show ¬ q15.1 = (1 : Int32) from c16)).symm.trans hf
      exact (pX3_readBox_b192 hd hdr hrE hrN hf).to ⟨rfl, rfl, rfl, rfl, rfl, rfl, rfl, trivial⟩
    · replace hf := (if_neg (show ¬ (¬ q15.1 = (1 : Int32)) from (fun z => z c16))).symm.trans hf
      refine w_iconst dX3_readBox_188 (v := 1) (by decide) ?_
      refine w_goto 193 dX3_readBox_189 (by decide) ?_
      exact (pX3_readBox_b193 hd hdr hrE hrN hf).to ⟨rfl, rfl, rfl, rfl, rfl, rfl, rfl, trivial⟩
def fX3_readBox_b129 (N : Nat) (rE : Nat → Int32 → eH → Option ((Unit ⊕ Nat) × eH)) (rN : Nat → eH → Option ((Int32 ⊕ Nat) × eH)) (l0 : Nat) (l1 : Int32) (l2 : Int32) (l3 : Int32) (l4 : Int32) (s0 : Int32) (h : eH) : Option ((Unit ⊕ Nat) × eH) :=
  if s0 ≤ 0 then
    fX3_readBox_b147 N rE rN l0 l1 l2 l3 l4 s0 (0 : Int32) h
  else
    (g_A 2 h l0 5).bind fun a2 =>
    (k_ok 7 h a2).bind fun _ =>
    t_B (fX8_dimension N rE rN a2 h) fun x5 h6 =>
    fX3_readBox_b147 N rE rN l0 l1 l2 l3 l4 s0 x5 h6
theorem pX3_readBox_b129 {w : eW} {d : Nat} {dr : Nat} (hd : dr + 18 ≤ d + 1) (hdr : 12 ≤ dr) {N : Nat} {rE : Nat → Int32 → eH → Option ((Unit ⊕ Nat) × eH)} {rN : Nat → eH → Option ((Int32 ⊕ Nat) × eH)} (hrE : ∀ a t0 h q, rE a t0 h = some q → wm w dr YX8_expand [.ref a, .int t0] h (e_is (e_rt c_V q))) (hrN : ∀ a h q, rN a h = some q → wm w dr YX8_number [.ref a] h (e_is (e_rt c_I q))) {l0 : Nat} {l1 : Int32} {l2 : Int32} {l3 : Int32} {l4 : Int32} {s0 : Int32} {h : eH} {q} (hf : fX3_readBox_b129 N rE rN l0 l1 l2 l3 l4 s0 h = some q) : wp w (d + 1) YX3_readBox 129 [some (.ref l0), some (.int l1), some (.int l2), some (.int l3), some (.int l4), none, none, none] [.int s0] h (e_is (e_rt c_V q)) := by
  unfold fX3_readBox_b129 at hf
  refine w_istore dX3_readBox_129 (by decide) (ls' := [some (.ref l0), some (.int l1), some (.int l2), some (.int l3), some (.int l4), some (.int s0), none, none]) rfl ?_
  refine w_iload dX3_readBox_131 rfl ?_
  refine w_if_le 146 dX3_readBox_133 (by decide) (fun c1 => ?_) (fun c1 => ?_)
  · replace hf := (if_pos (show s0 ≤ 0 from c1)).symm.trans hf
    refine w_iconst dX3_readBox_146 (v := 0) (by decide) ?_
    exact (pX3_readBox_b147 hd hdr hrE hrN hf).to ⟨rfl, rfl, rfl, rfl, rfl, rfl, trivial⟩
  · replace hf := (if_neg (show ¬ (s0 ≤ 0) from c1)).symm.trans hf
    refine w_aload_n dX3_readBox_136 rfl rfl ?_
    obtain ⟨a2, b3, hf⟩ := Option.bind_eq_some_iff.mp hf
    refine GX3_45 b3 dX3_readBox_137 rfl ?_
    obtain ⟨_, b4, hf⟩ := Option.bind_eq_some_iff.mp hf
    refine x_ctI hf (e_stVN (Yc := YX8_dimension) (ci := 7) (av := []) (st := []) dX3_readBox_140 q3928 mX8_dimension rfl (k_ok_some b4).1 (k_ok_some b4).2) mX8_dimension.2.2.1 mX8_dimension.2.2.2.2.1 (Nat.le_of_ble_eq_true rfl) (Nat.le_of_ble_eq_true rfl) rfl (fun q hq => pX8_dimension (by omega) hdr hrE hrN hq) (fun x5 h6 hf => ?_)
    refine w_goto 147 dX3_readBox_143 (by decide) ?_
    exact (pX3_readBox_b147 hd hdr hrE hrN hf).to ⟨rfl, rfl, rfl, rfl, rfl, rfl, trivial⟩
def fX3_readBox_b89 (N : Nat) (rE : Nat → Int32 → eH → Option ((Unit ⊕ Nat) × eH)) (rN : Nat → eH → Option ((Int32 ⊕ Nat) × eH)) (l0 : Nat) (l1 : Int32) (l2 : Int32) (l3 : Int32) (l4 : Int32) (s0 : Nat) (s1 : Int32) (h : eH) : Option ((Unit ⊕ Nat) × eH) :=
  (k_ok 3 h s0).bind fun _ =>
  t_B (fX4_want s0 s1 (6 : Int32) h) fun x2 h3 =>
  (g_A 2 h3 l0 5).bind fun a4 =>
  (k_ok 7 h3 a4).bind fun _ =>
  t_B (fX8_keyword N rE a4 1000000117 h3) fun x7 h8 =>
  if x7 = 0 then
    (g_A 2 h8 l0 5).bind fun a10 =>
    (k_ok 7 h8 a10).bind fun _ =>
    t_B (fX8_keyword N rE a10 1000000118 h8) fun x13 h14 =>
    if x13 = 0 then
      fX3_readBox_b129 N rE rN l0 l1 l2 l3 l4 (0 : Int32) h14
    else
      fX3_readBox_b129 N rE rN l0 l1 l2 l3 l4 (2 : Int32) h14
  else
    fX3_readBox_b129 N rE rN l0 l1 l2 l3 l4 (1 : Int32) h8
theorem pX3_readBox_b89 {w : eW} {d : Nat} {dr : Nat} (hd : dr + 18 ≤ d + 1) (hdr : 12 ≤ dr) {N : Nat} {rE : Nat → Int32 → eH → Option ((Unit ⊕ Nat) × eH)} {rN : Nat → eH → Option ((Int32 ⊕ Nat) × eH)} (hrE : ∀ a t0 h q, rE a t0 h = some q → wm w dr YX8_expand [.ref a, .int t0] h (e_is (e_rt c_V q))) (hrN : ∀ a h q, rN a h = some q → wm w dr YX8_number [.ref a] h (e_is (e_rt c_I q))) {l0 : Nat} {l1 : Int32} {l2 : Int32} {l3 : Int32} {l4 : Int32} {s0 : Nat} {s1 : Int32} {h : eH} {q} (hf : fX3_readBox_b89 N rE rN l0 l1 l2 l3 l4 s0 s1 h = some q) : wp w (d + 1) YX3_readBox 89 [some (.ref l0), some (.int l1), some (.int l2), some (.int l3), some (.int l4), none, none, none] [.int s1, .ref s0] h (e_is (e_rt c_V q)) := by
  unfold fX3_readBox_b89 at hf
  refine w_bipush dX3_readBox_89 (v := 6) (by decide) ?_
  obtain ⟨_, b1, hf⟩ := Option.bind_eq_some_iff.mp hf
  refine x_ctV hf (e_stV (Yc := YX4_want) (ci := 3) (av := [.int s1, .int (6 : Int32)]) (st := []) dX3_readBox_91 q2846 mX4_want rfl (k_ok_some b1).1 (k_ok_some b1).2) mX4_want.2.2.1 mX4_want.2.2.2.2.1 (Nat.le_of_ble_eq_true rfl) (Nat.le_of_ble_eq_true rfl) rfl (fun q hq => pX4_want (by omega) hq) (fun x2 h3 hf => ?_)
  refine w_aload_n dX3_readBox_94 rfl rfl ?_
  obtain ⟨a4, b5, hf⟩ := Option.bind_eq_some_iff.mp hf
  refine GX3_45 b5 dX3_readBox_95 rfl ?_
  refine x_ldcSw (k := 17) dX3_readBox_98 rfl ?_
  obtain ⟨_, b6, hf⟩ := Option.bind_eq_some_iff.mp hf
  refine x_ctI hf (e_stVN (Yc := YX8_keyword) (ci := 7) (av := [.ref 1000000117]) (st := []) dX3_readBox_101 q3927 mX8_keyword rfl (k_ok_some b6).1 (k_ok_some b6).2) mX8_keyword.2.2.1 mX8_keyword.2.2.2.2.1 (Nat.le_of_ble_eq_true rfl) (Nat.le_of_ble_eq_true rfl) rfl (fun q hq => pX8_keyword (by omega) hdr hrE hq) (fun x7 h8 hf => ?_)
  refine w_if_eq 111 dX3_readBox_104 (by decide) (fun c9 => ?_) (fun c9 => ?_)
  · replace hf := (if_pos (show x7 = 0 from c9)).symm.trans hf
    refine w_aload_n dX3_readBox_111 rfl rfl ?_
    obtain ⟨a10, b11, hf⟩ := Option.bind_eq_some_iff.mp hf
    refine GX3_45 b11 dX3_readBox_112 rfl ?_
    refine x_ldcSw (k := 18) dX3_readBox_115 rfl ?_
    obtain ⟨_, b12, hf⟩ := Option.bind_eq_some_iff.mp hf
    refine x_ctI hf (e_stVN (Yc := YX8_keyword) (ci := 7) (av := [.ref 1000000118]) (st := []) dX3_readBox_118 q3927 mX8_keyword rfl (k_ok_some b12).1 (k_ok_some b12).2) mX8_keyword.2.2.1 mX8_keyword.2.2.2.2.1 (Nat.le_of_ble_eq_true rfl) (Nat.le_of_ble_eq_true rfl) rfl (fun q hq => pX8_keyword (by omega) hdr hrE hq) (fun x13 h14 hf => ?_)
    refine w_if_eq 128 dX3_readBox_121 (by decide) (fun c15 => ?_) (fun c15 => ?_)
    · replace hf := (if_pos (show x13 = 0 from c15)).symm.trans hf
      refine w_iconst dX3_readBox_128 (v := 0) (by decide) ?_
      exact (pX3_readBox_b129 hd hdr hrE hrN hf).to ⟨rfl, rfl, rfl, rfl, rfl, trivial⟩
    · replace hf := (if_neg (show ¬ (x13 = 0) from c15)).symm.trans hf
      refine w_iconst dX3_readBox_124 (v := 2) (by decide) ?_
      refine w_goto 129 dX3_readBox_125 (by decide) ?_
      exact (pX3_readBox_b129 hd hdr hrE hrN hf).to ⟨rfl, rfl, rfl, rfl, rfl, trivial⟩
  · replace hf := (if_neg (show ¬ (x7 = 0) from c9)).symm.trans hf
    refine w_iconst dX3_readBox_107 (v := 1) (by decide) ?_
    refine w_goto 129 dX3_readBox_108 (by decide) ?_
    exact (pX3_readBox_b129 hd hdr hrE hrN hf).to ⟨rfl, rfl, rfl, rfl, rfl, trivial⟩
def fX3_readBox_b84 (N : Nat) (rE : Nat → Int32 → eH → Option ((Unit ⊕ Nat) × eH)) (rN : Nat → eH → Option ((Int32 ⊕ Nat) × eH)) (l0 : Nat) (l1 : Int32) (l2 : Int32) (l3 : Int32) (l4 : Int32) (s0 : Nat) (h : eH) : Option ((Unit ⊕ Nat) × eH) :=
  fX3_readBox_b89 N rE rN l0 l1 l2 l3 l4 s0 (1 : Int32) h
theorem pX3_readBox_b84 {w : eW} {d : Nat} {dr : Nat} (hd : dr + 18 ≤ d + 1) (hdr : 12 ≤ dr) {N : Nat} {rE : Nat → Int32 → eH → Option ((Unit ⊕ Nat) × eH)} {rN : Nat → eH → Option ((Int32 ⊕ Nat) × eH)} (hrE : ∀ a t0 h q, rE a t0 h = some q → wm w dr YX8_expand [.ref a, .int t0] h (e_is (e_rt c_V q))) (hrN : ∀ a h q, rN a h = some q → wm w dr YX8_number [.ref a] h (e_is (e_rt c_I q))) {l0 : Nat} {l1 : Int32} {l2 : Int32} {l3 : Int32} {l4 : Int32} {s0 : Nat} {h : eH} {q} (hf : fX3_readBox_b84 N rE rN l0 l1 l2 l3 l4 s0 h = some q) : wp w (d + 1) YX3_readBox 84 [some (.ref l0), some (.int l1), some (.int l2), some (.int l3), some (.int l4), none, none, none] [.ref s0] h (e_is (e_rt c_V q)) := by
  unfold fX3_readBox_b84 at hf
  refine w_iconst dX3_readBox_84 (v := 1) (by decide) ?_
  refine w_goto 89 dX3_readBox_85 (by decide) ?_
  exact (pX3_readBox_b89 hd hdr hrE hrN hf).to ⟨rfl, rfl, rfl, rfl, rfl, trivial⟩
def fX3_readBox (N : Nat) (rE : Nat → Int32 → eH → Option ((Unit ⊕ Nat) × eH)) (rN : Nat → eH → Option ((Int32 ⊕ Nat) × eH)) (this : Nat) (p0 : Int32) (p1 : Int32) (p2 : Int32) (p3 : Int32) (h : eH) : Option ((Unit ⊕ Nat) × eH) :=
  if p0 = (43 : Int32) then
    fX3_readBox_b12 N rE rN this p0 p1 p2 p3 h
  else
    if ¬ p0 = (44 : Int32) then
      (g_A 2 h this 0).bind fun a3 =>
      if p0 = (41 : Int32) then
        fX3_readBox_b84 N rE rN this p0 p1 p2 p3 a3 h
      else
        if ¬ p0 = (42 : Int32) then
          fX3_readBox_b89 N rE rN this p0 p1 p2 p3 a3 (0 : Int32) h
        else
          fX3_readBox_b84 N rE rN this p0 p1 p2 p3 a3 h
    else
      fX3_readBox_b12 N rE rN this p0 p1 p2 p3 h
theorem pX3_readBox {w : eW} {d : Nat} {dr : Nat} (hd : dr + 18 ≤ d) (hdr : 12 ≤ dr) {N : Nat} {rE : Nat → Int32 → eH → Option ((Unit ⊕ Nat) × eH)} {rN : Nat → eH → Option ((Int32 ⊕ Nat) × eH)} (hrE : ∀ a t0 h q, rE a t0 h = some q → wm w dr YX8_expand [.ref a, .int t0] h (e_is (e_rt c_V q))) (hrN : ∀ a h q, rN a h = some q → wm w dr YX8_number [.ref a] h (e_is (e_rt c_I q))) {this : Nat} {p0 : Int32} {p1 : Int32} {p2 : Int32} {p3 : Int32} {h : eH} {q} (hf : fX3_readBox N rE rN this p0 p1 p2 p3 h = some q) : wm w d YX3_readBox [.ref this, .int p0, .int p1, .int p2, .int p3] h (e_is (e_rt c_V q)) := by
  obtain ⟨d, rfl⟩ : ∃ e, d = e + 1 := ⟨d - 1, by omega⟩
  show wp w (d + 1) YX3_readBox 0 [some (.ref this), some (.int p0), some (.int p1), some (.int p2), some (.int p3), none, none, none] [] h _
  unfold fX3_readBox at hf
  refine w_iload_n dX3_readBox_0 rfl rfl ?_
  refine w_bipush dX3_readBox_1 (v := 43) (by decide) ?_
  refine w_icmp_eq 12 dX3_readBox_3 (by decide) (fun c1 => ?_) (fun c1 => ?_)
  · replace hf := (if_pos (show p0 = (43 : Int32) from c1)).symm.trans hf
    exact (pX3_readBox_b12 hd hdr hrE hrN hf).to ⟨rfl, rfl, rfl, rfl, rfl, trivial⟩
  · replace hf := (if_neg (show ¬ (p0 = (43 : Int32)) from c1)).symm.trans hf
    refine w_iload_n dX3_readBox_6 rfl rfl ?_
    refine w_bipush dX3_readBox_7 (v := 44) (by decide) ?_
    refine w_icmp_ne 68 dX3_readBox_9 (by decide) (fun c2 => ?_) (fun c2 => ?_)
    · replace hf := (if_pos (show ¬ p0 = (44 : Int32) from c2)).symm.trans hf
      refine w_aload_n dX3_readBox_68 rfl rfl ?_
      obtain ⟨a3, b4, hf⟩ := Option.bind_eq_some_iff.mp hf
      refine GX3_14 b4 dX3_readBox_69 rfl ?_
      refine w_iload_n dX3_readBox_72 rfl rfl ?_
      refine w_bipush dX3_readBox_73 (v := 41) (by decide) ?_
      refine w_icmp_eq 84 dX3_readBox_75 (by decide) (fun c5 => ?_) (fun c5 => ?_)
      · replace hf := (if_pos (show p0 = (41 : Int32) from c5)).symm.trans hf
        exact (pX3_readBox_b84 hd hdr hrE hrN hf).to ⟨rfl, rfl, rfl, rfl, rfl, trivial⟩
      · replace hf := (if_neg (show ¬ (p0 = (41 : Int32)) from c5)).symm.trans hf
        refine w_iload_n dX3_readBox_78 rfl rfl ?_
        refine w_bipush dX3_readBox_79 (v := 42) (by decide) ?_
        refine w_icmp_ne 88 dX3_readBox_81 (by decide) (fun c6 => ?_) (fun c6 => ?_)
        · replace hf := (if_pos (show ¬ p0 = (42 : Int32) from c6)).symm.trans hf
          refine w_iconst dX3_readBox_88 (v := 0) (by decide) ?_
          exact (pX3_readBox_b89 hd hdr hrE hrN hf).to ⟨rfl, rfl, rfl, rfl, rfl, trivial⟩
        · replace hf := (if_neg (show ¬ (¬ p0 = (42 : Int32)) from (fun z => z c6))).symm.trans hf
          exact (pX3_readBox_b84 hd hdr hrE hrN hf).to ⟨rfl, rfl, rfl, rfl, rfl, trivial⟩
    · replace hf := (if_neg (show ¬ (¬ p0 = (44 : Int32)) from (fun z => z c2))).symm.trans hf
      exact (pX3_readBox_b12 hd hdr hrE hrN hf).to ⟨rfl, rfl, rfl, rfl, rfl, trivial⟩
abbrev cX8_set : ByteArray := prog_4_method_58_code
def yX8_set : MethodName := ⟨RX8, "set", "(IZ)V"⟩
def YX8_set : eY := (yX8_set, cX8_set, 4, none, [])
theorem mX8_set : e_mv YX8_set RX8 2 := ⟨q4000, qs205, q4001, by decide, by decide +kernel, (e_sig (by decide +kernel))⟩
theorem dX8_set_0 : decode cX8_set 0 = .ok (.iload_n 1, 1) := dc_27 (by decide +kernel)
theorem dX8_set_1 : decode cX8_set 1 = .ok (.invokestatic 354, 3) := dc_184 (a := 1) (b := 98) (n := 354) (by decide +kernel)
theorem dX8_set_4 : decode cX8_set 4 = .ok (.ifCond .eq 29, 3) := dc_153 (a := 0) (b := 29) (v := 29) (by decide +kernel)
theorem dX8_set_7 : decode cX8_set 7 = .ok (.aload_n 0, 1) := dc_42 (by decide +kernel)
theorem dX8_set_8 : decode cX8_set 8 = .ok (.iload_n 1, 1) := dc_27 (by decide +kernel)
theorem dX8_set_9 : decode cX8_set 9 = .ok (.invokevirtual 360, 3) := dc_182 (a := 1) (b := 104) (n := 360) (by decide +kernel)
theorem dX8_set_12 : decode cX8_set 12 = .ok (.istore_n 3, 1) := dc_62 (by decide +kernel)
theorem dX8_set_13 : decode cX8_set 13 = .ok (.aload_n 0, 1) := dc_42 (by decide +kernel)
theorem dX8_set_14 : decode cX8_set 14 = .ok (.invokevirtual 504, 3) := dc_182 (a := 1) (b := 248) (n := 504) (by decide +kernel)
theorem dX8_set_17 : decode cX8_set 17 = .ok (.aload_n 0, 1) := dc_42 (by decide +kernel)
theorem dX8_set_18 : decode cX8_set 18 = .ok (.getfield 12, 3) := dc_180 (a := 0) (b := 12) (n := 12) (by decide +kernel)
theorem dX8_set_21 : decode cX8_set 21 = .ok (.iload_n 3, 1) := dc_29 (by decide +kernel)
theorem dX8_set_22 : decode cX8_set 22 = .ok (.aload_n 0, 1) := dc_42 (by decide +kernel)
theorem dX8_set_23 : decode cX8_set 23 = .ok (.invokevirtual 225, 3) := dc_182 (a := 0) (b := 225) (n := 225) (by decide +kernel)
theorem dX8_set_26 : decode cX8_set 26 = .ok (.iload_n 2, 1) := dc_28 (by decide +kernel)
theorem dX8_set_27 : decode cX8_set 27 = .ok (.invokevirtual 507, 3) := dc_182 (a := 1) (b := 251) (n := 507) (by decide +kernel)
theorem dX8_set_30 : decode cX8_set 30 = .ok (.goto 56, 3) := dc_167 (a := 0) (b := 56) (v := 56) (by decide +kernel)
theorem dX8_set_33 : decode cX8_set 33 = .ok (.iload_n 1, 1) := dc_27 (by decide +kernel)
theorem dX8_set_34 : decode cX8_set 34 = .ok (.invokestatic 369, 3) := dc_184 (a := 1) (b := 113) (n := 369) (by decide +kernel)
theorem dX8_set_37 : decode cX8_set 37 = .ok (.ifCond .eq 29, 3) := dc_153 (a := 0) (b := 29) (v := 29) (by decide +kernel)
theorem dX8_set_40 : decode cX8_set 40 = .ok (.aload_n 0, 1) := dc_42 (by decide +kernel)
theorem dX8_set_41 : decode cX8_set 41 = .ok (.iload_n 1, 1) := dc_27 (by decide +kernel)
theorem dX8_set_42 : decode cX8_set 42 = .ok (.invokevirtual 360, 3) := dc_182 (a := 1) (b := 104) (n := 360) (by decide +kernel)
theorem dX8_set_45 : decode cX8_set 45 = .ok (.istore_n 3, 1) := dc_62 (by decide +kernel)
theorem dX8_set_46 : decode cX8_set 46 = .ok (.aload_n 0, 1) := dc_42 (by decide +kernel)
theorem dX8_set_47 : decode cX8_set 47 = .ok (.invokevirtual 504, 3) := dc_182 (a := 1) (b := 248) (n := 504) (by decide +kernel)
theorem dX8_set_50 : decode cX8_set 50 = .ok (.aload_n 0, 1) := dc_42 (by decide +kernel)
theorem dX8_set_51 : decode cX8_set 51 = .ok (.getfield 12, 3) := dc_180 (a := 0) (b := 12) (n := 12) (by decide +kernel)
theorem dX8_set_54 : decode cX8_set 54 = .ok (.iload_n 3, 1) := dc_29 (by decide +kernel)
theorem dX8_set_55 : decode cX8_set 55 = .ok (.aload_n 0, 1) := dc_42 (by decide +kernel)
theorem dX8_set_56 : decode cX8_set 56 = .ok (.invokevirtual 499, 3) := dc_182 (a := 1) (b := 243) (n := 499) (by decide +kernel)
theorem dX8_set_59 : decode cX8_set 59 = .ok (.iload_n 2, 1) := dc_28 (by decide +kernel)
theorem dX8_set_60 : decode cX8_set 60 = .ok (.invokevirtual 507, 3) := dc_182 (a := 1) (b := 251) (n := 507) (by decide +kernel)
theorem dX8_set_63 : decode cX8_set 63 = .ok (.goto 23, 3) := dc_167 (a := 0) (b := 23) (v := 23) (by decide +kernel)
theorem dX8_set_66 : decode cX8_set 66 = .ok (.aload_n 0, 1) := dc_42 (by decide +kernel)
theorem dX8_set_67 : decode cX8_set 67 = .ok (.iload_n 1, 1) := dc_27 (by decide +kernel)
theorem dX8_set_68 : decode cX8_set 68 = .ok (.invokevirtual 360, 3) := dc_182 (a := 1) (b := 104) (n := 360) (by decide +kernel)
theorem dX8_set_71 : decode cX8_set 71 = .ok (.istore_n 3, 1) := dc_62 (by decide +kernel)
theorem dX8_set_72 : decode cX8_set 72 = .ok (.aload_n 0, 1) := dc_42 (by decide +kernel)
theorem dX8_set_73 : decode cX8_set 73 = .ok (.invokevirtual 504, 3) := dc_182 (a := 1) (b := 248) (n := 504) (by decide +kernel)
theorem dX8_set_76 : decode cX8_set 76 = .ok (.aload_n 0, 1) := dc_42 (by decide +kernel)
theorem dX8_set_77 : decode cX8_set 77 = .ok (.invokevirtual 511, 3) := dc_182 (a := 1) (b := 255) (n := 511) (by decide +kernel)
theorem dX8_set_80 : decode cX8_set 80 = .ok (.aload_n 0, 1) := dc_42 (by decide +kernel)
theorem dX8_set_81 : decode cX8_set 81 = .ok (.iload_n 3, 1) := dc_29 (by decide +kernel)
theorem dX8_set_82 : decode cX8_set 82 = .ok (.iload_n 2, 1) := dc_28 (by decide +kernel)
theorem dX8_set_83 : decode cX8_set 83 = .ok (.invokevirtual 514, 3) := dc_182 (a := 2) (b := 2) (n := 514) (by decide +kernel)
theorem dX8_set_86 : decode cX8_set 86 = .ok (.return_, 1) := dc_177 (by decide +kernel)
def fX8_set_b86 (N : Nat) (rE : Nat → Int32 → eH → Option ((Unit ⊕ Nat) × eH)) (rN : Nat → eH → Option ((Int32 ⊕ Nat) × eH))  (h : eH) : Option ((Unit ⊕ Nat) × eH) :=
  some (.inl (), h)
theorem pX8_set_b86 {w : eW} {d : Nat} {dr : Nat} (hd : dr + 19 ≤ d + 1) (hdr : 12 ≤ dr) {N : Nat} {rE : Nat → Int32 → eH → Option ((Unit ⊕ Nat) × eH)} {rN : Nat → eH → Option ((Int32 ⊕ Nat) × eH)} (hrE : ∀ a t0 h q, rE a t0 h = some q → wm w dr YX8_expand [.ref a, .int t0] h (e_is (e_rt c_V q))) (hrN : ∀ a h q, rN a h = some q → wm w dr YX8_number [.ref a] h (e_is (e_rt c_I q)))  {h : eH} {q} (hf : fX8_set_b86 N rE rN h = some q) : wp w (d + 1) YX8_set 86 [none, none, none, none] [] h (e_is (e_rt c_V q)) := by
  unfold fX8_set_b86 at hf
  cases hf
  exact w_vret dX8_set_86 rfl rfl
def fX8_set (N : Nat) (rE : Nat → Int32 → eH → Option ((Unit ⊕ Nat) × eH)) (rN : Nat → eH → Option ((Int32 ⊕ Nat) × eH)) (this : Nat) (p0 : Int32) (p1 : Int32) (h : eH) : Option ((Unit ⊕ Nat) × eH) :=
  (fX8_isCounter p0 h).bind fun q1 =>
  if q1.1 = 0 then
    (fX8_isLength p0 q1.2).bind fun q3 =>
    if q3.1 = 0 then
      (k_ok 7 q3.2 this).bind fun _ =>
      t_B (fX8_cellOf rN this p0 q3.2) fun x6 h7 =>
      (k_ok 7 h7 this).bind fun _ =>
      t_B (fX8_equals N rE this h7) fun x9 h10 =>
      (k_ok 7 h10 this).bind fun _ =>
      t_B (fX8_glue N rE rN this h10) fun x12 h13 =>
      (k_ok 7 h13 this).bind fun _ =>
      (fX8_setGlue N this x6 p1 h13).bind fun q15 =>
      fX8_set_b86 N rE rN q15.2
    else
      (k_ok 7 q3.2 this).bind fun _ =>
      t_B (fX8_cellOf rN this p0 q3.2) fun x17 h18 =>
      (k_ok 7 h18 this).bind fun _ =>
      t_B (fX8_equals N rE this h18) fun x20 h21 =>
      (g_A 7 h21 this 4).bind fun a22 =>
      (k_ok 7 h21 this).bind fun _ =>
      t_B (fX8_dimension N rE rN this h21) fun x25 h26 =>
      (k_ok 8 h26 a22).bind fun _ =>
      (fX9_set N a22 x17 x25 p1 h26).bind fun q28 =>
      fX8_set_b86 N rE rN q28.2
  else
    (k_ok 7 q1.2 this).bind fun _ =>
    t_B (fX8_cellOf rN this p0 q1.2) fun x30 h31 =>
    (k_ok 7 h31 this).bind fun _ =>
    t_B (fX8_equals N rE this h31) fun x33 h34 =>
    (g_A 7 h34 this 4).bind fun a35 =>
    (k_ok 7 h34 this).bind fun _ =>
    t_B (rN this h34) fun x38 h39 =>
    (k_ok 8 h39 a35).bind fun _ =>
    (fX9_set N a35 x30 x38 p1 h39).bind fun q41 =>
    fX8_set_b86 N rE rN q41.2
theorem pX8_set {w : eW} {d : Nat} {dr : Nat} (hd : dr + 19 ≤ d) (hdr : 12 ≤ dr) {N : Nat} {rE : Nat → Int32 → eH → Option ((Unit ⊕ Nat) × eH)} {rN : Nat → eH → Option ((Int32 ⊕ Nat) × eH)} (hrE : ∀ a t0 h q, rE a t0 h = some q → wm w dr YX8_expand [.ref a, .int t0] h (e_is (e_rt c_V q))) (hrN : ∀ a h q, rN a h = some q → wm w dr YX8_number [.ref a] h (e_is (e_rt c_I q))) {this : Nat} {p0 : Int32} {p1 : Int32} {h : eH} {q} (hf : fX8_set N rE rN this p0 p1 h = some q) : wm w d YX8_set [.ref this, .int p0, .int p1] h (e_is (e_rt c_V q)) := by
  obtain ⟨d, rfl⟩ : ∃ e, d = e + 1 := ⟨d - 1, by omega⟩
  show wp w (d + 1) YX8_set 0 [some (.ref this), some (.int p0), some (.int p1), none] [] h _
  unfold fX8_set at hf
  refine w_iload_n dX8_set_0 rfl rfl ?_
  refine x_cnI hf (e_stS (Yc := YX8_isCounter) (av := [.int p0]) (st := []) dX8_set_1 q2646 mX8_isCounter) mX8_isCounter.2.2.1 mX8_isCounter.2.2.2.2.1 (Nat.le_of_ble_eq_true rfl) (Nat.le_of_ble_eq_true rfl) (fun q hq => pX8_isCounter (by omega) hq) (fun q1 hf => ?_)
  refine w_if_eq 33 dX8_set_4 (by decide) (fun c2 => ?_) (fun c2 => ?_)
  · replace hf := (if_pos (show q1.1 = 0 from c2)).symm.trans hf
    refine w_iload_n dX8_set_33 rfl rfl ?_
    refine x_cnI hf (e_stS (Yc := YX8_isLength) (av := [.int p0]) (st := []) dX8_set_34 q2619 mX8_isLength) mX8_isLength.2.2.1 mX8_isLength.2.2.2.2.1 (Nat.le_of_ble_eq_true rfl) (Nat.le_of_ble_eq_true rfl) (fun q hq => pX8_isLength (by omega) hq) (fun q3 hf => ?_)
    refine w_if_eq 66 dX8_set_37 (by decide) (fun c4 => ?_) (fun c4 => ?_)
    · replace hf := (if_pos (show q3.1 = 0 from c4)).symm.trans hf
      refine w_aload_n dX8_set_66 rfl rfl ?_
      refine w_iload_n dX8_set_67 rfl rfl ?_
      obtain ⟨_, b5, hf⟩ := Option.bind_eq_some_iff.mp hf
      refine x_ctI hf (e_stV (Yc := YX8_cellOf) (ci := 7) (av := [.int p0]) (st := []) dX8_set_68 q2629 mX8_cellOf rfl (k_ok_some b5).1 (k_ok_some b5).2) mX8_cellOf.2.2.1 mX8_cellOf.2.2.2.2.1 (Nat.le_of_ble_eq_true rfl) (Nat.le_of_ble_eq_true rfl) rfl (fun q hq => pX8_cellOf (by omega) hdr hrN hq) (fun x6 h7 hf => ?_)
      refine w_istore_n dX8_set_71 rfl (by decide) (ls' := [some (.ref this), some (.int p0), some (.int p1), some (.int x6)]) rfl ?_
      refine w_aload_n dX8_set_72 rfl rfl ?_
      obtain ⟨_, b8, hf⟩ := Option.bind_eq_some_iff.mp hf
      refine x_ctV hf (e_stV (Yc := YX8_equals) (ci := 7) (av := []) (st := []) dX8_set_73 q4002 mX8_equals rfl (k_ok_some b8).1 (k_ok_some b8).2) mX8_equals.2.2.1 mX8_equals.2.2.2.2.1 (Nat.le_of_ble_eq_true rfl) (Nat.le_of_ble_eq_true rfl) rfl (fun q hq => pX8_equals (by omega) hdr hrE hq) (fun x9 h10 hf => ?_)
      refine w_aload_n dX8_set_76 rfl rfl ?_
      obtain ⟨_, b11, hf⟩ := Option.bind_eq_some_iff.mp hf
      refine x_ctV hf (e_stV (Yc := YX8_glue) (ci := 7) (av := []) (st := []) dX8_set_77 q3963 mX8_glue rfl (k_ok_some b11).1 (k_ok_some b11).2) mX8_glue.2.2.1 mX8_glue.2.2.2.2.1 (Nat.le_of_ble_eq_true rfl) (Nat.le_of_ble_eq_true rfl) rfl (fun q hq => pX8_glue (by omega) hdr hrE hrN hq) (fun x12 h13 hf => ?_)
      refine w_aload_n dX8_set_80 rfl rfl ?_
      refine w_iload_n dX8_set_81 rfl rfl ?_
      refine w_iload_n dX8_set_82 rfl rfl ?_
      obtain ⟨_, b14, hf⟩ := Option.bind_eq_some_iff.mp hf
      refine x_cnV hf (e_stV (Yc := YX8_setGlue) (ci := 7) (av := [.int x6, .int p1]) (st := []) dX8_set_83 q3984 mX8_setGlue rfl (k_ok_some b14).1 (k_ok_some b14).2) mX8_setGlue.2.2.1 mX8_setGlue.2.2.2.2.1 (Nat.le_of_ble_eq_true rfl) (Nat.le_of_ble_eq_true rfl) (fun q hq => pX8_setGlue (by omega) hq) (fun q15 hf => ?_)
      exact (pX8_set_b86 hd hdr hrE hrN hf).to trivial
    · replace hf := (if_neg (show ¬ (q3.1 = 0) from c4)).symm.trans hf
      refine w_aload_n dX8_set_40 rfl rfl ?_
      refine w_iload_n dX8_set_41 rfl rfl ?_
      obtain ⟨_, b16, hf⟩ := Option.bind_eq_some_iff.mp hf
      refine x_ctI hf (e_stV (Yc := YX8_cellOf) (ci := 7) (av := [.int p0]) (st := []) dX8_set_42 q2629 mX8_cellOf rfl (k_ok_some b16).1 (k_ok_some b16).2) mX8_cellOf.2.2.1 mX8_cellOf.2.2.2.2.1 (Nat.le_of_ble_eq_true rfl) (Nat.le_of_ble_eq_true rfl) rfl (fun q hq => pX8_cellOf (by omega) hdr hrN hq) (fun x17 h18 hf => ?_)
      refine w_istore_n dX8_set_45 rfl (by decide) (ls' := [some (.ref this), some (.int p0), some (.int p1), some (.int x17)]) rfl ?_
      refine w_aload_n dX8_set_46 rfl rfl ?_
      obtain ⟨_, b19, hf⟩ := Option.bind_eq_some_iff.mp hf
      refine x_ctV hf (e_stV (Yc := YX8_equals) (ci := 7) (av := []) (st := []) dX8_set_47 q4002 mX8_equals rfl (k_ok_some b19).1 (k_ok_some b19).2) mX8_equals.2.2.1 mX8_equals.2.2.2.2.1 (Nat.le_of_ble_eq_true rfl) (Nat.le_of_ble_eq_true rfl) rfl (fun q hq => pX8_equals (by omega) hdr hrE hq) (fun x20 h21 hf => ?_)
      refine w_aload_n dX8_set_50 rfl rfl ?_
      obtain ⟨a22, b23, hf⟩ := Option.bind_eq_some_iff.mp hf
      refine GX8_12 b23 dX8_set_51 rfl ?_
      refine w_iload_n dX8_set_54 rfl rfl ?_
      refine w_aload_n dX8_set_55 rfl rfl ?_
      obtain ⟨_, b24, hf⟩ := Option.bind_eq_some_iff.mp hf
      refine x_ctI hf (e_stV (Yc := YX8_dimension) (ci := 7) (av := []) (st := [.int x17, .ref a22]) dX8_set_56 q2710 mX8_dimension rfl (k_ok_some b24).1 (k_ok_some b24).2) mX8_dimension.2.2.1 mX8_dimension.2.2.2.2.1 (Nat.le_of_ble_eq_true rfl) (Nat.le_of_ble_eq_true rfl) rfl (fun q hq => pX8_dimension (by omega) hdr hrE hrN hq) (fun x25 h26 hf => ?_)
      refine w_iload_n dX8_set_59 rfl rfl ?_
      obtain ⟨_, b27, hf⟩ := Option.bind_eq_some_iff.mp hf
      refine x_cnV hf (e_stV (Yc := YX9_set) (ci := 8) (av := [.int x17, .int x25, .int p1]) (st := []) dX8_set_60 q3962 mX9_set rfl (k_ok_some b27).1 (k_ok_some b27).2) mX9_set.2.2.1 mX9_set.2.2.2.2.1 (Nat.le_of_ble_eq_true rfl) (Nat.le_of_ble_eq_true rfl) (fun q hq => pX9_set (by omega) hq) (fun q28 hf => ?_)
      refine w_goto 86 dX8_set_63 (by decide) ?_
      exact (pX8_set_b86 hd hdr hrE hrN hf).to trivial
  · replace hf := (if_neg (show ¬ (q1.1 = 0) from c2)).symm.trans hf
    refine w_aload_n dX8_set_7 rfl rfl ?_
    refine w_iload_n dX8_set_8 rfl rfl ?_
    obtain ⟨_, b29, hf⟩ := Option.bind_eq_some_iff.mp hf
    refine x_ctI hf (e_stV (Yc := YX8_cellOf) (ci := 7) (av := [.int p0]) (st := []) dX8_set_9 q2629 mX8_cellOf rfl (k_ok_some b29).1 (k_ok_some b29).2) mX8_cellOf.2.2.1 mX8_cellOf.2.2.2.2.1 (Nat.le_of_ble_eq_true rfl) (Nat.le_of_ble_eq_true rfl) rfl (fun q hq => pX8_cellOf (by omega) hdr hrN hq) (fun x30 h31 hf => ?_)
    refine w_istore_n dX8_set_12 rfl (by decide) (ls' := [some (.ref this), some (.int p0), some (.int p1), some (.int x30)]) rfl ?_
    refine w_aload_n dX8_set_13 rfl rfl ?_
    obtain ⟨_, b32, hf⟩ := Option.bind_eq_some_iff.mp hf
    refine x_ctV hf (e_stV (Yc := YX8_equals) (ci := 7) (av := []) (st := []) dX8_set_14 q4002 mX8_equals rfl (k_ok_some b32).1 (k_ok_some b32).2) mX8_equals.2.2.1 mX8_equals.2.2.2.2.1 (Nat.le_of_ble_eq_true rfl) (Nat.le_of_ble_eq_true rfl) rfl (fun q hq => pX8_equals (by omega) hdr hrE hq) (fun x33 h34 hf => ?_)
    refine w_aload_n dX8_set_17 rfl rfl ?_
    obtain ⟨a35, b36, hf⟩ := Option.bind_eq_some_iff.mp hf
    refine GX8_12 b36 dX8_set_18 rfl ?_
    refine w_iload_n dX8_set_21 rfl rfl ?_
    refine w_aload_n dX8_set_22 rfl rfl ?_
    obtain ⟨_, b37, hf⟩ := Option.bind_eq_some_iff.mp hf
    refine x_ctI hf (e_stV (Yc := YX8_number) (ci := 7) (av := []) (st := [.int x30, .ref a35]) dX8_set_23 q2590 mX8_number rfl (k_ok_some b37).1 (k_ok_some b37).2) mX8_number.2.2.1 mX8_number.2.2.2.2.1 (Nat.le_of_ble_eq_true rfl) (Nat.le_of_ble_eq_true rfl) rfl (fun q hq => (hrN _ _ _ hq).up (by omega)) (fun x38 h39 hf => ?_)
    refine w_iload_n dX8_set_26 rfl rfl ?_
    obtain ⟨_, b40, hf⟩ := Option.bind_eq_some_iff.mp hf
    refine x_cnV hf (e_stV (Yc := YX9_set) (ci := 8) (av := [.int x30, .int x38, .int p1]) (st := []) dX8_set_27 q3962 mX9_set rfl (k_ok_some b40).1 (k_ok_some b40).2) mX9_set.2.2.1 mX9_set.2.2.2.2.1 (Nat.le_of_ble_eq_true rfl) (Nat.le_of_ble_eq_true rfl) (fun q hq => pX9_set (by omega) hq) (fun q41 hf => ?_)
    refine w_goto 86 dX8_set_30 (by decide) ?_
    exact (pX8_set_b86 hd hdr hrE hrN hf).to trivial
abbrev cX12_open : ByteArray := prog_14_method_2_code
def yX12_open : MethodName := ⟨RX12, "open", "()V"⟩
def YX12_open : eY := (yX12_open, cX12_open, 1, none, [])
theorem mX12_open : e_mv YX12_open RX12 0 := ⟨q4008, q4009, q4010, by decide, by decide +kernel, (e_sig (by decide +kernel))⟩
theorem dX12_open_0 : decode cX12_open 0 = .ok (.aload_n 0, 1) := dc_42 (by decide +kernel)
theorem dX12_open_1 : decode cX12_open 1 = .ok (.getfield 27, 3) := dc_180 (a := 0) (b := 27) (n := 27) (by decide +kernel)
theorem dX12_open_4 : decode cX12_open 4 = .ok (.aload_n 0, 1) := dc_42 (by decide +kernel)
theorem dX12_open_5 : decode cX12_open 5 = .ok (.getfield 31, 3) := dc_180 (a := 0) (b := 31) (n := 31) (by decide +kernel)
theorem dX12_open_8 : decode cX12_open 8 = .ok (.aload_n 0, 1) := dc_42 (by decide +kernel)
theorem dX12_open_9 : decode cX12_open 9 = .ok (.getfield 35, 3) := dc_180 (a := 0) (b := 35) (n := 35) (by decide +kernel)
theorem dX12_open_12 : decode cX12_open 12 = .ok (.iadd, 1) := dc_96 (by decide +kernel)
theorem dX12_open_13 : decode cX12_open 13 = .ok (.sipush 10000, 3) := dc_17 (a := 39) (b := 16) (v := 10000) (by decide +kernel)
theorem dX12_open_16 : decode cX12_open 16 = .ok (.if_icmp .ge 7, 3) := dc_162 (a := 0) (b := 7) (v := 7) (by decide +kernel)
theorem dX12_open_19 : decode cX12_open 19 = .ok (.iconst 1, 1) := dc_4 (by decide +kernel)
theorem dX12_open_20 : decode cX12_open 20 = .ok (.goto 4, 3) := dc_167 (a := 0) (b := 4) (v := 4) (by decide +kernel)
theorem dX12_open_23 : decode cX12_open 23 = .ok (.iconst 0, 1) := dc_3 (by decide +kernel)
theorem dX12_open_24 : decode cX12_open 24 = .ok (.iconst 2, 1) := dc_5 (by decide +kernel)
theorem dX12_open_25 : decode cX12_open 25 = .ok (.invokevirtual 38, 3) := dc_182 (a := 0) (b := 38) (n := 38) (by decide +kernel)
theorem dX12_open_28 : decode cX12_open 28 = .ok (.aload_n 0, 1) := dc_42 (by decide +kernel)
theorem dX12_open_29 : decode cX12_open 29 = .ok (.aload_n 0, 1) := dc_42 (by decide +kernel)
theorem dX12_open_30 : decode cX12_open 30 = .ok (.getfield 15, 3) := dc_180 (a := 0) (b := 15) (n := 15) (by decide +kernel)
theorem dX12_open_33 : decode cX12_open 33 = .ok (.aload_n 0, 1) := dc_42 (by decide +kernel)
theorem dX12_open_34 : decode cX12_open 34 = .ok (.getfield 35, 3) := dc_180 (a := 0) (b := 35) (n := 35) (by decide +kernel)
theorem dX12_open_37 : decode cX12_open 37 = .ok (.iconst 1, 1) := dc_4 (by decide +kernel)
theorem dX12_open_38 : decode cX12_open 38 = .ok (.iadd, 1) := dc_96 (by decide +kernel)
theorem dX12_open_39 : decode cX12_open 39 = .ok (.invokestatic 44, 3) := dc_184 (a := 0) (b := 44) (n := 44) (by decide +kernel)
theorem dX12_open_42 : decode cX12_open 42 = .ok (.putfield 15, 3) := dc_181 (a := 0) (b := 15) (n := 15) (by decide +kernel)
theorem dX12_open_45 : decode cX12_open 45 = .ok (.aload_n 0, 1) := dc_42 (by decide +kernel)
theorem dX12_open_46 : decode cX12_open 46 = .ok (.aload_n 0, 1) := dc_42 (by decide +kernel)
theorem dX12_open_47 : decode cX12_open 47 = .ok (.getfield 18, 3) := dc_180 (a := 0) (b := 18) (n := 18) (by decide +kernel)
theorem dX12_open_50 : decode cX12_open 50 = .ok (.aload_n 0, 1) := dc_42 (by decide +kernel)
theorem dX12_open_51 : decode cX12_open 51 = .ok (.getfield 35, 3) := dc_180 (a := 0) (b := 35) (n := 35) (by decide +kernel)
theorem dX12_open_54 : decode cX12_open 54 = .ok (.iconst 1, 1) := dc_4 (by decide +kernel)
theorem dX12_open_55 : decode cX12_open 55 = .ok (.iadd, 1) := dc_96 (by decide +kernel)
theorem dX12_open_56 : decode cX12_open 56 = .ok (.invokestatic 44, 3) := dc_184 (a := 0) (b := 44) (n := 44) (by decide +kernel)
theorem dX12_open_59 : decode cX12_open 59 = .ok (.putfield 18, 3) := dc_181 (a := 0) (b := 18) (n := 18) (by decide +kernel)
theorem dX12_open_62 : decode cX12_open 62 = .ok (.aload_n 0, 1) := dc_42 (by decide +kernel)
theorem dX12_open_63 : decode cX12_open 63 = .ok (.aload_n 0, 1) := dc_42 (by decide +kernel)
theorem dX12_open_64 : decode cX12_open 64 = .ok (.getfield 21, 3) := dc_180 (a := 0) (b := 21) (n := 21) (by decide +kernel)
theorem dX12_open_67 : decode cX12_open 67 = .ok (.aload_n 0, 1) := dc_42 (by decide +kernel)
theorem dX12_open_68 : decode cX12_open 68 = .ok (.getfield 35, 3) := dc_180 (a := 0) (b := 35) (n := 35) (by decide +kernel)
theorem dX12_open_71 : decode cX12_open 71 = .ok (.iconst 1, 1) := dc_4 (by decide +kernel)
theorem dX12_open_72 : decode cX12_open 72 = .ok (.iadd, 1) := dc_96 (by decide +kernel)
theorem dX12_open_73 : decode cX12_open 73 = .ok (.invokestatic 44, 3) := dc_184 (a := 0) (b := 44) (n := 44) (by decide +kernel)
theorem dX12_open_76 : decode cX12_open 76 = .ok (.putfield 21, 3) := dc_181 (a := 0) (b := 21) (n := 21) (by decide +kernel)
theorem dX12_open_79 : decode cX12_open 79 = .ok (.aload_n 0, 1) := dc_42 (by decide +kernel)
theorem dX12_open_80 : decode cX12_open 80 = .ok (.aload_n 0, 1) := dc_42 (by decide +kernel)
theorem dX12_open_81 : decode cX12_open 81 = .ok (.getfield 24, 3) := dc_180 (a := 0) (b := 24) (n := 24) (by decide +kernel)
theorem dX12_open_84 : decode cX12_open 84 = .ok (.aload_n 0, 1) := dc_42 (by decide +kernel)
theorem dX12_open_85 : decode cX12_open 85 = .ok (.getfield 35, 3) := dc_180 (a := 0) (b := 35) (n := 35) (by decide +kernel)
theorem dX12_open_88 : decode cX12_open 88 = .ok (.iconst 1, 1) := dc_4 (by decide +kernel)
theorem dX12_open_89 : decode cX12_open 89 = .ok (.iadd, 1) := dc_96 (by decide +kernel)
theorem dX12_open_90 : decode cX12_open 90 = .ok (.invokestatic 44, 3) := dc_184 (a := 0) (b := 44) (n := 44) (by decide +kernel)
theorem dX12_open_93 : decode cX12_open 93 = .ok (.putfield 24, 3) := dc_181 (a := 0) (b := 24) (n := 24) (by decide +kernel)
theorem dX12_open_96 : decode cX12_open 96 = .ok (.aload_n 0, 1) := dc_42 (by decide +kernel)
theorem dX12_open_97 : decode cX12_open 97 = .ok (.getfield 15, 3) := dc_180 (a := 0) (b := 15) (n := 15) (by decide +kernel)
theorem dX12_open_100 : decode cX12_open 100 = .ok (.aload_n 0, 1) := dc_42 (by decide +kernel)
theorem dX12_open_101 : decode cX12_open 101 = .ok (.getfield 35, 3) := dc_180 (a := 0) (b := 35) (n := 35) (by decide +kernel)
theorem dX12_open_104 : decode cX12_open 104 = .ok (.aload_n 0, 1) := dc_42 (by decide +kernel)
theorem dX12_open_105 : decode cX12_open 105 = .ok (.getfield 31, 3) := dc_180 (a := 0) (b := 31) (n := 31) (by decide +kernel)
theorem dX12_open_108 : decode cX12_open 108 = .ok (.iastore, 1) := dc_79 (by decide +kernel)
theorem dX12_open_109 : decode cX12_open 109 = .ok (.return_, 1) := dc_177 (by decide +kernel)
theorem GX12_15 {w : eW} {d : Nat} {Y : eY} {pc : Nat} {ls : eL} {st : List Value} {h : eH} {Q : eO → eH → Prop} {a : Nat} {x : Nat} (hf : g_A 11 h a 3 = some x) (hd : decode Y.2.1 pc = .ok (.getfield 15, 3)) (hY : Y.1.cls = RX12) (kk : wp w d Y (pc + 3) ls (.ref x :: st) h Q) : wp w d Y pc ls (.ref a :: st) h Q := x_gA (ci := 11) (k := 3) hf hd rfl (by decide) (by rw [hY]; exact q783) kk
theorem GX12_18 {w : eW} {d : Nat} {Y : eY} {pc : Nat} {ls : eL} {st : List Value} {h : eH} {Q : eO → eH → Prop} {a : Nat} {x : Nat} (hf : g_A 11 h a 4 = some x) (hd : decode Y.2.1 pc = .ok (.getfield 18, 3)) (hY : Y.1.cls = RX12) (kk : wp w d Y (pc + 3) ls (.ref x :: st) h Q) : wp w d Y pc ls (.ref a :: st) h Q := x_gA (ci := 11) (k := 4) hf hd rfl (by decide) (by rw [hY]; exact q785) kk
theorem GX12_21 {w : eW} {d : Nat} {Y : eY} {pc : Nat} {ls : eL} {st : List Value} {h : eH} {Q : eO → eH → Prop} {a : Nat} {x : Nat} (hf : g_A 11 h a 5 = some x) (hd : decode Y.2.1 pc = .ok (.getfield 21, 3)) (hY : Y.1.cls = RX12) (kk : wp w d Y (pc + 3) ls (.ref x :: st) h Q) : wp w d Y pc ls (.ref a :: st) h Q := x_gA (ci := 11) (k := 5) hf hd rfl (by decide) (by rw [hY]; exact q788) kk
theorem GX12_24 {w : eW} {d : Nat} {Y : eY} {pc : Nat} {ls : eL} {st : List Value} {h : eH} {Q : eO → eH → Prop} {a : Nat} {x : Nat} (hf : g_A 11 h a 6 = some x) (hd : decode Y.2.1 pc = .ok (.getfield 24, 3)) (hY : Y.1.cls = RX12) (kk : wp w d Y (pc + 3) ls (.ref x :: st) h Q) : wp w d Y pc ls (.ref a :: st) h Q := x_gA (ci := 11) (k := 6) hf hd rfl (by decide) (by rw [hY]; exact q790) kk
theorem GX12_27 {w : eW} {d : Nat} {Y : eY} {pc : Nat} {ls : eL} {st : List Value} {h : eH} {Q : eO → eH → Prop} {a : Nat} {x : Nat} (hf : g_A 11 h a 0 = some x) (hd : decode Y.2.1 pc = .ok (.getfield 27, 3)) (hY : Y.1.cls = RX12) (kk : wp w d Y (pc + 3) ls (.ref x :: st) h Q) : wp w d Y pc ls (.ref a :: st) h Q := x_gA (ci := 11) (k := 0) hf hd rfl (by decide) (by rw [hY]; exact q777) kk
theorem GX12_31 {w : eW} {d : Nat} {Y : eY} {pc : Nat} {ls : eL} {st : List Value} {h : eH} {Q : eO → eH → Prop} {a : Nat} {x : Int32} (hf : g_I 11 h a 2 = some x) (hd : decode Y.2.1 pc = .ok (.getfield 31, 3)) (hY : Y.1.cls = RX12) (kk : wp w d Y (pc + 3) ls (.int x :: st) h Q) : wp w d Y pc ls (.ref a :: st) h Q := x_gI (ci := 11) (k := 2) hf hd rfl (by decide) (by rw [hY]; exact q781) kk
theorem GX12_35 {w : eW} {d : Nat} {Y : eY} {pc : Nat} {ls : eL} {st : List Value} {h : eH} {Q : eO → eH → Prop} {a : Nat} {x : Int32} (hf : g_I 11 h a 7 = some x) (hd : decode Y.2.1 pc = .ok (.getfield 35, 3)) (hY : Y.1.cls = RX12) (kk : wp w d Y (pc + 3) ls (.int x :: st) h Q) : wp w d Y pc ls (.ref a :: st) h Q := x_gI (ci := 11) (k := 7) hf hd rfl (by decide) (by rw [hY]; exact q792) kk
def fX12_open_b24 (l0 : Nat) (s0 : Nat) (s1 : Int32) (h : eH) : Option ((Unit ⊕ Nat) × eH) :=
  (k_ok 3 h s0).bind fun _ =>
  t_B (fX4_want s0 s1 (2 : Int32) h) fun x2 h3 =>
  (g_A 11 h3 l0 3).bind fun a4 =>
  (g_I 11 h3 l0 7).bind fun x6 =>
  (fX1_grown a4 (x6 + (1 : Int32)) h3).bind fun q8 =>
  (p_V 11 q8.2 l0 3 (.ref q8.1)).bind fun h9 =>
  (g_A 11 h9 l0 4).bind fun a11 =>
  (g_I 11 h9 l0 7).bind fun x13 =>
  (fX1_grown a11 (x13 + (1 : Int32)) h9).bind fun q15 =>
  (p_V 11 q15.2 l0 4 (.ref q15.1)).bind fun h16 =>
  (g_A 11 h16 l0 5).bind fun a18 =>
  (g_I 11 h16 l0 7).bind fun x20 =>
  (fX1_grown a18 (x20 + (1 : Int32)) h16).bind fun q22 =>
  (p_V 11 q22.2 l0 5 (.ref q22.1)).bind fun h23 =>
  (g_A 11 h23 l0 6).bind fun a25 =>
  (g_I 11 h23 l0 7).bind fun x27 =>
  (fX1_grown a25 (x27 + (1 : Int32)) h23).bind fun q29 =>
  (p_V 11 q29.2 l0 6 (.ref q29.1)).bind fun h30 =>
  (g_A 11 h30 l0 3).bind fun a32 =>
  (g_I 11 h30 l0 7).bind fun x34 =>
  (g_I 11 h30 l0 2).bind fun x36 =>
  (q_V 100 h30 a32 x34 (.int x36)).bind fun h38 =>
  some (.inl (), h38)
theorem pX12_open_b24 {w : eW} {d : Nat} (hd : 8 ≤ d + 1) {l0 : Nat} {s0 : Nat} {s1 : Int32} {h : eH} {q} (hf : fX12_open_b24 l0 s0 s1 h = some q) : wp w (d + 1) YX12_open 24 [some (.ref l0)] [.int s1, .ref s0] h (e_is (e_rt c_V q)) := by
  unfold fX12_open_b24 at hf
  refine w_iconst dX12_open_24 (v := 2) (by decide) ?_
  obtain ⟨_, b1, hf⟩ := Option.bind_eq_some_iff.mp hf
  refine x_ctV hf (e_stV (Yc := YX4_want) (ci := 3) (av := [.int s1, .int (2 : Int32)]) (st := []) dX12_open_25 q4011 mX4_want rfl (k_ok_some b1).1 (k_ok_some b1).2) mX4_want.2.2.1 mX4_want.2.2.2.2.1 (Nat.le_of_ble_eq_true rfl) (Nat.le_of_ble_eq_true rfl) rfl (fun q hq => pX4_want (by omega) hq) (fun x2 h3 hf => ?_)
  refine w_aload_n dX12_open_28 rfl rfl ?_
  refine w_aload_n dX12_open_29 rfl rfl ?_
  obtain ⟨a4, b5, hf⟩ := Option.bind_eq_some_iff.mp hf
  refine GX12_15 b5 dX12_open_30 rfl ?_
  refine w_aload_n dX12_open_33 rfl rfl ?_
  obtain ⟨x6, b7, hf⟩ := Option.bind_eq_some_iff.mp hf
  refine GX12_35 b7 dX12_open_34 rfl ?_
  refine w_iconst dX12_open_37 (v := 1) (by decide) ?_
  refine w_iadd dX12_open_38 ?_
  refine x_cnA hf (e_stSN (Yc := YX1_grown) (av := [.ref a4, .int (x6 + (1 : Int32))]) (st := [.ref l0]) dX12_open_39 q4012 mX1_grown) mX1_grown.2.2.1 mX1_grown.2.2.2.2.1 (Nat.le_of_ble_eq_true rfl) (Nat.le_of_ble_eq_true rfl) (fun q hq => pX1_grown (by omega) hq) (fun q8 hf => ?_)
  obtain ⟨h9, b10, hf⟩ := Option.bind_eq_some_iff.mp hf
  refine SX12_15 b10 dX12_open_42 rfl ?_
  refine w_aload_n dX12_open_45 rfl rfl ?_
  refine w_aload_n dX12_open_46 rfl rfl ?_
  obtain ⟨a11, b12, hf⟩ := Option.bind_eq_some_iff.mp hf
  refine GX12_18 b12 dX12_open_47 rfl ?_
  refine w_aload_n dX12_open_50 rfl rfl ?_
  obtain ⟨x13, b14, hf⟩ := Option.bind_eq_some_iff.mp hf
  refine GX12_35 b14 dX12_open_51 rfl ?_
  refine w_iconst dX12_open_54 (v := 1) (by decide) ?_
  refine w_iadd dX12_open_55 ?_
  refine x_cnA hf (e_stSN (Yc := YX1_grown) (av := [.ref a11, .int (x13 + (1 : Int32))]) (st := [.ref l0]) dX12_open_56 q4012 mX1_grown) mX1_grown.2.2.1 mX1_grown.2.2.2.2.1 (Nat.le_of_ble_eq_true rfl) (Nat.le_of_ble_eq_true rfl) (fun q hq => pX1_grown (by omega) hq) (fun q15 hf => ?_)
  obtain ⟨h16, b17, hf⟩ := Option.bind_eq_some_iff.mp hf
  refine SX12_18 b17 dX12_open_59 rfl ?_
  refine w_aload_n dX12_open_62 rfl rfl ?_
  refine w_aload_n dX12_open_63 rfl rfl ?_
  obtain ⟨a18, b19, hf⟩ := Option.bind_eq_some_iff.mp hf
  refine GX12_21 b19 dX12_open_64 rfl ?_
  refine w_aload_n dX12_open_67 rfl rfl ?_
  obtain ⟨x20, b21, hf⟩ := Option.bind_eq_some_iff.mp hf
  refine GX12_35 b21 dX12_open_68 rfl ?_
  refine w_iconst dX12_open_71 (v := 1) (by decide) ?_
  refine w_iadd dX12_open_72 ?_
  refine x_cnA hf (e_stSN (Yc := YX1_grown) (av := [.ref a18, .int (x20 + (1 : Int32))]) (st := [.ref l0]) dX12_open_73 q4012 mX1_grown) mX1_grown.2.2.1 mX1_grown.2.2.2.2.1 (Nat.le_of_ble_eq_true rfl) (Nat.le_of_ble_eq_true rfl) (fun q hq => pX1_grown (by omega) hq) (fun q22 hf => ?_)
  obtain ⟨h23, b24, hf⟩ := Option.bind_eq_some_iff.mp hf
  refine SX12_21 b24 dX12_open_76 rfl ?_
  refine w_aload_n dX12_open_79 rfl rfl ?_
  refine w_aload_n dX12_open_80 rfl rfl ?_
  obtain ⟨a25, b26, hf⟩ := Option.bind_eq_some_iff.mp hf
  refine GX12_24 b26 dX12_open_81 rfl ?_
  refine w_aload_n dX12_open_84 rfl rfl ?_
  obtain ⟨x27, b28, hf⟩ := Option.bind_eq_some_iff.mp hf
  refine GX12_35 b28 dX12_open_85 rfl ?_
  refine w_iconst dX12_open_88 (v := 1) (by decide) ?_
  refine w_iadd dX12_open_89 ?_
  refine x_cnA hf (e_stSN (Yc := YX1_grown) (av := [.ref a25, .int (x27 + (1 : Int32))]) (st := [.ref l0]) dX12_open_90 q4012 mX1_grown) mX1_grown.2.2.1 mX1_grown.2.2.2.2.1 (Nat.le_of_ble_eq_true rfl) (Nat.le_of_ble_eq_true rfl) (fun q hq => pX1_grown (by omega) hq) (fun q29 hf => ?_)
  obtain ⟨h30, b31, hf⟩ := Option.bind_eq_some_iff.mp hf
  refine SX12_24 b31 dX12_open_93 rfl ?_
  refine w_aload_n dX12_open_96 rfl rfl ?_
  obtain ⟨a32, b33, hf⟩ := Option.bind_eq_some_iff.mp hf
  refine GX12_15 b33 dX12_open_97 rfl ?_
  refine w_aload_n dX12_open_100 rfl rfl ?_
  obtain ⟨x34, b35, hf⟩ := Option.bind_eq_some_iff.mp hf
  refine GX12_35 b35 dX12_open_101 rfl ?_
  refine w_aload_n dX12_open_104 rfl rfl ?_
  obtain ⟨x36, b37, hf⟩ := Option.bind_eq_some_iff.mp hf
  refine GX12_31 b37 dX12_open_105 rfl ?_
  obtain ⟨h38, b39, hf⟩ := Option.bind_eq_some_iff.mp hf
  refine x_qI b39 dX12_open_108 ?_
  cases hf
  exact w_vret dX12_open_109 rfl rfl
def fX12_open (this : Nat) (h : eH) : Option ((Unit ⊕ Nat) × eH) :=
  (g_A 11 h this 0).bind fun a1 =>
  (g_I 11 h this 2).bind fun x3 =>
  (g_I 11 h this 7).bind fun x5 =>
  if (10000 : Int32) ≤ (x3 + x5) then
    fX12_open_b24 this a1 (0 : Int32) h
  else
    fX12_open_b24 this a1 (1 : Int32) h
theorem pX12_open {w : eW} {d : Nat} (hd : 8 ≤ d) {this : Nat} {h : eH} {q} (hf : fX12_open this h = some q) : wm w d YX12_open [.ref this] h (e_is (e_rt c_V q)) := by
  obtain ⟨d, rfl⟩ : ∃ e, d = e + 1 := ⟨d - 1, by omega⟩
  show wp w (d + 1) YX12_open 0 [some (.ref this)] [] h _
  unfold fX12_open at hf
  refine w_aload_n dX12_open_0 rfl rfl ?_
  obtain ⟨a1, b2, hf⟩ := Option.bind_eq_some_iff.mp hf
  refine GX12_27 b2 dX12_open_1 rfl ?_
  refine w_aload_n dX12_open_4 rfl rfl ?_
  obtain ⟨x3, b4, hf⟩ := Option.bind_eq_some_iff.mp hf
  refine GX12_31 b4 dX12_open_5 rfl ?_
  refine w_aload_n dX12_open_8 rfl rfl ?_
  obtain ⟨x5, b6, hf⟩ := Option.bind_eq_some_iff.mp hf
  refine GX12_35 b6 dX12_open_9 rfl ?_
  refine w_iadd dX12_open_12 ?_
  refine w_sipush dX12_open_13 (v := 10000) (by decide) ?_
  refine w_icmp_ge 23 dX12_open_16 (by decide) (fun c7 => ?_) (fun c7 => ?_)
  · replace hf := (if_pos (show (10000 : Int32) ≤ (x3 + x5) from c7)).symm.trans hf
    refine w_iconst dX12_open_23 (v := 0) (by decide) ?_
    exact (pX12_open_b24 hd hf).to ⟨rfl, trivial⟩
  · replace hf := (if_neg (show ¬ ((10000 : Int32) ≤ (x3 + x5)) from c7)).symm.trans hf
    refine w_iconst dX12_open_19 (v := 1) (by decide) ?_
    refine w_goto 24 dX12_open_20 (by decide) ?_
    exact (pX12_open_b24 hd hf).to ⟨rfl, trivial⟩
abbrev cX12_add : ByteArray := prog_14_method_3_code
def yX12_add : MethodName := ⟨RX12, "add", "(I)V"⟩
def YX12_add : eY := (yX12_add, cX12_add, 2, none, [])
theorem mX12_add : e_mv YX12_add RX12 1 := ⟨q4014, q4015, q4016, by decide, by decide +kernel, (e_sig (by decide +kernel))⟩
theorem dX12_add_0 : decode cX12_add 0 = .ok (.aload_n 0, 1) := dc_42 (by decide +kernel)
theorem dX12_add_1 : decode cX12_add 1 = .ok (.getfield 27, 3) := dc_180 (a := 0) (b := 27) (n := 27) (by decide +kernel)
theorem dX12_add_4 : decode cX12_add 4 = .ok (.aload_n 0, 1) := dc_42 (by decide +kernel)
theorem dX12_add_5 : decode cX12_add 5 = .ok (.getfield 31, 3) := dc_180 (a := 0) (b := 31) (n := 31) (by decide +kernel)
theorem dX12_add_8 : decode cX12_add 8 = .ok (.aload_n 0, 1) := dc_42 (by decide +kernel)
theorem dX12_add_9 : decode cX12_add 9 = .ok (.getfield 35, 3) := dc_180 (a := 0) (b := 35) (n := 35) (by decide +kernel)
theorem dX12_add_12 : decode cX12_add 12 = .ok (.iadd, 1) := dc_96 (by decide +kernel)
theorem dX12_add_13 : decode cX12_add 13 = .ok (.iconst 1, 1) := dc_4 (by decide +kernel)
theorem dX12_add_14 : decode cX12_add 14 = .ok (.iadd, 1) := dc_96 (by decide +kernel)
theorem dX12_add_15 : decode cX12_add 15 = .ok (.sipush 10000, 3) := dc_17 (a := 39) (b := 16) (v := 10000) (by decide +kernel)
theorem dX12_add_18 : decode cX12_add 18 = .ok (.if_icmp .ge 7, 3) := dc_162 (a := 0) (b := 7) (v := 7) (by decide +kernel)
theorem dX12_add_21 : decode cX12_add 21 = .ok (.iconst 1, 1) := dc_4 (by decide +kernel)
theorem dX12_add_22 : decode cX12_add 22 = .ok (.goto 4, 3) := dc_167 (a := 0) (b := 4) (v := 4) (by decide +kernel)
theorem dX12_add_25 : decode cX12_add 25 = .ok (.iconst 0, 1) := dc_3 (by decide +kernel)
theorem dX12_add_26 : decode cX12_add 26 = .ok (.iconst 2, 1) := dc_5 (by decide +kernel)
theorem dX12_add_27 : decode cX12_add 27 = .ok (.invokevirtual 38, 3) := dc_182 (a := 0) (b := 38) (n := 38) (by decide +kernel)
theorem dX12_add_30 : decode cX12_add 30 = .ok (.aload_n 0, 1) := dc_42 (by decide +kernel)
theorem dX12_add_31 : decode cX12_add 31 = .ok (.getfield 9, 3) := dc_180 (a := 0) (b := 9) (n := 9) (by decide +kernel)
theorem dX12_add_34 : decode cX12_add 34 = .ok (.aload_n 0, 1) := dc_42 (by decide +kernel)
theorem dX12_add_35 : decode cX12_add 35 = .ok (.dup, 1) := dc_89 (by decide +kernel)
theorem dX12_add_36 : decode cX12_add 36 = .ok (.getfield 31, 3) := dc_180 (a := 0) (b := 31) (n := 31) (by decide +kernel)
theorem dX12_add_39 : decode cX12_add 39 = .ok (.dup_x1, 1) := dc_90 (by decide +kernel)
theorem dX12_add_40 : decode cX12_add 40 = .ok (.iconst 1, 1) := dc_4 (by decide +kernel)
theorem dX12_add_41 : decode cX12_add 41 = .ok (.iadd, 1) := dc_96 (by decide +kernel)
theorem dX12_add_42 : decode cX12_add 42 = .ok (.putfield 31, 3) := dc_181 (a := 0) (b := 31) (n := 31) (by decide +kernel)
theorem dX12_add_45 : decode cX12_add 45 = .ok (.iload_n 1, 1) := dc_27 (by decide +kernel)
theorem dX12_add_46 : decode cX12_add 46 = .ok (.iastore, 1) := dc_79 (by decide +kernel)
theorem dX12_add_47 : decode cX12_add 47 = .ok (.return_, 1) := dc_177 (by decide +kernel)
theorem GX12_9 {w : eW} {d : Nat} {Y : eY} {pc : Nat} {ls : eL} {st : List Value} {h : eH} {Q : eO → eH → Prop} {a : Nat} {x : Nat} (hf : g_A 11 h a 1 = some x) (hd : decode Y.2.1 pc = .ok (.getfield 9, 3)) (hY : Y.1.cls = RX12) (kk : wp w d Y (pc + 3) ls (.ref x :: st) h Q) : wp w d Y pc ls (.ref a :: st) h Q := x_gA (ci := 11) (k := 1) hf hd rfl (by decide) (by rw [hY]; exact q778) kk
theorem SX12_31 {w : eW} {d : Nat} {Y : eY} {pc : Nat} {ls : eL} {st : List Value} {h : eH} {Q : eO → eH → Prop} {a : Nat} {h' : eH} {x : Int32} (hf : p_V 11 h a 2 (.int x) = some h') (hd : decode Y.2.1 pc = .ok (.putfield 31, 3)) (hY : Y.1.cls = RX12) (kk : wp w d Y (pc + 3) ls st h' Q) : wp w d Y pc ls (.int x :: .ref a :: st) h Q := x_pI (ci := 11) (k := 2) hf hd rfl (by decide) (by rw [hY]; exact q781) rfl rfl kk
def fX12_add_b26 (l0 : Nat) (l1 : Int32) (s0 : Nat) (s1 : Int32) (h : eH) : Option ((Unit ⊕ Nat) × eH) :=
  (k_ok 3 h s0).bind fun _ =>
  t_B (fX4_want s0 s1 (2 : Int32) h) fun x2 h3 =>
  (g_A 11 h3 l0 1).bind fun a4 =>
  (g_I 11 h3 l0 2).bind fun x6 =>
  (p_V 11 h3 l0 2 (.int (x6 + (1 : Int32)))).bind fun h8 =>
  (q_V 100 h8 a4 x6 (.int l1)).bind fun h10 =>
  some (.inl (), h10)
theorem pX12_add_b26 {w : eW} {d : Nat} (hd : 8 ≤ d + 1) {l0 : Nat} {l1 : Int32} {s0 : Nat} {s1 : Int32} {h : eH} {q} (hf : fX12_add_b26 l0 l1 s0 s1 h = some q) : wp w (d + 1) YX12_add 26 [some (.ref l0), some (.int l1)] [.int s1, .ref s0] h (e_is (e_rt c_V q)) := by
  unfold fX12_add_b26 at hf
  refine w_iconst dX12_add_26 (v := 2) (by decide) ?_
  obtain ⟨_, b1, hf⟩ := Option.bind_eq_some_iff.mp hf
  refine x_ctV hf (e_stV (Yc := YX4_want) (ci := 3) (av := [.int s1, .int (2 : Int32)]) (st := []) dX12_add_27 q4011 mX4_want rfl (k_ok_some b1).1 (k_ok_some b1).2) mX4_want.2.2.1 mX4_want.2.2.2.2.1 (Nat.le_of_ble_eq_true rfl) (Nat.le_of_ble_eq_true rfl) rfl (fun q hq => pX4_want (by omega) hq) (fun x2 h3 hf => ?_)
  refine w_aload_n dX12_add_30 rfl rfl ?_
  obtain ⟨a4, b5, hf⟩ := Option.bind_eq_some_iff.mp hf
  refine GX12_9 b5 dX12_add_31 rfl ?_
  refine w_aload_n dX12_add_34 rfl rfl ?_
  refine w_dup dX12_add_35 rfl ?_
  obtain ⟨x6, b7, hf⟩ := Option.bind_eq_some_iff.mp hf
  refine GX12_31 b7 dX12_add_36 rfl ?_
  refine w_dup_x1 dX12_add_39 rfl rfl ?_
  refine w_iconst dX12_add_40 (v := 1) (by decide) ?_
  refine w_iadd dX12_add_41 ?_
  obtain ⟨h8, b9, hf⟩ := Option.bind_eq_some_iff.mp hf
  refine SX12_31 b9 dX12_add_42 rfl ?_
  refine w_iload_n dX12_add_45 rfl rfl ?_
  obtain ⟨h10, b11, hf⟩ := Option.bind_eq_some_iff.mp hf
  refine x_qI b11 dX12_add_46 ?_
  cases hf
  exact w_vret dX12_add_47 rfl rfl
def fX12_add (this : Nat) (p0 : Int32) (h : eH) : Option ((Unit ⊕ Nat) × eH) :=
  (g_A 11 h this 0).bind fun a1 =>
  (g_I 11 h this 2).bind fun x3 =>
  (g_I 11 h this 7).bind fun x5 =>
  if (10000 : Int32) ≤ ((x3 + x5) + (1 : Int32)) then
    fX12_add_b26 this p0 a1 (0 : Int32) h
  else
    fX12_add_b26 this p0 a1 (1 : Int32) h
theorem pX12_add {w : eW} {d : Nat} (hd : 8 ≤ d) {this : Nat} {p0 : Int32} {h : eH} {q} (hf : fX12_add this p0 h = some q) : wm w d YX12_add [.ref this, .int p0] h (e_is (e_rt c_V q)) := by
  obtain ⟨d, rfl⟩ : ∃ e, d = e + 1 := ⟨d - 1, by omega⟩
  show wp w (d + 1) YX12_add 0 [some (.ref this), some (.int p0)] [] h _
  unfold fX12_add at hf
  refine w_aload_n dX12_add_0 rfl rfl ?_
  obtain ⟨a1, b2, hf⟩ := Option.bind_eq_some_iff.mp hf
  refine GX12_27 b2 dX12_add_1 rfl ?_
  refine w_aload_n dX12_add_4 rfl rfl ?_
  obtain ⟨x3, b4, hf⟩ := Option.bind_eq_some_iff.mp hf
  refine GX12_31 b4 dX12_add_5 rfl ?_
  refine w_aload_n dX12_add_8 rfl rfl ?_
  obtain ⟨x5, b6, hf⟩ := Option.bind_eq_some_iff.mp hf
  refine GX12_35 b6 dX12_add_9 rfl ?_
  refine w_iadd dX12_add_12 ?_
  refine w_iconst dX12_add_13 (v := 1) (by decide) ?_
  refine w_iadd dX12_add_14 ?_
  refine w_sipush dX12_add_15 (v := 10000) (by decide) ?_
  refine w_icmp_ge 25 dX12_add_18 (by decide) (fun c7 => ?_) (fun c7 => ?_)
  · replace hf := (if_pos (show (10000 : Int32) ≤ ((x3 + x5) + (1 : Int32)) from c7)).symm.trans hf
    refine w_iconst dX12_add_25 (v := 0) (by decide) ?_
    exact (pX12_add_b26 hd hf).to ⟨rfl, rfl, trivial⟩
  · replace hf := (if_neg (show ¬ ((10000 : Int32) ≤ ((x3 + x5) + (1 : Int32))) from c7)).symm.trans hf
    refine w_iconst dX12_add_21 (v := 1) (by decide) ?_
    refine w_goto 26 dX12_add_22 (by decide) ?_
    exact (pX12_add_b26 hd hf).to ⟨rfl, rfl, trivial⟩
abbrev cX12_body : ByteArray := prog_14_method_4_code
def yX12_body : MethodName := ⟨RX12, "body", "(I)V"⟩
def YX12_body : eY := (yX12_body, cX12_body, 2, none, [])
theorem mX12_body : e_mv YX12_body RX12 1 := ⟨q4018, q4019, q4020, by decide, by decide +kernel, (e_sig (by decide +kernel))⟩
theorem dX12_body_0 : decode cX12_body 0 = .ok (.aload_n 0, 1) := dc_42 (by decide +kernel)
theorem dX12_body_1 : decode cX12_body 1 = .ok (.getfield 24, 3) := dc_180 (a := 0) (b := 24) (n := 24) (by decide +kernel)
theorem dX12_body_4 : decode cX12_body 4 = .ok (.aload_n 0, 1) := dc_42 (by decide +kernel)
theorem dX12_body_5 : decode cX12_body 5 = .ok (.getfield 35, 3) := dc_180 (a := 0) (b := 35) (n := 35) (by decide +kernel)
theorem dX12_body_8 : decode cX12_body 8 = .ok (.iload_n 1, 1) := dc_27 (by decide +kernel)
theorem dX12_body_9 : decode cX12_body 9 = .ok (.iastore, 1) := dc_79 (by decide +kernel)
theorem dX12_body_10 : decode cX12_body 10 = .ok (.aload_n 0, 1) := dc_42 (by decide +kernel)
theorem dX12_body_11 : decode cX12_body 11 = .ok (.getfield 18, 3) := dc_180 (a := 0) (b := 18) (n := 18) (by decide +kernel)
theorem dX12_body_14 : decode cX12_body 14 = .ok (.aload_n 0, 1) := dc_42 (by decide +kernel)
theorem dX12_body_15 : decode cX12_body 15 = .ok (.getfield 35, 3) := dc_180 (a := 0) (b := 35) (n := 35) (by decide +kernel)
theorem dX12_body_18 : decode cX12_body 18 = .ok (.aload_n 0, 1) := dc_42 (by decide +kernel)
theorem dX12_body_19 : decode cX12_body 19 = .ok (.getfield 31, 3) := dc_180 (a := 0) (b := 31) (n := 31) (by decide +kernel)
theorem dX12_body_22 : decode cX12_body 22 = .ok (.iastore, 1) := dc_79 (by decide +kernel)
theorem dX12_body_23 : decode cX12_body 23 = .ok (.return_, 1) := dc_177 (by decide +kernel)
def fX12_body (this : Nat) (p0 : Int32) (h : eH) : Option (Unit × eH) :=
  (g_A 11 h this 6).bind fun a1 =>
  (g_I 11 h this 7).bind fun x3 =>
  (q_V 100 h a1 x3 (.int p0)).bind fun h5 =>
  (g_A 11 h5 this 4).bind fun a7 =>
  (g_I 11 h5 this 7).bind fun x9 =>
  (g_I 11 h5 this 2).bind fun x11 =>
  (q_V 100 h5 a7 x9 (.int x11)).bind fun h13 =>
  some ((), h13)
theorem pX12_body {w : eW} {d : Nat} (hd : 0 ≤ d) {this : Nat} {p0 : Int32} {h : eH} {q} (hf : fX12_body this p0 h = some q) : wm w d YX12_body [.ref this, .int p0] h (e_is (e_rn c_V q)) := by
  show wp w d YX12_body 0 [some (.ref this), some (.int p0)] [] h _
  unfold fX12_body at hf
  refine w_aload_n dX12_body_0 rfl rfl ?_
  obtain ⟨a1, b2, hf⟩ := Option.bind_eq_some_iff.mp hf
  refine GX12_24 b2 dX12_body_1 rfl ?_
  refine w_aload_n dX12_body_4 rfl rfl ?_
  obtain ⟨x3, b4, hf⟩ := Option.bind_eq_some_iff.mp hf
  refine GX12_35 b4 dX12_body_5 rfl ?_
  refine w_iload_n dX12_body_8 rfl rfl ?_
  obtain ⟨h5, b6, hf⟩ := Option.bind_eq_some_iff.mp hf
  refine x_qI b6 dX12_body_9 ?_
  refine w_aload_n dX12_body_10 rfl rfl ?_
  obtain ⟨a7, b8, hf⟩ := Option.bind_eq_some_iff.mp hf
  refine GX12_18 b8 dX12_body_11 rfl ?_
  refine w_aload_n dX12_body_14 rfl rfl ?_
  obtain ⟨x9, b10, hf⟩ := Option.bind_eq_some_iff.mp hf
  refine GX12_35 b10 dX12_body_15 rfl ?_
  refine w_aload_n dX12_body_18 rfl rfl ?_
  obtain ⟨x11, b12, hf⟩ := Option.bind_eq_some_iff.mp hf
  refine GX12_31 b12 dX12_body_19 rfl ?_
  obtain ⟨h13, b14, hf⟩ := Option.bind_eq_some_iff.mp hf
  refine x_qI b14 dX12_body_22 ?_
  cases hf
  exact w_vret dX12_body_23 rfl rfl
abbrev cX8_next : ByteArray := prog_4_method_76_code
def yX8_next : MethodName := ⟨RX8, "next", "(Z)I"⟩
def YX8_next : eY := (yX8_next, cX8_next, 2, (Option.some FieldType.int), [])
theorem mX8_next : e_mv YX8_next RX8 1 := ⟨q4027, qs208, q4028, by decide, by decide +kernel, (e_sig (by decide +kernel))⟩
theorem dX8_next_0 : decode cX8_next 0 = .ok (.iload_n 1, 1) := dc_27 (by decide +kernel)
theorem dX8_next_1 : decode cX8_next 1 = .ok (.ifCond .eq 10, 3) := dc_153 (a := 0) (b := 10) (v := 10) (by decide +kernel)
theorem dX8_next_4 : decode cX8_next 4 = .ok (.aload_n 0, 1) := dc_42 (by decide +kernel)
theorem dX8_next_5 : decode cX8_next 5 = .ok (.invokevirtual 190, 3) := dc_182 (a := 0) (b := 190) (n := 190) (by decide +kernel)
theorem dX8_next_8 : decode cX8_next 8 = .ok (.goto 7, 3) := dc_167 (a := 0) (b := 7) (v := 7) (by decide +kernel)
theorem dX8_next_11 : decode cX8_next 11 = .ok (.aload_n 0, 1) := dc_42 (by decide +kernel)
theorem dX8_next_12 : decode cX8_next 12 = .ok (.invokevirtual 213, 3) := dc_182 (a := 0) (b := 213) (n := 213) (by decide +kernel)
theorem dX8_next_15 : decode cX8_next 15 = .ok (.ireturn, 1) := dc_172 (by decide +kernel)
def fX8_next_b15 (N : Nat) (rE : Nat → Int32 → eH → Option ((Unit ⊕ Nat) × eH)) (s0 : Int32) (h : eH) : Option ((Int32 ⊕ Nat) × eH) :=
  some (.inl s0, h)
theorem pX8_next_b15 {w : eW} {d : Nat} {dr : Nat} (hd : dr + 15 ≤ d + 1) (hdr : 12 ≤ dr) {N : Nat} {rE : Nat → Int32 → eH → Option ((Unit ⊕ Nat) × eH)} (hrE : ∀ a t0 h q, rE a t0 h = some q → wm w dr YX8_expand [.ref a, .int t0] h (e_is (e_rt c_V q))) {s0 : Int32} {h : eH} {q} (hf : fX8_next_b15 N rE s0 h = some q) : wp w (d + 1) YX8_next 15 [none, none] [.int s0] h (e_is (e_rt c_I q)) := by
  unfold fX8_next_b15 at hf
  cases hf
  exact w_iret dX8_next_15 rfl rfl rfl
def fX8_next (N : Nat) (rE : Nat → Int32 → eH → Option ((Unit ⊕ Nat) × eH)) (this : Nat) (p0 : Int32) (h : eH) : Option ((Int32 ⊕ Nat) × eH) :=
  if p0 = 0 then
    (k_ok 7 h this).bind fun _ =>
    t_B (fX8_need N this h) fun x3 h4 =>
    fX8_next_b15 N rE x3 h4
  else
    (k_ok 7 h this).bind fun _ =>
    t_B (fX8_needExpanded N rE this h) fun x6 h7 =>
    fX8_next_b15 N rE x6 h7
theorem pX8_next {w : eW} {d : Nat} {dr : Nat} (hd : dr + 15 ≤ d) (hdr : 12 ≤ dr) {N : Nat} {rE : Nat → Int32 → eH → Option ((Unit ⊕ Nat) × eH)} (hrE : ∀ a t0 h q, rE a t0 h = some q → wm w dr YX8_expand [.ref a, .int t0] h (e_is (e_rt c_V q))) {this : Nat} {p0 : Int32} {h : eH} {q} (hf : fX8_next N rE this p0 h = some q) : wm w d YX8_next [.ref this, .int p0] h (e_is (e_rt c_I q)) := by
  obtain ⟨d, rfl⟩ : ∃ e, d = e + 1 := ⟨d - 1, by omega⟩
  show wp w (d + 1) YX8_next 0 [some (.ref this), some (.int p0)] [] h _
  unfold fX8_next at hf
  refine w_iload_n dX8_next_0 rfl rfl ?_
  refine w_if_eq 11 dX8_next_1 (by decide) (fun c1 => ?_) (fun c1 => ?_)
  · replace hf := (if_pos (show p0 = 0 from c1)).symm.trans hf
    refine w_aload_n dX8_next_11 rfl rfl ?_
    obtain ⟨_, b2, hf⟩ := Option.bind_eq_some_iff.mp hf
    refine x_ctI hf (e_stV (Yc := YX8_need) (ci := 7) (av := []) (st := []) dX8_next_12 q2506 mX8_need rfl (k_ok_some b2).1 (k_ok_some b2).2) mX8_need.2.2.1 mX8_need.2.2.2.2.1 (Nat.le_of_ble_eq_true rfl) (Nat.le_of_ble_eq_true rfl) rfl (fun q hq => pX8_need (by omega) hq) (fun x3 h4 hf => ?_)
    exact (pX8_next_b15 hd hdr hrE hf).to trivial
  · replace hf := (if_neg (show ¬ (p0 = 0) from c1)).symm.trans hf
    refine w_aload_n dX8_next_4 rfl rfl ?_
    obtain ⟨_, b5, hf⟩ := Option.bind_eq_some_iff.mp hf
    refine x_ctI hf (e_stV (Yc := YX8_needExpanded) (ci := 7) (av := []) (st := []) dX8_next_5 q2563 mX8_needExpanded rfl (k_ok_some b5).1 (k_ok_some b5).2) mX8_needExpanded.2.2.1 mX8_needExpanded.2.2.2.2.1 (Nat.le_of_ble_eq_true rfl) (Nat.le_of_ble_eq_true rfl) rfl (fun q hq => pX8_needExpanded (by omega) hdr hrE hq) (fun x6 h7 hf => ?_)
    refine w_goto 15 dX8_next_8 (by decide) ?_
    exact (pX8_next_b15 hd hdr hrE hf).to trivial
abbrev cX8_readBody : ByteArray := prog_4_method_77_code
def yX8_readBody : MethodName := ⟨RX8, "readBody", "(ZI)V"⟩
def YX8_readBody : eY := (yX8_readBody, cX8_readBody, 7, none, [])
theorem mX8_readBody : e_mv YX8_readBody RX8 2 := ⟨q4023, qs207, q4024, by decide, by decide +kernel, (e_sig (by decide +kernel))⟩
theorem dX8_readBody_0 : decode cX8_readBody 0 = .ok (.iconst 1, 1) := dc_4 (by decide +kernel)
theorem dX8_readBody_1 : decode cX8_readBody 1 = .ok (.istore_n 3, 1) := dc_62 (by decide +kernel)
theorem dX8_readBody_2 : decode cX8_readBody 2 = .ok (.iload_n 3, 1) := dc_29 (by decide +kernel)
theorem dX8_readBody_3 : decode cX8_readBody 3 = .ok (.ifCond .le 168, 3) := dc_158 (a := 0) (b := 168) (v := 168) (by decide +kernel)
theorem dX8_readBody_6 : decode cX8_readBody 6 = .ok (.aload_n 0, 1) := dc_42 (by decide +kernel)
theorem dX8_readBody_7 : decode cX8_readBody 7 = .ok (.iload_n 1, 1) := dc_27 (by decide +kernel)
theorem dX8_readBody_8 : decode cX8_readBody 8 = .ok (.invokevirtual 577, 3) := dc_182 (a := 2) (b := 65) (n := 577) (by decide +kernel)
theorem dX8_readBody_11 : decode cX8_readBody 11 = .ok (.istore 4, 2) := dc_54 (a := 4) (by decide +kernel)
theorem dX8_readBody_13 : decode cX8_readBody 13 = .ok (.iload_n 3, 1) := dc_29 (by decide +kernel)
theorem dX8_readBody_14 : decode cX8_readBody 14 = .ok (.iload 4, 2) := dc_21 (a := 4) (by decide +kernel)
theorem dX8_readBody_16 : decode cX8_readBody 16 = .ok (.iconst 1, 1) := dc_4 (by decide +kernel)
theorem dX8_readBody_17 : decode cX8_readBody 17 = .ok (.invokestatic 193, 3) := dc_184 (a := 0) (b := 193) (n := 193) (by decide +kernel)
theorem dX8_readBody_20 : decode cX8_readBody 20 = .ok (.ifCond .eq 7, 3) := dc_153 (a := 0) (b := 7) (v := 7) (by decide +kernel)
theorem dX8_readBody_23 : decode cX8_readBody 23 = .ok (.iconst 1, 1) := dc_4 (by decide +kernel)
theorem dX8_readBody_24 : decode cX8_readBody 24 = .ok (.goto 17, 3) := dc_167 (a := 0) (b := 17) (v := 17) (by decide +kernel)
theorem dX8_readBody_27 : decode cX8_readBody 27 = .ok (.iload 4, 2) := dc_21 (a := 4) (by decide +kernel)
theorem dX8_readBody_29 : decode cX8_readBody 29 = .ok (.iconst 2, 1) := dc_5 (by decide +kernel)
theorem dX8_readBody_30 : decode cX8_readBody 30 = .ok (.invokestatic 193, 3) := dc_184 (a := 0) (b := 193) (n := 193) (by decide +kernel)
theorem dX8_readBody_33 : decode cX8_readBody 33 = .ok (.ifCond .eq 7, 3) := dc_153 (a := 0) (b := 7) (v := 7) (by decide +kernel)
theorem dX8_readBody_36 : decode cX8_readBody 36 = .ok (.iconst (-1), 1) := dc_2 (by decide +kernel)
theorem dX8_readBody_37 : decode cX8_readBody 37 = .ok (.goto 4, 3) := dc_167 (a := 0) (b := 4) (v := 4) (by decide +kernel)
theorem dX8_readBody_40 : decode cX8_readBody 40 = .ok (.iconst 0, 1) := dc_3 (by decide +kernel)
theorem dX8_readBody_41 : decode cX8_readBody 41 = .ok (.iadd, 1) := dc_96 (by decide +kernel)
theorem dX8_readBody_42 : decode cX8_readBody 42 = .ok (.istore_n 3, 1) := dc_62 (by decide +kernel)
theorem dX8_readBody_43 : decode cX8_readBody 43 = .ok (.iload 4, 2) := dc_21 (a := 4) (by decide +kernel)
theorem dX8_readBody_45 : decode cX8_readBody 45 = .ok (.bipush 6, 2) := dc_16 (a := 6) (v := 6) (by decide +kernel)
theorem dX8_readBody_47 : decode cX8_readBody 47 = .ok (.invokestatic 193, 3) := dc_184 (a := 0) (b := 193) (n := 193) (by decide +kernel)
theorem dX8_readBody_50 : decode cX8_readBody 50 = .ok (.ifCond .eq 102, 3) := dc_153 (a := 0) (b := 102) (v := 102) (by decide +kernel)
theorem dX8_readBody_53 : decode cX8_readBody 53 = .ok (.aload_n 0, 1) := dc_42 (by decide +kernel)
theorem dX8_readBody_54 : decode cX8_readBody 54 = .ok (.iload_n 1, 1) := dc_27 (by decide +kernel)
theorem dX8_readBody_55 : decode cX8_readBody 55 = .ok (.invokevirtual 577, 3) := dc_182 (a := 2) (b := 65) (n := 577) (by decide +kernel)
theorem dX8_readBody_58 : decode cX8_readBody 58 = .ok (.istore 5, 2) := dc_54 (a := 5) (by decide +kernel)
theorem dX8_readBody_60 : decode cX8_readBody 60 = .ok (.iload 5, 2) := dc_21 (a := 5) (by decide +kernel)
theorem dX8_readBody_62 : decode cX8_readBody 62 = .ok (.invokestatic 338, 3) := dc_184 (a := 1) (b := 82) (n := 338) (by decide +kernel)
theorem dX8_readBody_65 : decode cX8_readBody 65 = .ok (.ifCond .eq 24, 3) := dc_153 (a := 0) (b := 24) (v := 24) (by decide +kernel)
theorem dX8_readBody_68 : decode cX8_readBody 68 = .ok (.iload 5, 2) := dc_21 (a := 5) (by decide +kernel)
theorem dX8_readBody_70 : decode cX8_readBody 70 = .ok (.bipush 15, 2) := dc_16 (a := 15) (v := 15) (by decide +kernel)
theorem dX8_readBody_72 : decode cX8_readBody 72 = .ok (.iand, 1) := dc_126 (by decide +kernel)
theorem dX8_readBody_73 : decode cX8_readBody 73 = .ok (.ifCond .le 16, 3) := dc_158 (a := 0) (b := 16) (v := 16) (by decide +kernel)
theorem dX8_readBody_76 : decode cX8_readBody 76 = .ok (.iload 5, 2) := dc_21 (a := 5) (by decide +kernel)
theorem dX8_readBody_78 : decode cX8_readBody 78 = .ok (.bipush 15, 2) := dc_16 (a := 15) (v := 15) (by decide +kernel)
theorem dX8_readBody_80 : decode cX8_readBody 80 = .ok (.iand, 1) := dc_126 (by decide +kernel)
theorem dX8_readBody_81 : decode cX8_readBody 81 = .ok (.iload_n 2, 1) := dc_28 (by decide +kernel)
theorem dX8_readBody_82 : decode cX8_readBody 82 = .ok (.if_icmp .gt 7, 3) := dc_163 (a := 0) (b := 7) (v := 7) (by decide +kernel)
theorem dX8_readBody_85 : decode cX8_readBody 85 = .ok (.iconst 1, 1) := dc_4 (by decide +kernel)
theorem dX8_readBody_86 : decode cX8_readBody 86 = .ok (.goto 4, 3) := dc_167 (a := 0) (b := 4) (v := 4) (by decide +kernel)
theorem dX8_readBody_89 : decode cX8_readBody 89 = .ok (.iconst 0, 1) := dc_3 (by decide +kernel)
theorem dX8_readBody_90 : decode cX8_readBody 90 = .ok (.istore 6, 2) := dc_54 (a := 6) (by decide +kernel)
theorem dX8_readBody_92 : decode cX8_readBody 92 = .ok (.aload_n 0, 1) := dc_42 (by decide +kernel)
theorem dX8_readBody_93 : decode cX8_readBody 93 = .ok (.getfield 51, 3) := dc_180 (a := 0) (b := 51) (n := 51) (by decide +kernel)
theorem dX8_readBody_96 : decode cX8_readBody 96 = .ok (.iload 6, 2) := dc_21 (a := 6) (by decide +kernel)
theorem dX8_readBody_98 : decode cX8_readBody 98 = .ok (.ifCond .ne 13, 3) := dc_154 (a := 0) (b := 13) (v := 13) (by decide +kernel)
theorem dX8_readBody_101 : decode cX8_readBody 101 = .ok (.iload 5, 2) := dc_21 (a := 5) (by decide +kernel)
theorem dX8_readBody_103 : decode cX8_readBody 103 = .ok (.bipush 6, 2) := dc_16 (a := 6) (v := 6) (by decide +kernel)
theorem dX8_readBody_105 : decode cX8_readBody 105 = .ok (.invokestatic 193, 3) := dc_184 (a := 0) (b := 193) (n := 193) (by decide +kernel)
theorem dX8_readBody_108 : decode cX8_readBody 108 = .ok (.ifCond .eq 7, 3) := dc_153 (a := 0) (b := 7) (v := 7) (by decide +kernel)
theorem dX8_readBody_111 : decode cX8_readBody 111 = .ok (.iconst 1, 1) := dc_4 (by decide +kernel)
theorem dX8_readBody_112 : decode cX8_readBody 112 = .ok (.goto 4, 3) := dc_167 (a := 0) (b := 4) (v := 4) (by decide +kernel)
theorem dX8_readBody_115 : decode cX8_readBody 115 = .ok (.iconst 0, 1) := dc_3 (by decide +kernel)
theorem dX8_readBody_116 : decode cX8_readBody 116 = .ok (.bipush 12, 2) := dc_16 (a := 12) (v := 12) (by decide +kernel)
theorem dX8_readBody_118 : decode cX8_readBody 118 = .ok (.invokevirtual 145, 3) := dc_182 (a := 0) (b := 145) (n := 145) (by decide +kernel)
theorem dX8_readBody_121 : decode cX8_readBody 121 = .ok (.aload_n 0, 1) := dc_42 (by decide +kernel)
theorem dX8_readBody_122 : decode cX8_readBody 122 = .ok (.getfield 84, 3) := dc_180 (a := 0) (b := 84) (n := 84) (by decide +kernel)
theorem dX8_readBody_125 : decode cX8_readBody 125 = .ok (.iload 6, 2) := dc_21 (a := 6) (by decide +kernel)
theorem dX8_readBody_127 : decode cX8_readBody 127 = .ok (.ifCond .eq 17, 3) := dc_153 (a := 0) (b := 17) (v := 17) (by decide +kernel)
theorem dX8_readBody_130 : decode cX8_readBody 130 = .ok (.ldc_w 307, 3) := dc_19 (a := 1) (b := 51) (n := 307) (by decide +kernel)
theorem dX8_readBody_133 : decode cX8_readBody 133 = .ok (.iload 5, 2) := dc_21 (a := 5) (by decide +kernel)
theorem dX8_readBody_135 : decode cX8_readBody 135 = .ok (.bipush 15, 2) := dc_16 (a := 15) (v := 15) (by decide +kernel)
theorem dX8_readBody_137 : decode cX8_readBody 137 = .ok (.iand, 1) := dc_126 (by decide +kernel)
theorem dX8_readBody_138 : decode cX8_readBody 138 = .ok (.iadd, 1) := dc_96 (by decide +kernel)
theorem dX8_readBody_139 : decode cX8_readBody 139 = .ok (.iconst 1, 1) := dc_4 (by decide +kernel)
theorem dX8_readBody_140 : decode cX8_readBody 140 = .ok (.isub, 1) := dc_100 (by decide +kernel)
theorem dX8_readBody_141 : decode cX8_readBody 141 = .ok (.goto 5, 3) := dc_167 (a := 0) (b := 5) (v := 5) (by decide +kernel)
theorem dX8_readBody_144 : decode cX8_readBody 144 = .ok (.iload 5, 2) := dc_21 (a := 5) (by decide +kernel)
theorem dX8_readBody_146 : decode cX8_readBody 146 = .ok (.invokevirtual 567, 3) := dc_182 (a := 2) (b := 55) (n := 567) (by decide +kernel)
theorem dX8_readBody_149 : decode cX8_readBody 149 = .ok (.goto 19, 3) := dc_167 (a := 0) (b := 19) (v := 19) (by decide +kernel)
theorem dX8_readBody_152 : decode cX8_readBody 152 = .ok (.iload_n 3, 1) := dc_29 (by decide +kernel)
theorem dX8_readBody_153 : decode cX8_readBody 153 = .ok (.ifCond .le 15, 3) := dc_158 (a := 0) (b := 15) (v := 15) (by decide +kernel)
theorem dX8_readBody_156 : decode cX8_readBody 156 = .ok (.aload_n 0, 1) := dc_42 (by decide +kernel)
theorem dX8_readBody_157 : decode cX8_readBody 157 = .ok (.getfield 84, 3) := dc_180 (a := 0) (b := 84) (n := 84) (by decide +kernel)
theorem dX8_readBody_160 : decode cX8_readBody 160 = .ok (.iload 4, 2) := dc_21 (a := 4) (by decide +kernel)
theorem dX8_readBody_162 : decode cX8_readBody 162 = .ok (.invokestatic 219, 3) := dc_184 (a := 0) (b := 219) (n := 219) (by decide +kernel)
theorem dX8_readBody_165 : decode cX8_readBody 165 = .ok (.invokevirtual 567, 3) := dc_182 (a := 2) (b := 55) (n := 567) (by decide +kernel)
theorem dX8_readBody_168 : decode cX8_readBody 168 = .ok (.goto (-166), 3) := dc_167 (a := 255) (b := 90) (v := -166) (by decide +kernel)
theorem dX8_readBody_171 : decode cX8_readBody 171 = .ok (.return_, 1) := dc_177 (by decide +kernel)
def fX8_readBody_b168 (N : Nat) (rE : Nat → Int32 → eH → Option ((Unit ⊕ Nat) × eH)) (k2 : Nat → Int32 → Int32 → Int32 → eH → Option ((Unit ⊕ Nat) × eH)) (l0 : Nat) (l1 : Int32) (l2 : Int32) (l3 : Int32) (h : eH) : Option ((Unit ⊕ Nat) × eH) :=
  k2 l0 l1 l2 l3 h
theorem pX8_readBody_b168 {w : eW} {d : Nat} {dr : Nat} (hd : dr + 16 ≤ d + 1) (hdr : 12 ≤ dr) {N : Nat} {rE : Nat → Int32 → eH → Option ((Unit ⊕ Nat) × eH)} (hrE : ∀ a t0 h q, rE a t0 h = some q → wm w dr YX8_expand [.ref a, .int t0] h (e_is (e_rt c_V q))) {k2 : Nat → Int32 → Int32 → Int32 → eH → Option ((Unit ⊕ Nat) × eH)} (hk2 : ∀ l0 l1 l2 l3 h q, k2 l0 l1 l2 l3 h = some q → wp w (d + 1) YX8_readBody 2 [some (.ref l0), some (.int l1), some (.int l2), some (.int l3), none, none, none] [] h (e_is (e_rt c_V q))) {l0 : Nat} {l1 : Int32} {l2 : Int32} {l3 : Int32} {h : eH} {q} (hf : fX8_readBody_b168 N rE k2 l0 l1 l2 l3 h = some q) : wp w (d + 1) YX8_readBody 168 [some (.ref l0), some (.int l1), some (.int l2), some (.int l3), none, none, none] [] h (e_is (e_rt c_V q)) := by
  unfold fX8_readBody_b168 at hf
  refine w_goto 2 dX8_readBody_168 (by decide) ?_
  exact (hk2 _ _ _ _ _ _ hf).to ⟨rfl, rfl, rfl, rfl, trivial⟩
def fX8_readBody_b146 (N : Nat) (rE : Nat → Int32 → eH → Option ((Unit ⊕ Nat) × eH)) (k2 : Nat → Int32 → Int32 → Int32 → eH → Option ((Unit ⊕ Nat) × eH)) (l0 : Nat) (l1 : Int32) (l2 : Int32) (l3 : Int32) (s0 : Nat) (s1 : Int32) (h : eH) : Option ((Unit ⊕ Nat) × eH) :=
  (k_ok 11 h s0).bind fun _ =>
  t_B (fX12_add s0 s1 h) fun x2 h3 =>
  fX8_readBody_b168 N rE k2 l0 l1 l2 l3 h3
theorem pX8_readBody_b146 {w : eW} {d : Nat} {dr : Nat} (hd : dr + 16 ≤ d + 1) (hdr : 12 ≤ dr) {N : Nat} {rE : Nat → Int32 → eH → Option ((Unit ⊕ Nat) × eH)} (hrE : ∀ a t0 h q, rE a t0 h = some q → wm w dr YX8_expand [.ref a, .int t0] h (e_is (e_rt c_V q))) {k2 : Nat → Int32 → Int32 → Int32 → eH → Option ((Unit ⊕ Nat) × eH)} (hk2 : ∀ l0 l1 l2 l3 h q, k2 l0 l1 l2 l3 h = some q → wp w (d + 1) YX8_readBody 2 [some (.ref l0), some (.int l1), some (.int l2), some (.int l3), none, none, none] [] h (e_is (e_rt c_V q))) {l0 : Nat} {l1 : Int32} {l2 : Int32} {l3 : Int32} {s0 : Nat} {s1 : Int32} {h : eH} {q} (hf : fX8_readBody_b146 N rE k2 l0 l1 l2 l3 s0 s1 h = some q) : wp w (d + 1) YX8_readBody 146 [some (.ref l0), some (.int l1), some (.int l2), some (.int l3), none, none, none] [.int s1, .ref s0] h (e_is (e_rt c_V q)) := by
  unfold fX8_readBody_b146 at hf
  obtain ⟨_, b1, hf⟩ := Option.bind_eq_some_iff.mp hf
  refine x_ctV hf (e_stV (Yc := YX12_add) (ci := 11) (av := [.int s1]) (st := []) dX8_readBody_146 q4013 mX12_add rfl (k_ok_some b1).1 (k_ok_some b1).2) mX12_add.2.2.1 mX12_add.2.2.2.2.1 (Nat.le_of_ble_eq_true rfl) (Nat.le_of_ble_eq_true rfl) rfl (fun q hq => pX12_add (by omega) hq) (fun x2 h3 hf => ?_)
  refine w_goto 168 dX8_readBody_149 (by decide) ?_
  exact (pX8_readBody_b168 hd hdr hrE hk2 hf).to ⟨rfl, rfl, rfl, rfl, trivial⟩
def fX8_readBody_b116 (N : Nat) (rE : Nat → Int32 → eH → Option ((Unit ⊕ Nat) × eH)) (k2 : Nat → Int32 → Int32 → Int32 → eH → Option ((Unit ⊕ Nat) × eH)) (l0 : Nat) (l1 : Int32) (l2 : Int32) (l3 : Int32) (l5 : Int32) (l6 : Int32) (s0 : Nat) (s1 : Int32) (h : eH) : Option ((Unit ⊕ Nat) × eH) :=
  (k_ok 3 h s0).bind fun _ =>
  t_B (fX4_want s0 s1 (12 : Int32) h) fun x2 h3 =>
  (g_A 7 h3 l0 6).bind fun a4 =>
  if l6 = 0 then
    fX8_readBody_b146 N rE k2 l0 l1 l2 l3 a4 l5 h3
  else
    fX8_readBody_b146 N rE k2 l0 l1 l2 l3 a4 (((262144 : Int32) + (l5 &&& (15 : Int32))) - (1 : Int32)) h3
theorem pX8_readBody_b116 {w : eW} {d : Nat} {dr : Nat} (hd : dr + 16 ≤ d + 1) (hdr : 12 ≤ dr) {N : Nat} {rE : Nat → Int32 → eH → Option ((Unit ⊕ Nat) × eH)} (hrE : ∀ a t0 h q, rE a t0 h = some q → wm w dr YX8_expand [.ref a, .int t0] h (e_is (e_rt c_V q))) {k2 : Nat → Int32 → Int32 → Int32 → eH → Option ((Unit ⊕ Nat) × eH)} (hk2 : ∀ l0 l1 l2 l3 h q, k2 l0 l1 l2 l3 h = some q → wp w (d + 1) YX8_readBody 2 [some (.ref l0), some (.int l1), some (.int l2), some (.int l3), none, none, none] [] h (e_is (e_rt c_V q))) {l0 : Nat} {l1 : Int32} {l2 : Int32} {l3 : Int32} {l5 : Int32} {l6 : Int32} {s0 : Nat} {s1 : Int32} {h : eH} {q} (hf : fX8_readBody_b116 N rE k2 l0 l1 l2 l3 l5 l6 s0 s1 h = some q) : wp w (d + 1) YX8_readBody 116 [some (.ref l0), some (.int l1), some (.int l2), some (.int l3), none, some (.int l5), some (.int l6)] [.int s1, .ref s0] h (e_is (e_rt c_V q)) := by
  unfold fX8_readBody_b116 at hf
  refine w_bipush dX8_readBody_116 (v := 12) (by decide) ?_
  obtain ⟨_, b1, hf⟩ := Option.bind_eq_some_iff.mp hf
  refine x_ctV hf (e_stV (Yc := YX4_want) (ci := 3) (av := [.int s1, .int (12 : Int32)]) (st := []) dX8_readBody_118 q2500 mX4_want rfl (k_ok_some b1).1 (k_ok_some b1).2) mX4_want.2.2.1 mX4_want.2.2.2.2.1 (Nat.le_of_ble_eq_true rfl) (Nat.le_of_ble_eq_true rfl) rfl (fun q hq => pX4_want (by omega) hq) (fun x2 h3 hf => ?_)
  refine w_aload_n dX8_readBody_121 rfl rfl ?_
  obtain ⟨a4, b5, hf⟩ := Option.bind_eq_some_iff.mp hf
  refine GX8_84 b5 dX8_readBody_122 rfl ?_
  refine w_iload dX8_readBody_125 rfl ?_
  refine w_if_eq 144 dX8_readBody_127 (by decide) (fun c6 => ?_) (fun c6 => ?_)
  · replace hf := (if_pos (show l6 = 0 from c6)).symm.trans hf
    refine w_iload dX8_readBody_144 rfl ?_
    exact (pX8_readBody_b146 hd hdr hrE hk2 hf).to ⟨rfl, rfl, rfl, rfl, trivial⟩
  · replace hf := (if_neg (show ¬ (l6 = 0) from c6)).symm.trans hf
    refine w_ldc_w dX8_readBody_130 q2505 ?_
    refine w_iload dX8_readBody_133 rfl ?_
    refine w_bipush dX8_readBody_135 (v := 15) (by decide) ?_
    refine w_iand dX8_readBody_137 ?_
    refine w_iadd dX8_readBody_138 ?_
    refine w_iconst dX8_readBody_139 (v := 1) (by decide) ?_
    refine w_isub dX8_readBody_140 ?_
    refine w_goto 146 dX8_readBody_141 (by decide) ?_
    exact (pX8_readBody_b146 hd hdr hrE hk2 hf).to ⟨rfl, rfl, rfl, rfl, trivial⟩
def fX8_readBody_b111 (N : Nat) (rE : Nat → Int32 → eH → Option ((Unit ⊕ Nat) × eH)) (k2 : Nat → Int32 → Int32 → Int32 → eH → Option ((Unit ⊕ Nat) × eH)) (l0 : Nat) (l1 : Int32) (l2 : Int32) (l3 : Int32) (l5 : Int32) (l6 : Int32) (s0 : Nat) (h : eH) : Option ((Unit ⊕ Nat) × eH) :=
  fX8_readBody_b116 N rE k2 l0 l1 l2 l3 l5 l6 s0 (1 : Int32) h
theorem pX8_readBody_b111 {w : eW} {d : Nat} {dr : Nat} (hd : dr + 16 ≤ d + 1) (hdr : 12 ≤ dr) {N : Nat} {rE : Nat → Int32 → eH → Option ((Unit ⊕ Nat) × eH)} (hrE : ∀ a t0 h q, rE a t0 h = some q → wm w dr YX8_expand [.ref a, .int t0] h (e_is (e_rt c_V q))) {k2 : Nat → Int32 → Int32 → Int32 → eH → Option ((Unit ⊕ Nat) × eH)} (hk2 : ∀ l0 l1 l2 l3 h q, k2 l0 l1 l2 l3 h = some q → wp w (d + 1) YX8_readBody 2 [some (.ref l0), some (.int l1), some (.int l2), some (.int l3), none, none, none] [] h (e_is (e_rt c_V q))) {l0 : Nat} {l1 : Int32} {l2 : Int32} {l3 : Int32} {l5 : Int32} {l6 : Int32} {s0 : Nat} {h : eH} {q} (hf : fX8_readBody_b111 N rE k2 l0 l1 l2 l3 l5 l6 s0 h = some q) : wp w (d + 1) YX8_readBody 111 [some (.ref l0), some (.int l1), some (.int l2), some (.int l3), none, some (.int l5), some (.int l6)] [.ref s0] h (e_is (e_rt c_V q)) := by
  unfold fX8_readBody_b111 at hf
  refine w_iconst dX8_readBody_111 (v := 1) (by decide) ?_
  refine w_goto 116 dX8_readBody_112 (by decide) ?_
  exact (pX8_readBody_b116 hd hdr hrE hk2 hf).to ⟨rfl, rfl, rfl, rfl, rfl, rfl, trivial⟩
def fX8_readBody_b90 (N : Nat) (rE : Nat → Int32 → eH → Option ((Unit ⊕ Nat) × eH)) (k2 : Nat → Int32 → Int32 → Int32 → eH → Option ((Unit ⊕ Nat) × eH)) (l0 : Nat) (l1 : Int32) (l2 : Int32) (l3 : Int32) (l5 : Int32) (s0 : Int32) (h : eH) : Option ((Unit ⊕ Nat) × eH) :=
  (g_A 7 h l0 0).bind fun a1 =>
  if ¬ s0 = 0 then
    fX8_readBody_b111 N rE k2 l0 l1 l2 l3 l5 s0 a1 h
  else
    (fX1_is l5 (6 : Int32) h).bind fun q4 =>
    if q4.1 = 0 then
      fX8_readBody_b116 N rE k2 l0 l1 l2 l3 l5 s0 a1 (0 : Int32) q4.2
    else
      fX8_readBody_b111 N rE k2 l0 l1 l2 l3 l5 s0 a1 q4.2
theorem pX8_readBody_b90 {w : eW} {d : Nat} {dr : Nat} (hd : dr + 16 ≤ d + 1) (hdr : 12 ≤ dr) {N : Nat} {rE : Nat → Int32 → eH → Option ((Unit ⊕ Nat) × eH)} (hrE : ∀ a t0 h q, rE a t0 h = some q → wm w dr YX8_expand [.ref a, .int t0] h (e_is (e_rt c_V q))) {k2 : Nat → Int32 → Int32 → Int32 → eH → Option ((Unit ⊕ Nat) × eH)} (hk2 : ∀ l0 l1 l2 l3 h q, k2 l0 l1 l2 l3 h = some q → wp w (d + 1) YX8_readBody 2 [some (.ref l0), some (.int l1), some (.int l2), some (.int l3), none, none, none] [] h (e_is (e_rt c_V q))) {l0 : Nat} {l1 : Int32} {l2 : Int32} {l3 : Int32} {l5 : Int32} {s0 : Int32} {h : eH} {q} (hf : fX8_readBody_b90 N rE k2 l0 l1 l2 l3 l5 s0 h = some q) : wp w (d + 1) YX8_readBody 90 [some (.ref l0), some (.int l1), some (.int l2), some (.int l3), none, some (.int l5), none] [.int s0] h (e_is (e_rt c_V q)) := by
  unfold fX8_readBody_b90 at hf
  refine w_istore dX8_readBody_90 (by decide) (ls' := [some (.ref l0), some (.int l1), some (.int l2), some (.int l3), none, some (.int l5), some (.int s0)]) rfl ?_
  refine w_aload_n dX8_readBody_92 rfl rfl ?_
  obtain ⟨a1, b2, hf⟩ := Option.bind_eq_some_iff.mp hf
  refine GX8_51 b2 dX8_readBody_93 rfl ?_
  refine w_iload dX8_readBody_96 rfl ?_
  refine w_if_ne 111 dX8_readBody_98 (by decide) (fun c3 => ?_) (fun c3 => ?_)
  · replace hf := (if_pos (show ¬ s0 = 0 from c3)).symm.trans hf
    exact (pX8_readBody_b111 hd hdr hrE hk2 hf).to ⟨rfl, rfl, rfl, rfl, rfl, rfl, trivial⟩
  · replace hf := (if_neg (show ¬ (¬ s0 = 0) from (fun z => z c3))).symm.trans hf
    refine w_iload dX8_readBody_101 rfl ?_
    refine w_bipush dX8_readBody_103 (v := 6) (by decide) ?_
    refine x_cnI hf (e_stSN (Yc := YX1_is) (av := [.int l5, .int (6 : Int32)]) (st := [.ref a1]) dX8_readBody_105 q2518 mX1_is) mX1_is.2.2.1 mX1_is.2.2.2.2.1 (Nat.le_of_ble_eq_true rfl) (Nat.le_of_ble_eq_true rfl) (fun q hq => pX1_is (by omega) hq) (fun q4 hf => ?_)
    refine w_if_eq 115 dX8_readBody_108 (by decide) (fun c5 => ?_) (fun c5 => ?_)
    · replace hf := (if_pos (show q4.1 = 0 from c5)).symm.trans hf
      refine w_iconst dX8_readBody_115 (v := 0) (by decide) ?_
      exact (pX8_readBody_b116 hd hdr hrE hk2 hf).to ⟨rfl, rfl, rfl, rfl, rfl, rfl, trivial⟩
    · replace hf := (if_neg (show ¬ (q4.1 = 0) from c5)).symm.trans hf
      exact (pX8_readBody_b111 hd hdr hrE hk2 hf).to ⟨rfl, rfl, rfl, rfl, rfl, rfl, trivial⟩
def fX8_readBody_b89 (N : Nat) (rE : Nat → Int32 → eH → Option ((Unit ⊕ Nat) × eH)) (k2 : Nat → Int32 → Int32 → Int32 → eH → Option ((Unit ⊕ Nat) × eH)) (l0 : Nat) (l1 : Int32) (l2 : Int32) (l3 : Int32) (l5 : Int32) (h : eH) : Option ((Unit ⊕ Nat) × eH) :=
  fX8_readBody_b90 N rE k2 l0 l1 l2 l3 l5 (0 : Int32) h
theorem pX8_readBody_b89 {w : eW} {d : Nat} {dr : Nat} (hd : dr + 16 ≤ d + 1) (hdr : 12 ≤ dr) {N : Nat} {rE : Nat → Int32 → eH → Option ((Unit ⊕ Nat) × eH)} (hrE : ∀ a t0 h q, rE a t0 h = some q → wm w dr YX8_expand [.ref a, .int t0] h (e_is (e_rt c_V q))) {k2 : Nat → Int32 → Int32 → Int32 → eH → Option ((Unit ⊕ Nat) × eH)} (hk2 : ∀ l0 l1 l2 l3 h q, k2 l0 l1 l2 l3 h = some q → wp w (d + 1) YX8_readBody 2 [some (.ref l0), some (.int l1), some (.int l2), some (.int l3), none, none, none] [] h (e_is (e_rt c_V q))) {l0 : Nat} {l1 : Int32} {l2 : Int32} {l3 : Int32} {l5 : Int32} {h : eH} {q} (hf : fX8_readBody_b89 N rE k2 l0 l1 l2 l3 l5 h = some q) : wp w (d + 1) YX8_readBody 89 [some (.ref l0), some (.int l1), some (.int l2), some (.int l3), none, some (.int l5), none] [] h (e_is (e_rt c_V q)) := by
  unfold fX8_readBody_b89 at hf
  refine w_iconst dX8_readBody_89 (v := 0) (by decide) ?_
  exact (pX8_readBody_b90 hd hdr hrE hk2 hf).to ⟨rfl, rfl, rfl, rfl, rfl, trivial⟩
def fX8_readBody_b41 (N : Nat) (rE : Nat → Int32 → eH → Option ((Unit ⊕ Nat) × eH)) (k2 : Nat → Int32 → Int32 → Int32 → eH → Option ((Unit ⊕ Nat) × eH)) (l0 : Nat) (l1 : Int32) (l2 : Int32) (l4 : Int32) (s0 : Int32) (s1 : Int32) (h : eH) : Option ((Unit ⊕ Nat) × eH) :=
  (fX1_is l4 (6 : Int32) h).bind fun q1 =>
  if q1.1 = 0 then
    if (s0 + s1) ≤ 0 then
      fX8_readBody_b168 N rE k2 l0 l1 l2 (s0 + s1) q1.2
    else
      (g_A 7 q1.2 l0 6).bind fun a4 =>
      (fX8_bare l4 q1.2).bind fun q6 =>
      (k_ok 11 q6.2 a4).bind fun _ =>
      t_B (fX12_add a4 q6.1 q6.2) fun x8 h9 =>
      fX8_readBody_b168 N rE k2 l0 l1 l2 (s0 + s1) h9
  else
    (k_ok 7 q1.2 l0).bind fun _ =>
    t_B (fX8_next N rE l0 l1 q1.2) fun x11 h12 =>
    (fX1_isDigit x11 h12).bind fun q13 =>
    if q13.1 = 0 then
      fX8_readBody_b89 N rE k2 l0 l1 l2 (s0 + s1) x11 q13.2
    else
      if (x11 &&& (15 : Int32)) ≤ 0 then
        fX8_readBody_b89 N rE k2 l0 l1 l2 (s0 + s1) x11 q13.2
      else
        if l2 < (x11 &&& (15 : Int32)) then
          fX8_readBody_b89 N rE k2 l0 l1 l2 (s0 + s1) x11 q13.2
        else
          fX8_readBody_b90 N rE k2 l0 l1 l2 (s0 + s1) x11 (1 : Int32) q13.2
theorem pX8_readBody_b41 {w : eW} {d : Nat} {dr : Nat} (hd : dr + 16 ≤ d + 1) (hdr : 12 ≤ dr) {N : Nat} {rE : Nat → Int32 → eH → Option ((Unit ⊕ Nat) × eH)} (hrE : ∀ a t0 h q, rE a t0 h = some q → wm w dr YX8_expand [.ref a, .int t0] h (e_is (e_rt c_V q))) {k2 : Nat → Int32 → Int32 → Int32 → eH → Option ((Unit ⊕ Nat) × eH)} (hk2 : ∀ l0 l1 l2 l3 h q, k2 l0 l1 l2 l3 h = some q → wp w (d + 1) YX8_readBody 2 [some (.ref l0), some (.int l1), some (.int l2), some (.int l3), none, none, none] [] h (e_is (e_rt c_V q))) {l0 : Nat} {l1 : Int32} {l2 : Int32} {l4 : Int32} {s0 : Int32} {s1 : Int32} {h : eH} {q} (hf : fX8_readBody_b41 N rE k2 l0 l1 l2 l4 s0 s1 h = some q) : wp w (d + 1) YX8_readBody 41 [some (.ref l0), some (.int l1), some (.int l2), none, some (.int l4), none, none] [.int s1, .int s0] h (e_is (e_rt c_V q)) := by
  unfold fX8_readBody_b41 at hf
  refine w_iadd dX8_readBody_41 ?_
  refine w_istore_n dX8_readBody_42 rfl (by decide) (ls' := [some (.ref l0), some (.int l1), some (.int l2), some (.int (s0 + s1)), some (.int l4), none, none]) rfl ?_
  refine w_iload dX8_readBody_43 rfl ?_
  refine w_bipush dX8_readBody_45 (v := 6) (by decide) ?_
  refine x_cnI hf (e_stSN (Yc := YX1_is) (av := [.int l4, .int (6 : Int32)]) (st := []) dX8_readBody_47 q2518 mX1_is) mX1_is.2.2.1 mX1_is.2.2.2.2.1 (Nat.le_of_ble_eq_true rfl) (Nat.le_of_ble_eq_true rfl) (fun q hq => pX1_is (by omega) hq) (fun q1 hf => ?_)
  refine w_if_eq 152 dX8_readBody_50 (by decide) (fun c2 => ?_) (fun c2 => ?_)
  · replace hf := (if_pos (show q1.1 = 0 from c2)).symm.trans hf
    refine w_iload_n dX8_readBody_152 rfl rfl ?_
    refine w_if_le 168 dX8_readBody_153 (by decide) (fun c3 => ?_) (fun c3 => ?_)
    · replace hf := (if_pos (show (s0 + s1) ≤ 0 from c3)).symm.trans hf
      exact (pX8_readBody_b168 hd hdr hrE hk2 hf).to ⟨rfl, rfl, rfl, rfl, trivial⟩
    · replace hf := (if_neg (show ¬ ((s0 + s1) ≤ 0) from c3)).symm.trans hf
      refine w_aload_n dX8_readBody_156 rfl rfl ?_
      obtain ⟨a4, b5, hf⟩ := Option.bind_eq_some_iff.mp hf
      refine GX8_84 b5 dX8_readBody_157 rfl ?_
      refine w_iload dX8_readBody_160 rfl ?_
      refine x_cnI hf (e_stS (Yc := YX8_bare) (av := [.int l4]) (st := [.ref a4]) dX8_readBody_162 q2510 mX8_bare) mX8_bare.2.2.1 mX8_bare.2.2.2.2.1 (Nat.le_of_ble_eq_true rfl) (Nat.le_of_ble_eq_true rfl) (fun q hq => pX8_bare (by omega) hq) (fun q6 hf => ?_)
      obtain ⟨_, b7, hf⟩ := Option.bind_eq_some_iff.mp hf
      refine x_ctV hf (e_stV (Yc := YX12_add) (ci := 11) (av := [.int q6.1]) (st := []) dX8_readBody_165 q4013 mX12_add rfl (k_ok_some b7).1 (k_ok_some b7).2) mX12_add.2.2.1 mX12_add.2.2.2.2.1 (Nat.le_of_ble_eq_true rfl) (Nat.le_of_ble_eq_true rfl) rfl (fun q hq => pX12_add (by omega) hq) (fun x8 h9 hf => ?_)
      exact (pX8_readBody_b168 hd hdr hrE hk2 hf).to ⟨rfl, rfl, rfl, rfl, trivial⟩
  · replace hf := (if_neg (show ¬ (q1.1 = 0) from c2)).symm.trans hf
    refine w_aload_n dX8_readBody_53 rfl rfl ?_
    refine w_iload_n dX8_readBody_54 rfl rfl ?_
    obtain ⟨_, b10, hf⟩ := Option.bind_eq_some_iff.mp hf
    refine x_ctI hf (e_stV (Yc := YX8_next) (ci := 7) (av := [.int l1]) (st := []) dX8_readBody_55 q4025 mX8_next rfl (k_ok_some b10).1 (k_ok_some b10).2) mX8_next.2.2.1 mX8_next.2.2.2.2.1 (Nat.le_of_ble_eq_true rfl) (Nat.le_of_ble_eq_true rfl) rfl (fun q hq => pX8_next (by omega) hdr hrE hq) (fun x11 h12 hf => ?_)
    refine w_istore dX8_readBody_58 (by decide) (ls' := [some (.ref l0), some (.int l1), some (.int l2), some (.int (s0 + s1)), some (.int l4), some (.int x11), none]) rfl ?_
    refine w_iload dX8_readBody_60 rfl ?_
    refine x_cnI hf (e_stSN (Yc := YX1_isDigit) (av := [.int x11]) (st := []) dX8_readBody_62 q2598 mX1_isDigit) mX1_isDigit.2.2.1 mX1_isDigit.2.2.2.2.1 (Nat.le_of_ble_eq_true rfl) (Nat.le_of_ble_eq_true rfl) (fun q hq => pX1_isDigit (by omega) hq) (fun q13 hf => ?_)
    refine w_if_eq 89 dX8_readBody_65 (by decide) (fun c14 => ?_) (fun c14 => ?_)
    · replace hf := (if_pos (show q13.1 = 0 from c14)).symm.trans hf
      exact (pX8_readBody_b89 hd hdr hrE hk2 hf).to ⟨rfl, rfl, rfl, rfl, rfl, trivial⟩
    · replace hf := (if_neg (show ¬ (q13.1 = 0) from c14)).symm.trans hf
      refine w_iload dX8_readBody_68 rfl ?_
      refine w_bipush dX8_readBody_70 (v := 15) (by decide) ?_
      refine w_iand dX8_readBody_72 ?_
      refine w_if_le 89 dX8_readBody_73 (by decide) (fun c15 => ?_) (fun c15 => ?_)
      · replace hf := (if_pos (show (x11 &&& (15 : Int32)) ≤ 0 from c15)).symm.trans hf
        exact (pX8_readBody_b89 hd hdr hrE hk2 hf).to ⟨rfl, rfl, rfl, rfl, rfl, trivial⟩
      · replace hf := (if_neg (show ¬ ((x11 &&& (15 : Int32)) ≤ 0) from c15)).symm.trans hf
        refine w_iload dX8_readBody_76 rfl ?_
        refine w_bipush dX8_readBody_78 (v := 15) (by decide) ?_
        refine w_iand dX8_readBody_80 ?_
        refine w_iload_n dX8_readBody_81 rfl rfl ?_
        refine w_icmp_gt 89 dX8_readBody_82 (by decide) (fun c16 => ?_) (fun c16 => ?_)
        · replace hf := (if_pos (show l2 < (x11 &&& (15 : Int32)) from c16)).symm.trans hf
          exact (pX8_readBody_b89 hd hdr hrE hk2 hf).to ⟨rfl, rfl, rfl, rfl, rfl, trivial⟩
        · replace hf := (if_neg (show ¬ (l2 < (x11 &&& (15 : Int32))) from c16)).symm.trans hf
          refine w_iconst dX8_readBody_85 (v := 1) (by decide) ?_
          refine w_goto 90 dX8_readBody_86 (by decide) ?_
          exact (pX8_readBody_b90 hd hdr hrE hk2 hf).to ⟨rfl, rfl, rfl, rfl, rfl, trivial⟩
def fX8_readBody_b2 (N : Nat) (rE : Nat → Int32 → eH → Option ((Unit ⊕ Nat) × eH)) : Nat → Nat → Int32 → Int32 → Int32 → eH → Option ((Unit ⊕ Nat) × eH)
  | 0, _, _, _, _, _ => none
  | n + 1, l0, l1, l2, l3, h =>
    if l3 ≤ 0 then
      some (.inl (), h)
    else
      (k_ok 7 h l0).bind fun _ =>
      t_B (fX8_next N rE l0 l1 h) fun x3 h4 =>
      (fX1_is x3 (1 : Int32) h4).bind fun q5 =>
      if q5.1 = 0 then
        (fX1_is x3 (2 : Int32) q5.2).bind fun q7 =>
        if q7.1 = 0 then
          fX8_readBody_b41 N rE (fX8_readBody_b2 N rE n) l0 l1 l2 x3 l3 (0 : Int32) q7.2
        else
          fX8_readBody_b41 N rE (fX8_readBody_b2 N rE n) l0 l1 l2 x3 l3 (-1 : Int32) q7.2
      else
        fX8_readBody_b41 N rE (fX8_readBody_b2 N rE n) l0 l1 l2 x3 l3 (1 : Int32) q5.2
theorem pX8_readBody_b2 {w : eW} {d : Nat} {dr : Nat} (hd : dr + 16 ≤ d + 1) (hdr : 12 ≤ dr) {N : Nat} {rE : Nat → Int32 → eH → Option ((Unit ⊕ Nat) × eH)} (hrE : ∀ a t0 h q, rE a t0 h = some q → wm w dr YX8_expand [.ref a, .int t0] h (e_is (e_rt c_V q))) : ∀ (n : Nat) l0 l1 l2 l3 h q, fX8_readBody_b2 N rE n l0 l1 l2 l3 h = some q → wp w (d + 1) YX8_readBody 2 [some (.ref l0), some (.int l1), some (.int l2), some (.int l3), none, none, none] [] h (e_is (e_rt c_V q)) := by
  intro n
  induction n with
  | zero => intro l0 l1 l2 l3 h q hf; simp [fX8_readBody_b2] at hf
  | succ n ih =>
    intro l0 l1 l2 l3 h q hf
    rw [fX8_readBody_b2] at hf
    refine w_iload_n dX8_readBody_2 rfl rfl ?_
    refine w_if_le 171 dX8_readBody_3 (by decide) (fun c1 => ?_) (fun c1 => ?_)
    · replace hf := (if_pos (show l3 ≤ 0 from c1)).symm.trans hf
      cases hf
      exact w_vret dX8_readBody_171 rfl rfl
    · replace hf := (if_neg (show ¬ (l3 ≤ 0) from c1)).symm.trans hf
      refine w_aload_n dX8_readBody_6 rfl rfl ?_
      refine w_iload_n dX8_readBody_7 rfl rfl ?_
      obtain ⟨_, b2, hf⟩ := Option.bind_eq_some_iff.mp hf
      refine x_ctI hf (e_stV (Yc := YX8_next) (ci := 7) (av := [.int l1]) (st := []) dX8_readBody_8 q4025 mX8_next rfl (k_ok_some b2).1 (k_ok_some b2).2) mX8_next.2.2.1 mX8_next.2.2.2.2.1 (Nat.le_of_ble_eq_true rfl) (Nat.le_of_ble_eq_true rfl) rfl (fun q hq => pX8_next (by omega) hdr hrE hq) (fun x3 h4 hf => ?_)
      refine w_istore dX8_readBody_11 (by decide) (ls' := [some (.ref l0), some (.int l1), some (.int l2), some (.int l3), some (.int x3), none, none]) rfl ?_
      refine w_iload_n dX8_readBody_13 rfl rfl ?_
      refine w_iload dX8_readBody_14 rfl ?_
      refine w_iconst dX8_readBody_16 (v := 1) (by decide) ?_
      refine x_cnI hf (e_stSN (Yc := YX1_is) (av := [.int x3, .int (1 : Int32)]) (st := [.int l3]) dX8_readBody_17 q2518 mX1_is) mX1_is.2.2.1 mX1_is.2.2.2.2.1 (Nat.le_of_ble_eq_true rfl) (Nat.le_of_ble_eq_true rfl) (fun q hq => pX1_is (by omega) hq) (fun q5 hf => ?_)
      refine w_if_eq 27 dX8_readBody_20 (by decide) (fun c6 => ?_) (fun c6 => ?_)
      · replace hf := (if_pos (show q5.1 = 0 from c6)).symm.trans hf
        refine w_iload dX8_readBody_27 rfl ?_
        refine w_iconst dX8_readBody_29 (v := 2) (by decide) ?_
        refine x_cnI hf (e_stSN (Yc := YX1_is) (av := [.int x3, .int (2 : Int32)]) (st := [.int l3]) dX8_readBody_30 q2518 mX1_is) mX1_is.2.2.1 mX1_is.2.2.2.2.1 (Nat.le_of_ble_eq_true rfl) (Nat.le_of_ble_eq_true rfl) (fun q hq => pX1_is (by omega) hq) (fun q7 hf => ?_)
        refine w_if_eq 40 dX8_readBody_33 (by decide) (fun c8 => ?_) (fun c8 => ?_)
        · replace hf := (if_pos (show q7.1 = 0 from c8)).symm.trans hf
          refine w_iconst dX8_readBody_40 (v := 0) (by decide) ?_
          exact (pX8_readBody_b41 hd hdr hrE ih hf).to ⟨rfl, rfl, rfl, rfl, trivial⟩
        · replace hf := (if_neg (show ¬ (q7.1 = 0) from c8)).symm.trans hf
          refine w_iconst dX8_readBody_36 (v := -1) (by decide) ?_
          refine w_goto 41 dX8_readBody_37 (by decide) ?_
          exact (pX8_readBody_b41 hd hdr hrE ih hf).to ⟨rfl, rfl, rfl, rfl, trivial⟩
      · replace hf := (if_neg (show ¬ (q5.1 = 0) from c6)).symm.trans hf
        refine w_iconst dX8_readBody_23 (v := 1) (by decide) ?_
        refine w_goto 41 dX8_readBody_24 (by decide) ?_
        exact (pX8_readBody_b41 hd hdr hrE ih hf).to ⟨rfl, rfl, rfl, rfl, trivial⟩
def fX8_readBody (N : Nat) (rE : Nat → Int32 → eH → Option ((Unit ⊕ Nat) × eH)) (this : Nat) (p0 : Int32) (p1 : Int32) (h : eH) : Option ((Unit ⊕ Nat) × eH) :=
  fX8_readBody_b2 N rE N this p0 p1 (1 : Int32) h
theorem pX8_readBody {w : eW} {d : Nat} {dr : Nat} (hd : dr + 16 ≤ d) (hdr : 12 ≤ dr) {N : Nat} {rE : Nat → Int32 → eH → Option ((Unit ⊕ Nat) × eH)} (hrE : ∀ a t0 h q, rE a t0 h = some q → wm w dr YX8_expand [.ref a, .int t0] h (e_is (e_rt c_V q))) {this : Nat} {p0 : Int32} {p1 : Int32} {h : eH} {q} (hf : fX8_readBody N rE this p0 p1 h = some q) : wm w d YX8_readBody [.ref this, .int p0, .int p1] h (e_is (e_rt c_V q)) := by
  obtain ⟨d, rfl⟩ : ∃ e, d = e + 1 := ⟨d - 1, by omega⟩
  show wp w (d + 1) YX8_readBody 0 [some (.ref this), some (.int p0), some (.int p1), none, none, none, none] [] h _
  unfold fX8_readBody at hf
  refine w_iconst dX8_readBody_0 (v := 1) (by decide) ?_
  refine w_istore_n dX8_readBody_1 rfl (by decide) (ls' := [some (.ref this), some (.int p0), some (.int p1), some (.int (1 : Int32)), none, none, none]) rfl ?_
  exact (pX8_readBody_b2 hd hdr hrE N _ _ _ _ _ _ hf).to ⟨rfl, rfl, rfl, rfl, trivial⟩
abbrev cX12_close : ByteArray := prog_14_method_5_code
def yX12_close : MethodName := ⟨RX12, "close", "()I"⟩
def YX12_close : eY := (yX12_close, cX12_close, 1, (Option.some FieldType.int), [])
theorem mX12_close : e_mv YX12_close RX12 0 := ⟨q4030, q4031, q4032, by decide, by decide +kernel, (e_sig (by decide +kernel))⟩
theorem dX12_close_0 : decode cX12_close 0 = .ok (.aload_n 0, 1) := dc_42 (by decide +kernel)
theorem dX12_close_1 : decode cX12_close 1 = .ok (.getfield 21, 3) := dc_180 (a := 0) (b := 21) (n := 21) (by decide +kernel)
theorem dX12_close_4 : decode cX12_close 4 = .ok (.aload_n 0, 1) := dc_42 (by decide +kernel)
theorem dX12_close_5 : decode cX12_close 5 = .ok (.getfield 35, 3) := dc_180 (a := 0) (b := 35) (n := 35) (by decide +kernel)
theorem dX12_close_8 : decode cX12_close 8 = .ok (.aload_n 0, 1) := dc_42 (by decide +kernel)
theorem dX12_close_9 : decode cX12_close 9 = .ok (.getfield 31, 3) := dc_180 (a := 0) (b := 31) (n := 31) (by decide +kernel)
theorem dX12_close_12 : decode cX12_close 12 = .ok (.iastore, 1) := dc_79 (by decide +kernel)
theorem dX12_close_13 : decode cX12_close 13 = .ok (.aload_n 0, 1) := dc_42 (by decide +kernel)
theorem dX12_close_14 : decode cX12_close 14 = .ok (.dup, 1) := dc_89 (by decide +kernel)
theorem dX12_close_15 : decode cX12_close 15 = .ok (.getfield 35, 3) := dc_180 (a := 0) (b := 35) (n := 35) (by decide +kernel)
theorem dX12_close_18 : decode cX12_close 18 = .ok (.dup_x1, 1) := dc_90 (by decide +kernel)
theorem dX12_close_19 : decode cX12_close 19 = .ok (.iconst 1, 1) := dc_4 (by decide +kernel)
theorem dX12_close_20 : decode cX12_close 20 = .ok (.iadd, 1) := dc_96 (by decide +kernel)
theorem dX12_close_21 : decode cX12_close 21 = .ok (.putfield 35, 3) := dc_181 (a := 0) (b := 35) (n := 35) (by decide +kernel)
theorem dX12_close_24 : decode cX12_close 24 = .ok (.ireturn, 1) := dc_172 (by decide +kernel)
theorem SX12_35 {w : eW} {d : Nat} {Y : eY} {pc : Nat} {ls : eL} {st : List Value} {h : eH} {Q : eO → eH → Prop} {a : Nat} {h' : eH} {x : Int32} (hf : p_V 11 h a 7 (.int x) = some h') (hd : decode Y.2.1 pc = .ok (.putfield 35, 3)) (hY : Y.1.cls = RX12) (kk : wp w d Y (pc + 3) ls st h' Q) : wp w d Y pc ls (.int x :: .ref a :: st) h Q := x_pI (ci := 11) (k := 7) hf hd rfl (by decide) (by rw [hY]; exact q792) rfl rfl kk
def fX12_close (this : Nat) (h : eH) : Option (Int32 × eH) :=
  (g_A 11 h this 5).bind fun a1 =>
  (g_I 11 h this 7).bind fun x3 =>
  (g_I 11 h this 2).bind fun x5 =>
  (q_V 100 h a1 x3 (.int x5)).bind fun h7 =>
  (g_I 11 h7 this 7).bind fun x9 =>
  (p_V 11 h7 this 7 (.int (x9 + (1 : Int32)))).bind fun h11 =>
  some (x9, h11)
theorem pX12_close {w : eW} {d : Nat} (hd : 0 ≤ d) {this : Nat} {h : eH} {q} (hf : fX12_close this h = some q) : wm w d YX12_close [.ref this] h (e_is (e_rn c_I q)) := by
  show wp w d YX12_close 0 [some (.ref this)] [] h _
  unfold fX12_close at hf
  refine w_aload_n dX12_close_0 rfl rfl ?_
  obtain ⟨a1, b2, hf⟩ := Option.bind_eq_some_iff.mp hf
  refine GX12_21 b2 dX12_close_1 rfl ?_
  refine w_aload_n dX12_close_4 rfl rfl ?_
  obtain ⟨x3, b4, hf⟩ := Option.bind_eq_some_iff.mp hf
  refine GX12_35 b4 dX12_close_5 rfl ?_
  refine w_aload_n dX12_close_8 rfl rfl ?_
  obtain ⟨x5, b6, hf⟩ := Option.bind_eq_some_iff.mp hf
  refine GX12_31 b6 dX12_close_9 rfl ?_
  obtain ⟨h7, b8, hf⟩ := Option.bind_eq_some_iff.mp hf
  refine x_qI b8 dX12_close_12 ?_
  refine w_aload_n dX12_close_13 rfl rfl ?_
  refine w_dup dX12_close_14 rfl ?_
  obtain ⟨x9, b10, hf⟩ := Option.bind_eq_some_iff.mp hf
  refine GX12_35 b10 dX12_close_15 rfl ?_
  refine w_dup_x1 dX12_close_18 rfl rfl ?_
  refine w_iconst dX12_close_19 (v := 1) (by decide) ?_
  refine w_iadd dX12_close_20 ?_
  obtain ⟨h11, b12, hf⟩ := Option.bind_eq_some_iff.mp hf
  refine SX12_35 b12 dX12_close_21 rfl ?_
  cases hf
  exact w_iret dX12_close_24 rfl rfl rfl
abbrev cX8_define : ByteArray := prog_4_method_75_code
def yX8_define : MethodName := ⟨RX8, "define", "(IZ)V"⟩
def YX8_define : eY := (yX8_define, cX8_define, 7, none, [])
theorem mX8_define : e_mv YX8_define RX8 2 := ⟨q4005, qs206, q4006, by decide, by decide +kernel, (e_sig (by decide +kernel))⟩
theorem dX8_define_0 : decode cX8_define 0 = .ok (.aload_n 0, 1) := dc_42 (by decide +kernel)
theorem dX8_define_1 : decode cX8_define 1 = .ok (.invokevirtual 501, 3) := dc_182 (a := 1) (b := 245) (n := 501) (by decide +kernel)
theorem dX8_define_4 : decode cX8_define 4 = .ok (.istore_n 3, 1) := dc_62 (by decide +kernel)
theorem dX8_define_5 : decode cX8_define 5 = .ok (.aload_n 0, 1) := dc_42 (by decide +kernel)
theorem dX8_define_6 : decode cX8_define 6 = .ok (.getfield 84, 3) := dc_180 (a := 0) (b := 84) (n := 84) (by decide +kernel)
theorem dX8_define_9 : decode cX8_define 9 = .ok (.invokevirtual 566, 3) := dc_182 (a := 2) (b := 54) (n := 566) (by decide +kernel)
theorem dX8_define_12 : decode cX8_define 12 = .ok (.iconst 0, 1) := dc_3 (by decide +kernel)
theorem dX8_define_13 : decode cX8_define 13 = .ok (.istore 4, 2) := dc_54 (a := 4) (by decide +kernel)
theorem dX8_define_15 : decode cX8_define 15 = .ok (.aload_n 0, 1) := dc_42 (by decide +kernel)
theorem dX8_define_16 : decode cX8_define 16 = .ok (.invokevirtual 213, 3) := dc_182 (a := 0) (b := 213) (n := 213) (by decide +kernel)
theorem dX8_define_19 : decode cX8_define 19 = .ok (.istore 5, 2) := dc_54 (a := 5) (by decide +kernel)
theorem dX8_define_21 : decode cX8_define 21 = .ok (.iload 5, 2) := dc_21 (a := 5) (by decide +kernel)
theorem dX8_define_23 : decode cX8_define 23 = .ok (.iconst 1, 1) := dc_4 (by decide +kernel)
theorem dX8_define_24 : decode cX8_define 24 = .ok (.invokestatic 193, 3) := dc_184 (a := 0) (b := 193) (n := 193) (by decide +kernel)
theorem dX8_define_27 : decode cX8_define 27 = .ok (.ifCond .ne 122, 3) := dc_154 (a := 0) (b := 122) (v := 122) (by decide +kernel)
theorem dX8_define_30 : decode cX8_define 30 = .ok (.aload_n 0, 1) := dc_42 (by decide +kernel)
theorem dX8_define_31 : decode cX8_define 31 = .ok (.getfield 51, 3) := dc_180 (a := 0) (b := 51) (n := 51) (by decide +kernel)
theorem dX8_define_34 : decode cX8_define 34 = .ok (.iload 5, 2) := dc_21 (a := 5) (by decide +kernel)
theorem dX8_define_36 : decode cX8_define 36 = .ok (.iconst 2, 1) := dc_5 (by decide +kernel)
theorem dX8_define_37 : decode cX8_define 37 = .ok (.invokestatic 193, 3) := dc_184 (a := 0) (b := 193) (n := 193) (by decide +kernel)
theorem dX8_define_40 : decode cX8_define 40 = .ok (.ifCond .ne 7, 3) := dc_154 (a := 0) (b := 7) (v := 7) (by decide +kernel)
theorem dX8_define_43 : decode cX8_define 43 = .ok (.iconst 1, 1) := dc_4 (by decide +kernel)
theorem dX8_define_44 : decode cX8_define 44 = .ok (.goto 4, 3) := dc_167 (a := 0) (b := 4) (v := 4) (by decide +kernel)
theorem dX8_define_47 : decode cX8_define 47 = .ok (.iconst 0, 1) := dc_3 (by decide +kernel)
theorem dX8_define_48 : decode cX8_define 48 = .ok (.iconst 5, 1) := dc_8 (by decide +kernel)
theorem dX8_define_49 : decode cX8_define 49 = .ok (.invokevirtual 145, 3) := dc_182 (a := 0) (b := 145) (n := 145) (by decide +kernel)
theorem dX8_define_52 : decode cX8_define 52 = .ok (.iload 5, 2) := dc_21 (a := 5) (by decide +kernel)
theorem dX8_define_54 : decode cX8_define 54 = .ok (.bipush 6, 2) := dc_16 (a := 6) (v := 6) (by decide +kernel)
theorem dX8_define_56 : decode cX8_define 56 = .ok (.invokestatic 193, 3) := dc_184 (a := 0) (b := 193) (n := 193) (by decide +kernel)
theorem dX8_define_59 : decode cX8_define 59 = .ok (.ifCond .eq 69, 3) := dc_153 (a := 0) (b := 69) (v := 69) (by decide +kernel)
theorem dX8_define_62 : decode cX8_define 62 = .ok (.aload_n 0, 1) := dc_42 (by decide +kernel)
theorem dX8_define_63 : decode cX8_define 63 = .ok (.invokevirtual 213, 3) := dc_182 (a := 0) (b := 213) (n := 213) (by decide +kernel)
theorem dX8_define_66 : decode cX8_define 66 = .ok (.istore 6, 2) := dc_54 (a := 6) (by decide +kernel)
theorem dX8_define_68 : decode cX8_define 68 = .ok (.aload_n 0, 1) := dc_42 (by decide +kernel)
theorem dX8_define_69 : decode cX8_define 69 = .ok (.getfield 51, 3) := dc_180 (a := 0) (b := 51) (n := 51) (by decide +kernel)
theorem dX8_define_72 : decode cX8_define 72 = .ok (.iload 4, 2) := dc_21 (a := 4) (by decide +kernel)
theorem dX8_define_74 : decode cX8_define 74 = .ok (.bipush 9, 2) := dc_16 (a := 9) (v := 9) (by decide +kernel)
theorem dX8_define_76 : decode cX8_define 76 = .ok (.if_icmp .ge 27, 3) := dc_162 (a := 0) (b := 27) (v := 27) (by decide +kernel)
theorem dX8_define_79 : decode cX8_define 79 = .ok (.iload 6, 2) := dc_21 (a := 6) (by decide +kernel)
theorem dX8_define_81 : decode cX8_define 81 = .ok (.invokestatic 338, 3) := dc_184 (a := 1) (b := 82) (n := 338) (by decide +kernel)
theorem dX8_define_84 : decode cX8_define 84 = .ok (.ifCond .eq 19, 3) := dc_153 (a := 0) (b := 19) (v := 19) (by decide +kernel)
theorem dX8_define_87 : decode cX8_define 87 = .ok (.iload 6, 2) := dc_21 (a := 6) (by decide +kernel)
theorem dX8_define_89 : decode cX8_define 89 = .ok (.bipush 15, 2) := dc_16 (a := 15) (v := 15) (by decide +kernel)
theorem dX8_define_91 : decode cX8_define 91 = .ok (.iand, 1) := dc_126 (by decide +kernel)
theorem dX8_define_92 : decode cX8_define 92 = .ok (.iload 4, 2) := dc_21 (a := 4) (by decide +kernel)
theorem dX8_define_94 : decode cX8_define 94 = .ok (.iconst 1, 1) := dc_4 (by decide +kernel)
theorem dX8_define_95 : decode cX8_define 95 = .ok (.iadd, 1) := dc_96 (by decide +kernel)
theorem dX8_define_96 : decode cX8_define 96 = .ok (.if_icmp .ne 7, 3) := dc_160 (a := 0) (b := 7) (v := 7) (by decide +kernel)
theorem dX8_define_99 : decode cX8_define 99 = .ok (.iconst 1, 1) := dc_4 (by decide +kernel)
theorem dX8_define_100 : decode cX8_define 100 = .ok (.goto 4, 3) := dc_167 (a := 0) (b := 4) (v := 4) (by decide +kernel)
theorem dX8_define_103 : decode cX8_define 103 = .ok (.iconst 0, 1) := dc_3 (by decide +kernel)
theorem dX8_define_104 : decode cX8_define 104 = .ok (.bipush 12, 2) := dc_16 (a := 12) (v := 12) (by decide +kernel)
theorem dX8_define_106 : decode cX8_define 106 = .ok (.invokevirtual 145, 3) := dc_182 (a := 0) (b := 145) (n := 145) (by decide +kernel)
theorem dX8_define_109 : decode cX8_define 109 = .ok (.aload_n 0, 1) := dc_42 (by decide +kernel)
theorem dX8_define_110 : decode cX8_define 110 = .ok (.getfield 84, 3) := dc_180 (a := 0) (b := 84) (n := 84) (by decide +kernel)
theorem dX8_define_113 : decode cX8_define 113 = .ok (.ldc_w 307, 3) := dc_19 (a := 1) (b := 51) (n := 307) (by decide +kernel)
theorem dX8_define_116 : decode cX8_define 116 = .ok (.iload 4, 2) := dc_21 (a := 4) (by decide +kernel)
theorem dX8_define_118 : decode cX8_define 118 = .ok (.iadd, 1) := dc_96 (by decide +kernel)
theorem dX8_define_119 : decode cX8_define 119 = .ok (.invokevirtual 567, 3) := dc_182 (a := 2) (b := 55) (n := 567) (by decide +kernel)
theorem dX8_define_122 : decode cX8_define 122 = .ok (.iinc 4 1, 3) := dc_132 (a := 4) (b := 1) (v := 1) (by decide +kernel)
theorem dX8_define_125 : decode cX8_define 125 = .ok (.goto 15, 3) := dc_167 (a := 0) (b := 15) (v := 15) (by decide +kernel)
theorem dX8_define_128 : decode cX8_define 128 = .ok (.aload_n 0, 1) := dc_42 (by decide +kernel)
theorem dX8_define_129 : decode cX8_define 129 = .ok (.getfield 84, 3) := dc_180 (a := 0) (b := 84) (n := 84) (by decide +kernel)
theorem dX8_define_132 : decode cX8_define 132 = .ok (.iload 5, 2) := dc_21 (a := 5) (by decide +kernel)
theorem dX8_define_134 : decode cX8_define 134 = .ok (.invokestatic 219, 3) := dc_184 (a := 0) (b := 219) (n := 219) (by decide +kernel)
theorem dX8_define_137 : decode cX8_define 137 = .ok (.invokevirtual 567, 3) := dc_182 (a := 2) (b := 55) (n := 567) (by decide +kernel)
theorem dX8_define_140 : decode cX8_define 140 = .ok (.aload_n 0, 1) := dc_42 (by decide +kernel)
theorem dX8_define_141 : decode cX8_define 141 = .ok (.invokevirtual 213, 3) := dc_182 (a := 0) (b := 213) (n := 213) (by decide +kernel)
theorem dX8_define_144 : decode cX8_define 144 = .ok (.istore 5, 2) := dc_54 (a := 5) (by decide +kernel)
theorem dX8_define_146 : decode cX8_define 146 = .ok (.goto (-125), 3) := dc_167 (a := 255) (b := 131) (v := -125) (by decide +kernel)
theorem dX8_define_149 : decode cX8_define 149 = .ok (.aload_n 0, 1) := dc_42 (by decide +kernel)
theorem dX8_define_150 : decode cX8_define 150 = .ok (.getfield 84, 3) := dc_180 (a := 0) (b := 84) (n := 84) (by decide +kernel)
theorem dX8_define_153 : decode cX8_define 153 = .ok (.iload 4, 2) := dc_21 (a := 4) (by decide +kernel)
theorem dX8_define_155 : decode cX8_define 155 = .ok (.invokevirtual 568, 3) := dc_182 (a := 2) (b := 56) (n := 568) (by decide +kernel)
theorem dX8_define_158 : decode cX8_define 158 = .ok (.aload_n 0, 1) := dc_42 (by decide +kernel)
theorem dX8_define_159 : decode cX8_define 159 = .ok (.iload_n 1, 1) := dc_27 (by decide +kernel)
theorem dX8_define_160 : decode cX8_define 160 = .ok (.bipush 55, 2) := dc_16 (a := 55) (v := 55) (by decide +kernel)
theorem dX8_define_162 : decode cX8_define 162 = .ok (.if_icmp .eq 9, 3) := dc_159 (a := 0) (b := 9) (v := 9) (by decide +kernel)
theorem dX8_define_165 : decode cX8_define 165 = .ok (.iload_n 1, 1) := dc_27 (by decide +kernel)
theorem dX8_define_166 : decode cX8_define 166 = .ok (.bipush 57, 2) := dc_16 (a := 57) (v := 57) (by decide +kernel)
theorem dX8_define_168 : decode cX8_define 168 = .ok (.if_icmp .ne 7, 3) := dc_160 (a := 0) (b := 7) (v := 7) (by decide +kernel)
theorem dX8_define_171 : decode cX8_define 171 = .ok (.iconst 1, 1) := dc_4 (by decide +kernel)
theorem dX8_define_172 : decode cX8_define 172 = .ok (.goto 4, 3) := dc_167 (a := 0) (b := 4) (v := 4) (by decide +kernel)
theorem dX8_define_175 : decode cX8_define 175 = .ok (.iconst 0, 1) := dc_3 (by decide +kernel)
theorem dX8_define_176 : decode cX8_define 176 = .ok (.iload 4, 2) := dc_21 (a := 4) (by decide +kernel)
theorem dX8_define_178 : decode cX8_define 178 = .ok (.invokevirtual 571, 3) := dc_182 (a := 2) (b := 59) (n := 571) (by decide +kernel)
theorem dX8_define_181 : decode cX8_define 181 = .ok (.aload_n 0, 1) := dc_42 (by decide +kernel)
theorem dX8_define_182 : decode cX8_define 182 = .ok (.getfield 12, 3) := dc_180 (a := 0) (b := 12) (n := 12) (by decide +kernel)
theorem dX8_define_185 : decode cX8_define 185 = .ok (.iload_n 3, 1) := dc_29 (by decide +kernel)
theorem dX8_define_186 : decode cX8_define 186 = .ok (.iconst 2, 1) := dc_5 (by decide +kernel)
theorem dX8_define_187 : decode cX8_define 187 = .ok (.aload_n 0, 1) := dc_42 (by decide +kernel)
theorem dX8_define_188 : decode cX8_define 188 = .ok (.getfield 84, 3) := dc_180 (a := 0) (b := 84) (n := 84) (by decide +kernel)
theorem dX8_define_191 : decode cX8_define 191 = .ok (.invokevirtual 574, 3) := dc_182 (a := 2) (b := 62) (n := 574) (by decide +kernel)
theorem dX8_define_194 : decode cX8_define 194 = .ok (.iload_n 2, 1) := dc_28 (by decide +kernel)
theorem dX8_define_195 : decode cX8_define 195 = .ok (.invokevirtual 107, 3) := dc_182 (a := 0) (b := 107) (n := 107) (by decide +kernel)
theorem dX8_define_198 : decode cX8_define 198 = .ok (.return_, 1) := dc_177 (by decide +kernel)
def fX8_define_b140 (N : Nat) (rE : Nat → Int32 → eH → Option ((Unit ⊕ Nat) × eH)) (k21 : Nat → Int32 → Int32 → Int32 → Int32 → Int32 → eH → Option ((Unit ⊕ Nat) × eH)) (l0 : Nat) (l1 : Int32) (l2 : Int32) (l3 : Int32) (l4 : Int32) (h : eH) : Option ((Unit ⊕ Nat) × eH) :=
  (k_ok 7 h l0).bind fun _ =>
  t_B (fX8_need N l0 h) fun x2 h3 =>
  k21 l0 l1 l2 l3 l4 x2 h3
theorem pX8_define_b140 {w : eW} {d : Nat} {dr : Nat} (hd : dr + 17 ≤ d + 1) (hdr : 12 ≤ dr) {N : Nat} {rE : Nat → Int32 → eH → Option ((Unit ⊕ Nat) × eH)} (hrE : ∀ a t0 h q, rE a t0 h = some q → wm w dr YX8_expand [.ref a, .int t0] h (e_is (e_rt c_V q))) {k21 : Nat → Int32 → Int32 → Int32 → Int32 → Int32 → eH → Option ((Unit ⊕ Nat) × eH)} (hk21 : ∀ l0 l1 l2 l3 l4 l5 h q, k21 l0 l1 l2 l3 l4 l5 h = some q → wp w (d + 1) YX8_define 21 [some (.ref l0), some (.int l1), some (.int l2), some (.int l3), some (.int l4), some (.int l5), none] [] h (e_is (e_rt c_V q))) {l0 : Nat} {l1 : Int32} {l2 : Int32} {l3 : Int32} {l4 : Int32} {h : eH} {q} (hf : fX8_define_b140 N rE k21 l0 l1 l2 l3 l4 h = some q) : wp w (d + 1) YX8_define 140 [some (.ref l0), some (.int l1), some (.int l2), some (.int l3), some (.int l4), none, none] [] h (e_is (e_rt c_V q)) := by
  unfold fX8_define_b140 at hf
  refine w_aload_n dX8_define_140 rfl rfl ?_
  obtain ⟨_, b1, hf⟩ := Option.bind_eq_some_iff.mp hf
  refine x_ctI hf (e_stV (Yc := YX8_need) (ci := 7) (av := []) (st := []) dX8_define_141 q2506 mX8_need rfl (k_ok_some b1).1 (k_ok_some b1).2) mX8_need.2.2.1 mX8_need.2.2.2.2.1 (Nat.le_of_ble_eq_true rfl) (Nat.le_of_ble_eq_true rfl) rfl (fun q hq => pX8_need (by omega) hq) (fun x2 h3 hf => ?_)
  refine w_istore dX8_define_144 (by decide) (ls' := [some (.ref l0), some (.int l1), some (.int l2), some (.int l3), some (.int l4), some (.int x2), none]) rfl ?_
  refine w_goto 21 dX8_define_146 (by decide) ?_
  exact (hk21 _ _ _ _ _ _ _ _ hf).to ⟨rfl, rfl, rfl, rfl, rfl, rfl, trivial⟩
def fX8_define_b104 (N : Nat) (rE : Nat → Int32 → eH → Option ((Unit ⊕ Nat) × eH)) (k21 : Nat → Int32 → Int32 → Int32 → Int32 → Int32 → eH → Option ((Unit ⊕ Nat) × eH)) (l0 : Nat) (l1 : Int32) (l2 : Int32) (l3 : Int32) (l4 : Int32) (s0 : Nat) (s1 : Int32) (h : eH) : Option ((Unit ⊕ Nat) × eH) :=
  (k_ok 3 h s0).bind fun _ =>
  t_B (fX4_want s0 s1 (12 : Int32) h) fun x2 h3 =>
  (g_A 7 h3 l0 6).bind fun a4 =>
  (k_ok 11 h3 a4).bind fun _ =>
  t_B (fX12_add a4 ((262144 : Int32) + l4) h3) fun x7 h8 =>
  fX8_define_b140 N rE k21 l0 l1 l2 l3 (l4 + (1 : Int32)) h8
theorem pX8_define_b104 {w : eW} {d : Nat} {dr : Nat} (hd : dr + 17 ≤ d + 1) (hdr : 12 ≤ dr) {N : Nat} {rE : Nat → Int32 → eH → Option ((Unit ⊕ Nat) × eH)} (hrE : ∀ a t0 h q, rE a t0 h = some q → wm w dr YX8_expand [.ref a, .int t0] h (e_is (e_rt c_V q))) {k21 : Nat → Int32 → Int32 → Int32 → Int32 → Int32 → eH → Option ((Unit ⊕ Nat) × eH)} (hk21 : ∀ l0 l1 l2 l3 l4 l5 h q, k21 l0 l1 l2 l3 l4 l5 h = some q → wp w (d + 1) YX8_define 21 [some (.ref l0), some (.int l1), some (.int l2), some (.int l3), some (.int l4), some (.int l5), none] [] h (e_is (e_rt c_V q))) {l0 : Nat} {l1 : Int32} {l2 : Int32} {l3 : Int32} {l4 : Int32} {s0 : Nat} {s1 : Int32} {h : eH} {q} (hf : fX8_define_b104 N rE k21 l0 l1 l2 l3 l4 s0 s1 h = some q) : wp w (d + 1) YX8_define 104 [some (.ref l0), some (.int l1), some (.int l2), some (.int l3), some (.int l4), none, none] [.int s1, .ref s0] h (e_is (e_rt c_V q)) := by
  unfold fX8_define_b104 at hf
  refine w_bipush dX8_define_104 (v := 12) (by decide) ?_
  obtain ⟨_, b1, hf⟩ := Option.bind_eq_some_iff.mp hf
  refine x_ctV hf (e_stV (Yc := YX4_want) (ci := 3) (av := [.int s1, .int (12 : Int32)]) (st := []) dX8_define_106 q2500 mX4_want rfl (k_ok_some b1).1 (k_ok_some b1).2) mX4_want.2.2.1 mX4_want.2.2.2.2.1 (Nat.le_of_ble_eq_true rfl) (Nat.le_of_ble_eq_true rfl) rfl (fun q hq => pX4_want (by omega) hq) (fun x2 h3 hf => ?_)
  refine w_aload_n dX8_define_109 rfl rfl ?_
  obtain ⟨a4, b5, hf⟩ := Option.bind_eq_some_iff.mp hf
  refine GX8_84 b5 dX8_define_110 rfl ?_
  refine w_ldc_w dX8_define_113 q2505 ?_
  refine w_iload dX8_define_116 rfl ?_
  refine w_iadd dX8_define_118 ?_
  obtain ⟨_, b6, hf⟩ := Option.bind_eq_some_iff.mp hf
  refine x_ctV hf (e_stV (Yc := YX12_add) (ci := 11) (av := [.int ((262144 : Int32) + l4)]) (st := []) dX8_define_119 q4013 mX12_add rfl (k_ok_some b6).1 (k_ok_some b6).2) mX12_add.2.2.1 mX12_add.2.2.2.2.1 (Nat.le_of_ble_eq_true rfl) (Nat.le_of_ble_eq_true rfl) rfl (fun q hq => pX12_add (by omega) hq) (fun x7 h8 hf => ?_)
  refine w_iinc dX8_define_122 (v := (l4 + (1 : Int32))) rfl rfl (by decide) (ls' := [some (.ref l0), some (.int l1), some (.int l2), some (.int l3), some (.int (l4 + (1 : Int32))), none, none]) rfl ?_
  refine w_goto 140 dX8_define_125 (by decide) ?_
  exact (pX8_define_b140 hd hdr hrE hk21 hf).to ⟨rfl, rfl, rfl, rfl, rfl, trivial⟩
def fX8_define_b103 (N : Nat) (rE : Nat → Int32 → eH → Option ((Unit ⊕ Nat) × eH)) (k21 : Nat → Int32 → Int32 → Int32 → Int32 → Int32 → eH → Option ((Unit ⊕ Nat) × eH)) (l0 : Nat) (l1 : Int32) (l2 : Int32) (l3 : Int32) (l4 : Int32) (s0 : Nat) (h : eH) : Option ((Unit ⊕ Nat) × eH) :=
  fX8_define_b104 N rE k21 l0 l1 l2 l3 l4 s0 (0 : Int32) h
theorem pX8_define_b103 {w : eW} {d : Nat} {dr : Nat} (hd : dr + 17 ≤ d + 1) (hdr : 12 ≤ dr) {N : Nat} {rE : Nat → Int32 → eH → Option ((Unit ⊕ Nat) × eH)} (hrE : ∀ a t0 h q, rE a t0 h = some q → wm w dr YX8_expand [.ref a, .int t0] h (e_is (e_rt c_V q))) {k21 : Nat → Int32 → Int32 → Int32 → Int32 → Int32 → eH → Option ((Unit ⊕ Nat) × eH)} (hk21 : ∀ l0 l1 l2 l3 l4 l5 h q, k21 l0 l1 l2 l3 l4 l5 h = some q → wp w (d + 1) YX8_define 21 [some (.ref l0), some (.int l1), some (.int l2), some (.int l3), some (.int l4), some (.int l5), none] [] h (e_is (e_rt c_V q))) {l0 : Nat} {l1 : Int32} {l2 : Int32} {l3 : Int32} {l4 : Int32} {s0 : Nat} {h : eH} {q} (hf : fX8_define_b103 N rE k21 l0 l1 l2 l3 l4 s0 h = some q) : wp w (d + 1) YX8_define 103 [some (.ref l0), some (.int l1), some (.int l2), some (.int l3), some (.int l4), none, none] [.ref s0] h (e_is (e_rt c_V q)) := by
  unfold fX8_define_b103 at hf
  refine w_iconst dX8_define_103 (v := 0) (by decide) ?_
  exact (pX8_define_b104 hd hdr hrE hk21 hf).to ⟨rfl, rfl, rfl, rfl, rfl, trivial⟩
def fX8_define_b48 (N : Nat) (rE : Nat → Int32 → eH → Option ((Unit ⊕ Nat) × eH)) (k21 : Nat → Int32 → Int32 → Int32 → Int32 → Int32 → eH → Option ((Unit ⊕ Nat) × eH)) (l0 : Nat) (l1 : Int32) (l2 : Int32) (l3 : Int32) (l4 : Int32) (l5 : Int32) (s0 : Nat) (s1 : Int32) (h : eH) : Option ((Unit ⊕ Nat) × eH) :=
  (k_ok 3 h s0).bind fun _ =>
  t_B (fX4_want s0 s1 (5 : Int32) h) fun x2 h3 =>
  (fX1_is l5 (6 : Int32) h3).bind fun q4 =>
  if q4.1 = 0 then
    (g_A 7 q4.2 l0 6).bind fun a6 =>
    (fX8_bare l5 q4.2).bind fun q8 =>
    (k_ok 11 q8.2 a6).bind fun _ =>
    t_B (fX12_add a6 q8.1 q8.2) fun x10 h11 =>
    fX8_define_b140 N rE k21 l0 l1 l2 l3 l4 h11
  else
    (k_ok 7 q4.2 l0).bind fun _ =>
    t_B (fX8_need N l0 q4.2) fun x13 h14 =>
    (g_A 7 h14 l0 0).bind fun a15 =>
    if (9 : Int32) ≤ l4 then
      fX8_define_b103 N rE k21 l0 l1 l2 l3 l4 a15 h14
    else
      (fX1_isDigit x13 h14).bind fun q18 =>
      if q18.1 = 0 then
        fX8_define_b103 N rE k21 l0 l1 l2 l3 l4 a15 q18.2
      else
        if ¬ (x13 &&& (15 : Int32)) = (l4 + (1 : Int32)) then
          fX8_define_b103 N rE k21 l0 l1 l2 l3 l4 a15 q18.2
        else
          fX8_define_b104 N rE k21 l0 l1 l2 l3 l4 a15 (1 : Int32) q18.2
theorem pX8_define_b48 {w : eW} {d : Nat} {dr : Nat} (hd : dr + 17 ≤ d + 1) (hdr : 12 ≤ dr) {N : Nat} {rE : Nat → Int32 → eH → Option ((Unit ⊕ Nat) × eH)} (hrE : ∀ a t0 h q, rE a t0 h = some q → wm w dr YX8_expand [.ref a, .int t0] h (e_is (e_rt c_V q))) {k21 : Nat → Int32 → Int32 → Int32 → Int32 → Int32 → eH → Option ((Unit ⊕ Nat) × eH)} (hk21 : ∀ l0 l1 l2 l3 l4 l5 h q, k21 l0 l1 l2 l3 l4 l5 h = some q → wp w (d + 1) YX8_define 21 [some (.ref l0), some (.int l1), some (.int l2), some (.int l3), some (.int l4), some (.int l5), none] [] h (e_is (e_rt c_V q))) {l0 : Nat} {l1 : Int32} {l2 : Int32} {l3 : Int32} {l4 : Int32} {l5 : Int32} {s0 : Nat} {s1 : Int32} {h : eH} {q} (hf : fX8_define_b48 N rE k21 l0 l1 l2 l3 l4 l5 s0 s1 h = some q) : wp w (d + 1) YX8_define 48 [some (.ref l0), some (.int l1), some (.int l2), some (.int l3), some (.int l4), some (.int l5), none] [.int s1, .ref s0] h (e_is (e_rt c_V q)) := by
  unfold fX8_define_b48 at hf
  refine w_iconst dX8_define_48 (v := 5) (by decide) ?_
  obtain ⟨_, b1, hf⟩ := Option.bind_eq_some_iff.mp hf
  refine x_ctV hf (e_stV (Yc := YX4_want) (ci := 3) (av := [.int s1, .int (5 : Int32)]) (st := []) dX8_define_49 q2500 mX4_want rfl (k_ok_some b1).1 (k_ok_some b1).2) mX4_want.2.2.1 mX4_want.2.2.2.2.1 (Nat.le_of_ble_eq_true rfl) (Nat.le_of_ble_eq_true rfl) rfl (fun q hq => pX4_want (by omega) hq) (fun x2 h3 hf => ?_)
  refine w_iload dX8_define_52 rfl ?_
  refine w_bipush dX8_define_54 (v := 6) (by decide) ?_
  refine x_cnI hf (e_stSN (Yc := YX1_is) (av := [.int l5, .int (6 : Int32)]) (st := []) dX8_define_56 q2518 mX1_is) mX1_is.2.2.1 mX1_is.2.2.2.2.1 (Nat.le_of_ble_eq_true rfl) (Nat.le_of_ble_eq_true rfl) (fun q hq => pX1_is (by omega) hq) (fun q4 hf => ?_)
  refine w_if_eq 128 dX8_define_59 (by decide) (fun c5 => ?_) (fun c5 => ?_)
  · replace hf := (if_pos (show q4.1 = 0 from c5)).symm.trans hf
    refine w_aload_n dX8_define_128 rfl rfl ?_
    obtain ⟨a6, b7, hf⟩ := Option.bind_eq_some_iff.mp hf
    refine GX8_84 b7 dX8_define_129 rfl ?_
    refine w_iload dX8_define_132 rfl ?_
    refine x_cnI hf (e_stS (Yc := YX8_bare) (av := [.int l5]) (st := [.ref a6]) dX8_define_134 q2510 mX8_bare) mX8_bare.2.2.1 mX8_bare.2.2.2.2.1 (Nat.le_of_ble_eq_true rfl) (Nat.le_of_ble_eq_true rfl) (fun q hq => pX8_bare (by omega) hq) (fun q8 hf => ?_)
    obtain ⟨_, b9, hf⟩ := Option.bind_eq_some_iff.mp hf
    refine x_ctV hf (e_stV (Yc := YX12_add) (ci := 11) (av := [.int q8.1]) (st := []) dX8_define_137 q4013 mX12_add rfl (k_ok_some b9).1 (k_ok_some b9).2) mX12_add.2.2.1 mX12_add.2.2.2.2.1 (Nat.le_of_ble_eq_true rfl) (Nat.le_of_ble_eq_true rfl) rfl (fun q hq => pX12_add (by omega) hq) (fun x10 h11 hf => ?_)
    exact (pX8_define_b140 hd hdr hrE hk21 hf).to ⟨rfl, rfl, rfl, rfl, rfl, trivial⟩
  · replace hf := (if_neg (show ¬ (q4.1 = 0) from c5)).symm.trans hf
    refine w_aload_n dX8_define_62 rfl rfl ?_
    obtain ⟨_, b12, hf⟩ := Option.bind_eq_some_iff.mp hf
    refine x_ctI hf (e_stV (Yc := YX8_need) (ci := 7) (av := []) (st := []) dX8_define_63 q2506 mX8_need rfl (k_ok_some b12).1 (k_ok_some b12).2) mX8_need.2.2.1 mX8_need.2.2.2.2.1 (Nat.le_of_ble_eq_true rfl) (Nat.le_of_ble_eq_true rfl) rfl (fun q hq => pX8_need (by omega) hq) (fun x13 h14 hf => ?_)
    refine w_istore dX8_define_66 (by decide) (ls' := [some (.ref l0), some (.int l1), some (.int l2), some (.int l3), some (.int l4), some (.int l5), some (.int x13)]) rfl ?_
    refine w_aload_n dX8_define_68 rfl rfl ?_
    obtain ⟨a15, b16, hf⟩ := Option.bind_eq_some_iff.mp hf
    refine GX8_51 b16 dX8_define_69 rfl ?_
    refine w_iload dX8_define_72 rfl ?_
    refine w_bipush dX8_define_74 (v := 9) (by decide) ?_
    refine w_icmp_ge 103 dX8_define_76 (by decide) (fun c17 => ?_) (fun c17 => ?_)
    · replace hf := (if_pos (show (9 : Int32) ≤ l4 from c17)).symm.trans hf
      exact (pX8_define_b103 hd hdr hrE hk21 hf).to ⟨rfl, rfl, rfl, rfl, rfl, trivial⟩
    · replace hf := (if_neg (show ¬ ((9 : Int32) ≤ l4) from c17)).symm.trans hf
      refine w_iload dX8_define_79 rfl ?_
      refine x_cnI hf (e_stSN (Yc := YX1_isDigit) (av := [.int x13]) (st := [.ref a15]) dX8_define_81 q2598 mX1_isDigit) mX1_isDigit.2.2.1 mX1_isDigit.2.2.2.2.1 (Nat.le_of_ble_eq_true rfl) (Nat.le_of_ble_eq_true rfl) (fun q hq => pX1_isDigit (by omega) hq) (fun q18 hf => ?_)
      refine w_if_eq 103 dX8_define_84 (by decide) (fun c19 => ?_) (fun c19 => ?_)
      · replace hf := (if_pos (show q18.1 = 0 from c19)).symm.trans hf
        exact (pX8_define_b103 hd hdr hrE hk21 hf).to ⟨rfl, rfl, rfl, rfl, rfl, trivial⟩
      · replace hf := (if_neg (show ¬ (q18.1 = 0) from c19)).symm.trans hf
        refine w_iload dX8_define_87 rfl ?_
        refine w_bipush dX8_define_89 (v := 15) (by decide) ?_
        refine w_iand dX8_define_91 ?_
        refine w_iload dX8_define_92 rfl ?_
        refine w_iconst dX8_define_94 (v := 1) (by decide) ?_
        refine w_iadd dX8_define_95 ?_
        refine w_icmp_ne 103 dX8_define_96 (by decide) (fun c20 => ?_) (fun c20 => ?_)
        · replace hf := (if_pos (show ¬ (x13 &&& (15 : Int32)) = (l4 + (1 : Int32)) from c20)).symm.trans hf
          exact (pX8_define_b103 hd hdr hrE hk21 hf).to ⟨rfl, rfl, rfl, rfl, rfl, trivial⟩
        · replace hf := (if_neg (show ¬ (¬ (x13 &&& (15 : Int32)) = (l4 + (1 : Int32))) from (fun z => z c20))).symm.trans hf
          refine w_iconst dX8_define_99 (v := 1) (by decide) ?_
          refine w_goto 104 dX8_define_100 (by decide) ?_
          exact (pX8_define_b104 hd hdr hrE hk21 hf).to ⟨rfl, rfl, rfl, rfl, rfl, trivial⟩
def fX8_define_b176 (N : Nat) (rE : Nat → Int32 → eH → Option ((Unit ⊕ Nat) × eH)) (l0 : Nat) (l2 : Int32) (l3 : Int32) (l4 : Int32) (s0 : Nat) (s1 : Int32) (h : eH) : Option ((Unit ⊕ Nat) × eH) :=
  (k_ok 7 h s0).bind fun _ =>
  t_B (fX8_readBody N rE s0 s1 l4 h) fun x2 h3 =>
  (g_A 7 h3 l0 4).bind fun a4 =>
  (g_A 7 h3 l0 6).bind fun a6 =>
  (k_ok 11 h3 a6).bind fun _ =>
  (fX12_close a6 h3).bind fun q9 =>
  (k_ok 8 q9.2 a4).bind fun _ =>
  (fX9_mean N a4 l3 (2 : Int32) q9.1 l2 q9.2).bind fun q11 =>
  some (.inl (), q11.2)
theorem pX8_define_b176 {w : eW} {d : Nat} {dr : Nat} (hd : dr + 17 ≤ d + 1) (hdr : 12 ≤ dr) {N : Nat} {rE : Nat → Int32 → eH → Option ((Unit ⊕ Nat) × eH)} (hrE : ∀ a t0 h q, rE a t0 h = some q → wm w dr YX8_expand [.ref a, .int t0] h (e_is (e_rt c_V q))) {l0 : Nat} {l2 : Int32} {l3 : Int32} {l4 : Int32} {s0 : Nat} {s1 : Int32} {h : eH} {q} (hf : fX8_define_b176 N rE l0 l2 l3 l4 s0 s1 h = some q) : wp w (d + 1) YX8_define 176 [some (.ref l0), none, some (.int l2), some (.int l3), some (.int l4), none, none] [.int s1, .ref s0] h (e_is (e_rt c_V q)) := by
  unfold fX8_define_b176 at hf
  refine w_iload dX8_define_176 rfl ?_
  obtain ⟨_, b1, hf⟩ := Option.bind_eq_some_iff.mp hf
  refine x_ctV hf (e_stV (Yc := YX8_readBody) (ci := 7) (av := [.int s1, .int l4]) (st := []) dX8_define_178 q4021 mX8_readBody rfl (k_ok_some b1).1 (k_ok_some b1).2) mX8_readBody.2.2.1 mX8_readBody.2.2.2.2.1 (Nat.le_of_ble_eq_true rfl) (Nat.le_of_ble_eq_true rfl) rfl (fun q hq => pX8_readBody (by omega) hdr hrE hq) (fun x2 h3 hf => ?_)
  refine w_aload_n dX8_define_181 rfl rfl ?_
  obtain ⟨a4, b5, hf⟩ := Option.bind_eq_some_iff.mp hf
  refine GX8_12 b5 dX8_define_182 rfl ?_
  refine w_iload_n dX8_define_185 rfl rfl ?_
  refine w_iconst dX8_define_186 (v := 2) (by decide) ?_
  refine w_aload_n dX8_define_187 rfl rfl ?_
  obtain ⟨a6, b7, hf⟩ := Option.bind_eq_some_iff.mp hf
  refine GX8_84 b7 dX8_define_188 rfl ?_
  obtain ⟨_, b8, hf⟩ := Option.bind_eq_some_iff.mp hf
  refine x_cnI hf (e_stV (Yc := YX12_close) (ci := 11) (av := []) (st := [.int (2 : Int32), .int l3, .ref a4]) dX8_define_191 q4029 mX12_close rfl (k_ok_some b8).1 (k_ok_some b8).2) mX12_close.2.2.1 mX12_close.2.2.2.2.1 (Nat.le_of_ble_eq_true rfl) (Nat.le_of_ble_eq_true rfl) (fun q hq => pX12_close (by omega) hq) (fun q9 hf => ?_)
  refine w_iload_n dX8_define_194 rfl rfl ?_
  obtain ⟨_, b10, hf⟩ := Option.bind_eq_some_iff.mp hf
  refine x_cnV hf (e_stV (Yc := YX9_mean) (ci := 8) (av := [.int l3, .int (2 : Int32), .int q9.1, .int l2]) (st := []) dX8_define_195 q2011 mX9_mean rfl (k_ok_some b10).1 (k_ok_some b10).2) mX9_mean.2.2.1 mX9_mean.2.2.2.2.1 (Nat.le_of_ble_eq_true rfl) (Nat.le_of_ble_eq_true rfl) (fun q hq => pX9_mean (by omega) hq) (fun q11 hf => ?_)
  cases hf
  exact w_vret dX8_define_198 rfl rfl
def fX8_define_b171 (N : Nat) (rE : Nat → Int32 → eH → Option ((Unit ⊕ Nat) × eH)) (l0 : Nat) (l2 : Int32) (l3 : Int32) (l4 : Int32) (s0 : Nat) (h : eH) : Option ((Unit ⊕ Nat) × eH) :=
  fX8_define_b176 N rE l0 l2 l3 l4 s0 (1 : Int32) h
theorem pX8_define_b171 {w : eW} {d : Nat} {dr : Nat} (hd : dr + 17 ≤ d + 1) (hdr : 12 ≤ dr) {N : Nat} {rE : Nat → Int32 → eH → Option ((Unit ⊕ Nat) × eH)} (hrE : ∀ a t0 h q, rE a t0 h = some q → wm w dr YX8_expand [.ref a, .int t0] h (e_is (e_rt c_V q))) {l0 : Nat} {l2 : Int32} {l3 : Int32} {l4 : Int32} {s0 : Nat} {h : eH} {q} (hf : fX8_define_b171 N rE l0 l2 l3 l4 s0 h = some q) : wp w (d + 1) YX8_define 171 [some (.ref l0), none, some (.int l2), some (.int l3), some (.int l4), none, none] [.ref s0] h (e_is (e_rt c_V q)) := by
  unfold fX8_define_b171 at hf
  refine w_iconst dX8_define_171 (v := 1) (by decide) ?_
  refine w_goto 176 dX8_define_172 (by decide) ?_
  exact (pX8_define_b176 hd hdr hrE hf).to ⟨rfl, rfl, rfl, rfl, trivial⟩
def fX8_define_b21 (N : Nat) (rE : Nat → Int32 → eH → Option ((Unit ⊕ Nat) × eH)) : Nat → Nat → Int32 → Int32 → Int32 → Int32 → Int32 → eH → Option ((Unit ⊕ Nat) × eH)
  | 0, _, _, _, _, _, _, _ => none
  | n + 1, l0, l1, l2, l3, l4, l5, h =>
    (fX1_is l5 (1 : Int32) h).bind fun q1 =>
    if ¬ q1.1 = 0 then
      (g_A 7 q1.2 l0 6).bind fun a3 =>
      (k_ok 11 q1.2 a3).bind fun _ =>
      (fX12_body a3 l4 q1.2).bind fun q6 =>
      if l1 = (55 : Int32) then
        fX8_define_b171 N rE l0 l2 l3 l4 l0 q6.2
      else
        if ¬ l1 = (57 : Int32) then
          fX8_define_b176 N rE l0 l2 l3 l4 l0 (0 : Int32) q6.2
        else
          fX8_define_b171 N rE l0 l2 l3 l4 l0 q6.2
    else
      (g_A 7 q1.2 l0 0).bind fun a9 =>
      (fX1_is l5 (2 : Int32) q1.2).bind fun q11 =>
      if ¬ q11.1 = 0 then
        fX8_define_b48 N rE (fX8_define_b21 N rE n) l0 l1 l2 l3 l4 l5 a9 (0 : Int32) q11.2
      else
        fX8_define_b48 N rE (fX8_define_b21 N rE n) l0 l1 l2 l3 l4 l5 a9 (1 : Int32) q11.2
theorem pX8_define_b21 {w : eW} {d : Nat} {dr : Nat} (hd : dr + 17 ≤ d + 1) (hdr : 12 ≤ dr) {N : Nat} {rE : Nat → Int32 → eH → Option ((Unit ⊕ Nat) × eH)} (hrE : ∀ a t0 h q, rE a t0 h = some q → wm w dr YX8_expand [.ref a, .int t0] h (e_is (e_rt c_V q))) : ∀ (n : Nat) l0 l1 l2 l3 l4 l5 h q, fX8_define_b21 N rE n l0 l1 l2 l3 l4 l5 h = some q → wp w (d + 1) YX8_define 21 [some (.ref l0), some (.int l1), some (.int l2), some (.int l3), some (.int l4), some (.int l5), none] [] h (e_is (e_rt c_V q)) := by
  intro n
  induction n with
  | zero => intro l0 l1 l2 l3 l4 l5 h q hf; simp [fX8_define_b21] at hf
  | succ n ih =>
    intro l0 l1 l2 l3 l4 l5 h q hf
    rw [fX8_define_b21] at hf
    refine w_iload dX8_define_21 rfl ?_
    refine w_iconst dX8_define_23 (v := 1) (by decide) ?_
    refine x_cnI hf (e_stSN (Yc := YX1_is) (av := [.int l5, .int (1 : Int32)]) (st := []) dX8_define_24 q2518 mX1_is) mX1_is.2.2.1 mX1_is.2.2.2.2.1 (Nat.le_of_ble_eq_true rfl) (Nat.le_of_ble_eq_true rfl) (fun q hq => pX1_is (by omega) hq) (fun q1 hf => ?_)
    refine w_if_ne 149 dX8_define_27 (by decide) (fun c2 => ?_) (fun c2 => ?_)
    · replace hf := (if_pos (show ¬ q1.1 = 0 from c2)).symm.trans hf
      refine w_aload_n dX8_define_149 rfl rfl ?_
      obtain ⟨a3, b4, hf⟩ := Option.bind_eq_some_iff.mp hf
      refine GX8_84 b4 dX8_define_150 rfl ?_
      refine w_iload dX8_define_153 rfl ?_
      obtain ⟨_, b5, hf⟩ := Option.bind_eq_some_iff.mp hf
      refine x_cnV hf (e_stV (Yc := YX12_body) (ci := 11) (av := [.int l4]) (st := []) dX8_define_155 q4017 mX12_body rfl (k_ok_some b5).1 (k_ok_some b5).2) mX12_body.2.2.1 mX12_body.2.2.2.2.1 (Nat.le_of_ble_eq_true rfl) (Nat.le_of_ble_eq_true rfl) (fun q hq => pX12_body (by omega) hq) (fun q6 hf => ?_)
      refine w_aload_n dX8_define_158 rfl rfl ?_
      refine w_iload_n dX8_define_159 rfl rfl ?_
      refine w_bipush dX8_define_160 (v := 55) (by decide) ?_
      refine w_icmp_eq 171 dX8_define_162 (by decide) (fun c7 => ?_) (fun c7 => ?_)
      · replace hf := (if_pos (show l1 = (55 : Int32) from c7)).symm.trans hf
        exact (pX8_define_b171 hd hdr hrE hf).to ⟨rfl, rfl, rfl, rfl, trivial⟩
      · replace hf := (if_neg (show ¬ (l1 = (55 : Int32)) from c7)).symm.trans hf
        refine w_iload_n dX8_define_165 rfl rfl ?_
        refine w_bipush dX8_define_166 (v := 57) (by decide) ?_
        refine w_icmp_ne 175 dX8_define_168 (by decide) (fun c8 => ?_) (fun c8 => ?_)
        · replace hf := (if_pos (show ¬ l1 = (57 : Int32) from c8)).symm.trans hf
          refine w_iconst dX8_define_175 (v := 0) (by decide) ?_
          exact (pX8_define_b176 hd hdr hrE hf).to ⟨rfl, rfl, rfl, rfl, trivial⟩
        · replace hf := (if_neg (show ¬ (¬ l1 = (57 : Int32)) from (fun z => z c8))).symm.trans hf
          exact (pX8_define_b171 hd hdr hrE hf).to ⟨rfl, rfl, rfl, rfl, trivial⟩
    · replace hf := (if_neg (show ¬ (¬ q1.1 = 0) from (fun z => z c2))).symm.trans hf
      refine w_aload_n dX8_define_30 rfl rfl ?_
      obtain ⟨a9, b10, hf⟩ := Option.bind_eq_some_iff.mp hf
      refine GX8_51 b10 dX8_define_31 rfl ?_
      refine w_iload dX8_define_34 rfl ?_
      refine w_iconst dX8_define_36 (v := 2) (by decide) ?_
      refine x_cnI hf (e_stSN (Yc := YX1_is) (av := [.int l5, .int (2 : Int32)]) (st := [.ref a9]) dX8_define_37 q2518 mX1_is) mX1_is.2.2.1 mX1_is.2.2.2.2.1 (Nat.le_of_ble_eq_true rfl) (Nat.le_of_ble_eq_true rfl) (fun q hq => pX1_is (by omega) hq) (fun q11 hf => ?_)
      refine w_if_ne 47 dX8_define_40 (by decide) (fun c12 => ?_) (fun c12 => ?_)
      · replace hf := (if_pos (show ¬ q11.1 = 0 from c12)).symm.trans hf
        refine w_iconst dX8_define_47 (v := 0) (by decide) ?_
        exact (pX8_define_b48 hd hdr hrE ih hf).to ⟨rfl, rfl, rfl, rfl, rfl, rfl, trivial⟩
      · replace hf := (if_neg (show ¬ (¬ q11.1 = 0) from (fun z => z c12))).symm.trans hf
        refine w_iconst dX8_define_43 (v := 1) (by decide) ?_
        refine w_goto 48 dX8_define_44 (by decide) ?_
        exact (pX8_define_b48 hd hdr hrE ih hf).to ⟨rfl, rfl, rfl, rfl, rfl, rfl, trivial⟩
def fX8_define (N : Nat) (rE : Nat → Int32 → eH → Option ((Unit ⊕ Nat) × eH)) (this : Nat) (p0 : Int32) (p1 : Int32) (h : eH) : Option ((Unit ⊕ Nat) × eH) :=
  (k_ok 7 h this).bind fun _ =>
  t_B (fX8_target N this h) fun x2 h3 =>
  (g_A 7 h3 this 6).bind fun a4 =>
  (k_ok 11 h3 a4).bind fun _ =>
  t_B (fX12_open a4 h3) fun x7 h8 =>
  (k_ok 7 h8 this).bind fun _ =>
  t_B (fX8_need N this h8) fun x10 h11 =>
  fX8_define_b21 N rE N this p0 p1 x2 (0 : Int32) x10 h11
theorem pX8_define {w : eW} {d : Nat} {dr : Nat} (hd : dr + 17 ≤ d) (hdr : 12 ≤ dr) {N : Nat} {rE : Nat → Int32 → eH → Option ((Unit ⊕ Nat) × eH)} (hrE : ∀ a t0 h q, rE a t0 h = some q → wm w dr YX8_expand [.ref a, .int t0] h (e_is (e_rt c_V q))) {this : Nat} {p0 : Int32} {p1 : Int32} {h : eH} {q} (hf : fX8_define N rE this p0 p1 h = some q) : wm w d YX8_define [.ref this, .int p0, .int p1] h (e_is (e_rt c_V q)) := by
  obtain ⟨d, rfl⟩ : ∃ e, d = e + 1 := ⟨d - 1, by omega⟩
  show wp w (d + 1) YX8_define 0 [some (.ref this), some (.int p0), some (.int p1), none, none, none, none] [] h _
  unfold fX8_define at hf
  refine w_aload_n dX8_define_0 rfl rfl ?_
  obtain ⟨_, b1, hf⟩ := Option.bind_eq_some_iff.mp hf
  refine x_ctI hf (e_stV (Yc := YX8_target) (ci := 7) (av := []) (st := []) dX8_define_1 q3912 mX8_target rfl (k_ok_some b1).1 (k_ok_some b1).2) mX8_target.2.2.1 mX8_target.2.2.2.2.1 (Nat.le_of_ble_eq_true rfl) (Nat.le_of_ble_eq_true rfl) rfl (fun q hq => pX8_target (by omega) hq) (fun x2 h3 hf => ?_)
  refine w_istore_n dX8_define_4 rfl (by decide) (ls' := [some (.ref this), some (.int p0), some (.int p1), some (.int x2), none, none, none]) rfl ?_
  refine w_aload_n dX8_define_5 rfl rfl ?_
  obtain ⟨a4, b5, hf⟩ := Option.bind_eq_some_iff.mp hf
  refine GX8_84 b5 dX8_define_6 rfl ?_
  obtain ⟨_, b6, hf⟩ := Option.bind_eq_some_iff.mp hf
  refine x_ctV hf (e_stV (Yc := YX12_open) (ci := 11) (av := []) (st := []) dX8_define_9 q4007 mX12_open rfl (k_ok_some b6).1 (k_ok_some b6).2) mX12_open.2.2.1 mX12_open.2.2.2.2.1 (Nat.le_of_ble_eq_true rfl) (Nat.le_of_ble_eq_true rfl) rfl (fun q hq => pX12_open (by omega) hq) (fun x7 h8 hf => ?_)
  refine w_iconst dX8_define_12 (v := 0) (by decide) ?_
  refine w_istore dX8_define_13 (by decide) (ls' := [some (.ref this), some (.int p0), some (.int p1), some (.int x2), some (.int (0 : Int32)), none, none]) rfl ?_
  refine w_aload_n dX8_define_15 rfl rfl ?_
  obtain ⟨_, b9, hf⟩ := Option.bind_eq_some_iff.mp hf
  refine x_ctI hf (e_stV (Yc := YX8_need) (ci := 7) (av := []) (st := []) dX8_define_16 q2506 mX8_need rfl (k_ok_some b9).1 (k_ok_some b9).2) mX8_need.2.2.1 mX8_need.2.2.2.2.1 (Nat.le_of_ble_eq_true rfl) (Nat.le_of_ble_eq_true rfl) rfl (fun q hq => pX8_need (by omega) hq) (fun x10 h11 hf => ?_)
  refine w_istore dX8_define_19 (by decide) (ls' := [some (.ref this), some (.int p0), some (.int p1), some (.int x2), some (.int (0 : Int32)), some (.int x10), none]) rfl ?_
  exact (pX8_define_b21 hd hdr hrE N _ _ _ _ _ _ _ _ hf).to ⟨rfl, rfl, rfl, rfl, rfl, rfl, trivial⟩
abbrev cX3_set : ByteArray := prog_26_method_55_code
def yX3_set : MethodName := ⟨RX3, "set", "(IZ)V"⟩
def YX3_set : eY := (yX3_set, cX3_set, 6, none, [])
theorem mX3_set : e_mv YX3_set RX3 2 := ⟨q3906, qs190, q3907, by decide, by decide +kernel, (e_sig (by decide +kernel))⟩
theorem dX3_set_0 : decode cX3_set 0 = .ok (.iload_n 1, 1) := dc_27 (by decide +kernel)
theorem dX3_set_1 : decode cX3_set 1 = .ok (.tableswitch 202 58 65 #[47, 58, 96, 104, 149, 149, 149, 161], 47) := by decide +kernel
theorem dX3_set_48 : decode cX3_set 48 = .ok (.aload_n 0, 1) := dc_42 (by decide +kernel)
theorem dX3_set_49 : decode cX3_set 49 = .ok (.getfield 45, 3) := dc_180 (a := 0) (b := 45) (n := 45) (by decide +kernel)
theorem dX3_set_52 : decode cX3_set 52 = .ok (.iload_n 2, 1) := dc_28 (by decide +kernel)
theorem dX3_set_53 : decode cX3_set 53 = .ok (.invokevirtual 740, 3) := dc_182 (a := 2) (b := 228) (n := 740) (by decide +kernel)
theorem dX3_set_56 : decode cX3_set 56 = .ok (.goto 194, 3) := dc_167 (a := 0) (b := 194) (v := 194) (by decide +kernel)
theorem dX3_set_59 : decode cX3_set 59 = .ok (.aload_n 0, 1) := dc_42 (by decide +kernel)
theorem dX3_set_60 : decode cX3_set 60 = .ok (.getfield 45, 3) := dc_180 (a := 0) (b := 45) (n := 45) (by decide +kernel)
theorem dX3_set_63 : decode cX3_set 63 = .ok (.invokevirtual 744, 3) := dc_182 (a := 2) (b := 232) (n := 744) (by decide +kernel)
theorem dX3_set_66 : decode cX3_set 66 = .ok (.istore_n 3, 1) := dc_62 (by decide +kernel)
theorem dX3_set_67 : decode cX3_set 67 = .ok (.aload_n 0, 1) := dc_42 (by decide +kernel)
theorem dX3_set_68 : decode cX3_set 68 = .ok (.getfield 45, 3) := dc_180 (a := 0) (b := 45) (n := 45) (by decide +kernel)
theorem dX3_set_71 : decode cX3_set 71 = .ok (.invokevirtual 747, 3) := dc_182 (a := 2) (b := 235) (n := 747) (by decide +kernel)
theorem dX3_set_74 : decode cX3_set 74 = .ok (.aload_n 0, 1) := dc_42 (by decide +kernel)
theorem dX3_set_75 : decode cX3_set 75 = .ok (.getfield 53, 3) := dc_180 (a := 0) (b := 53) (n := 53) (by decide +kernel)
theorem dX3_set_78 : decode cX3_set 78 = .ok (.iload_n 3, 1) := dc_29 (by decide +kernel)
theorem dX3_set_79 : decode cX3_set 79 = .ok (.iconst 4, 1) := dc_7 (by decide +kernel)
theorem dX3_set_80 : decode cX3_set 80 = .ok (.aload_n 0, 1) := dc_42 (by decide +kernel)
theorem dX3_set_81 : decode cX3_set 81 = .ok (.getfield 45, 3) := dc_180 (a := 0) (b := 45) (n := 45) (by decide +kernel)
theorem dX3_set_84 : decode cX3_set 84 = .ok (.sipush 255, 3) := dc_17 (a := 0) (b := 255) (v := 255) (by decide +kernel)
theorem dX3_set_87 : decode cX3_set 87 = .ok (.invokevirtual 404, 3) := dc_182 (a := 1) (b := 148) (n := 404) (by decide +kernel)
theorem dX3_set_90 : decode cX3_set 90 = .ok (.iload_n 2, 1) := dc_28 (by decide +kernel)
theorem dX3_set_91 : decode cX3_set 91 = .ok (.invokevirtual 750, 3) := dc_182 (a := 2) (b := 238) (n := 750) (by decide +kernel)
theorem dX3_set_94 : decode cX3_set 94 = .ok (.goto 156, 3) := dc_167 (a := 0) (b := 156) (v := 156) (by decide +kernel)
theorem dX3_set_97 : decode cX3_set 97 = .ok (.aload_n 0, 1) := dc_42 (by decide +kernel)
theorem dX3_set_98 : decode cX3_set 98 = .ok (.iload_n 2, 1) := dc_28 (by decide +kernel)
theorem dX3_set_99 : decode cX3_set 99 = .ok (.invokevirtual 753, 3) := dc_182 (a := 2) (b := 241) (n := 753) (by decide +kernel)
theorem dX3_set_102 : decode cX3_set 102 = .ok (.goto 148, 3) := dc_167 (a := 0) (b := 148) (v := 148) (by decide +kernel)
theorem dX3_set_105 : decode cX3_set 105 = .ok (.aload_n 0, 1) := dc_42 (by decide +kernel)
theorem dX3_set_106 : decode cX3_set 106 = .ok (.getfield 45, 3) := dc_180 (a := 0) (b := 45) (n := 45) (by decide +kernel)
theorem dX3_set_109 : decode cX3_set 109 = .ok (.sipush 255, 3) := dc_17 (a := 0) (b := 255) (v := 255) (by decide +kernel)
theorem dX3_set_112 : decode cX3_set 112 = .ok (.invokevirtual 404, 3) := dc_182 (a := 1) (b := 148) (n := 404) (by decide +kernel)
theorem dX3_set_115 : decode cX3_set 115 = .ok (.istore 4, 2) := dc_54 (a := 4) (by decide +kernel)
theorem dX3_set_117 : decode cX3_set 117 = .ok (.aload_n 0, 1) := dc_42 (by decide +kernel)
theorem dX3_set_118 : decode cX3_set 118 = .ok (.getfield 45, 3) := dc_180 (a := 0) (b := 45) (n := 45) (by decide +kernel)
theorem dX3_set_121 : decode cX3_set 121 = .ok (.invokevirtual 747, 3) := dc_182 (a := 2) (b := 235) (n := 747) (by decide +kernel)
theorem dX3_set_124 : decode cX3_set 124 = .ok (.aload_n 0, 1) := dc_42 (by decide +kernel)
theorem dX3_set_125 : decode cX3_set 125 = .ok (.getfield 53, 3) := dc_180 (a := 0) (b := 53) (n := 53) (by decide +kernel)
theorem dX3_set_128 : decode cX3_set 128 = .ok (.sipush 1839, 3) := dc_17 (a := 7) (b := 47) (v := 1839) (by decide +kernel)
theorem dX3_set_131 : decode cX3_set 131 = .ok (.iload 4, 2) := dc_21 (a := 4) (by decide +kernel)
theorem dX3_set_133 : decode cX3_set 133 = .ok (.iadd, 1) := dc_96 (by decide +kernel)
theorem dX3_set_134 : decode cX3_set 134 = .ok (.aload_n 0, 1) := dc_42 (by decide +kernel)
theorem dX3_set_135 : decode cX3_set 135 = .ok (.getfield 45, 3) := dc_180 (a := 0) (b := 45) (n := 45) (by decide +kernel)
theorem dX3_set_138 : decode cX3_set 138 = .ok (.bipush 15, 2) := dc_16 (a := 15) (v := 15) (by decide +kernel)
theorem dX3_set_140 : decode cX3_set 140 = .ok (.invokevirtual 404, 3) := dc_182 (a := 1) (b := 148) (n := 404) (by decide +kernel)
theorem dX3_set_143 : decode cX3_set 143 = .ok (.iload_n 2, 1) := dc_28 (by decide +kernel)
theorem dX3_set_144 : decode cX3_set 144 = .ok (.invokevirtual 434, 3) := dc_182 (a := 1) (b := 178) (n := 434) (by decide +kernel)
theorem dX3_set_147 : decode cX3_set 147 = .ok (.goto 103, 3) := dc_167 (a := 0) (b := 103) (v := 103) (by decide +kernel)
theorem dX3_set_150 : decode cX3_set 150 = .ok (.aload_n 0, 1) := dc_42 (by decide +kernel)
theorem dX3_set_151 : decode cX3_set 151 = .ok (.getfield 45, 3) := dc_180 (a := 0) (b := 45) (n := 45) (by decide +kernel)
theorem dX3_set_154 : decode cX3_set 154 = .ok (.iload_n 1, 1) := dc_27 (by decide +kernel)
theorem dX3_set_155 : decode cX3_set 155 = .ok (.iload_n 2, 1) := dc_28 (by decide +kernel)
theorem dX3_set_156 : decode cX3_set 156 = .ok (.invokevirtual 756, 3) := dc_182 (a := 2) (b := 244) (n := 756) (by decide +kernel)
theorem dX3_set_159 : decode cX3_set 159 = .ok (.goto 91, 3) := dc_167 (a := 0) (b := 91) (v := 91) (by decide +kernel)
theorem dX3_set_162 : decode cX3_set 162 = .ok (.aload_n 0, 1) := dc_42 (by decide +kernel)
theorem dX3_set_163 : decode cX3_set 163 = .ok (.getfield 45, 3) := dc_180 (a := 0) (b := 45) (n := 45) (by decide +kernel)
theorem dX3_set_166 : decode cX3_set 166 = .ok (.sipush 255, 3) := dc_17 (a := 0) (b := 255) (v := 255) (by decide +kernel)
theorem dX3_set_169 : decode cX3_set 169 = .ok (.invokevirtual 404, 3) := dc_182 (a := 1) (b := 148) (n := 404) (by decide +kernel)
theorem dX3_set_172 : decode cX3_set 172 = .ok (.istore 5, 2) := dc_54 (a := 5) (by decide +kernel)
theorem dX3_set_174 : decode cX3_set 174 = .ok (.aload_n 0, 1) := dc_42 (by decide +kernel)
theorem dX3_set_175 : decode cX3_set 175 = .ok (.getfield 45, 3) := dc_180 (a := 0) (b := 45) (n := 45) (by decide +kernel)
theorem dX3_set_178 : decode cX3_set 178 = .ok (.invokevirtual 747, 3) := dc_182 (a := 2) (b := 235) (n := 747) (by decide +kernel)
theorem dX3_set_181 : decode cX3_set 181 = .ok (.aload_n 0, 1) := dc_42 (by decide +kernel)
theorem dX3_set_182 : decode cX3_set 182 = .ok (.aload_n 0, 1) := dc_42 (by decide +kernel)
theorem dX3_set_183 : decode cX3_set 183 = .ok (.getfield 45, 3) := dc_180 (a := 0) (b := 45) (n := 45) (by decide +kernel)
theorem dX3_set_186 : decode cX3_set 186 = .ok (.aload_n 0, 1) := dc_42 (by decide +kernel)
theorem dX3_set_187 : decode cX3_set 187 = .ok (.invokevirtual 421, 3) := dc_182 (a := 1) (b := 165) (n := 421) (by decide +kernel)
theorem dX3_set_190 : decode cX3_set 190 = .ok (.invokevirtual 401, 3) := dc_182 (a := 1) (b := 145) (n := 401) (by decide +kernel)
theorem dX3_set_193 : decode cX3_set 193 = .ok (.iload 5, 2) := dc_21 (a := 5) (by decide +kernel)
theorem dX3_set_195 : decode cX3_set 195 = .ok (.iconst 0, 1) := dc_3 (by decide +kernel)
theorem dX3_set_196 : decode cX3_set 196 = .ok (.iload_n 2, 1) := dc_28 (by decide +kernel)
theorem dX3_set_197 : decode cX3_set 197 = .ok (.invokevirtual 737, 3) := dc_182 (a := 2) (b := 225) (n := 737) (by decide +kernel)
theorem dX3_set_200 : decode cX3_set 200 = .ok (.goto 50, 3) := dc_167 (a := 0) (b := 50) (v := 50) (by decide +kernel)
theorem dX3_set_203 : decode cX3_set 203 = .ok (.iload_n 1, 1) := dc_27 (by decide +kernel)
theorem dX3_set_204 : decode cX3_set 204 = .ok (.bipush 67, 2) := dc_16 (a := 67) (v := 67) (by decide +kernel)
theorem dX3_set_206 : decode cX3_set 206 = .ok (.if_icmp .lt 15, 3) := dc_161 (a := 0) (b := 15) (v := 15) (by decide +kernel)
theorem dX3_set_209 : decode cX3_set 209 = .ok (.aload_n 0, 1) := dc_42 (by decide +kernel)
theorem dX3_set_210 : decode cX3_set 210 = .ok (.getfield 45, 3) := dc_180 (a := 0) (b := 45) (n := 45) (by decide +kernel)
theorem dX3_set_213 : decode cX3_set 213 = .ok (.iload_n 1, 1) := dc_27 (by decide +kernel)
theorem dX3_set_214 : decode cX3_set 214 = .ok (.iload_n 2, 1) := dc_28 (by decide +kernel)
theorem dX3_set_215 : decode cX3_set 215 = .ok (.invokevirtual 759, 3) := dc_182 (a := 2) (b := 247) (n := 759) (by decide +kernel)
theorem dX3_set_218 : decode cX3_set 218 = .ok (.goto 32, 3) := dc_167 (a := 0) (b := 32) (v := 32) (by decide +kernel)
theorem dX3_set_221 : decode cX3_set 221 = .ok (.aload_n 0, 1) := dc_42 (by decide +kernel)
theorem dX3_set_222 : decode cX3_set 222 = .ok (.getfield 45, 3) := dc_180 (a := 0) (b := 45) (n := 45) (by decide +kernel)
theorem dX3_set_225 : decode cX3_set 225 = .ok (.iload_n 1, 1) := dc_27 (by decide +kernel)
theorem dX3_set_226 : decode cX3_set 226 = .ok (.iload_n 2, 1) := dc_28 (by decide +kernel)
theorem dX3_set_227 : decode cX3_set 227 = .ok (.ifCond .ne 15, 3) := dc_154 (a := 0) (b := 15) (v := 15) (by decide +kernel)
theorem dX3_set_230 : decode cX3_set 230 = .ok (.iload_n 1, 1) := dc_27 (by decide +kernel)
theorem dX3_set_231 : decode cX3_set 231 = .ok (.bipush 56, 2) := dc_16 (a := 56) (v := 56) (by decide +kernel)
theorem dX3_set_233 : decode cX3_set 233 = .ok (.if_icmp .eq 9, 3) := dc_159 (a := 0) (b := 9) (v := 9) (by decide +kernel)
theorem dX3_set_236 : decode cX3_set 236 = .ok (.iload_n 1, 1) := dc_27 (by decide +kernel)
theorem dX3_set_237 : decode cX3_set 237 = .ok (.bipush 57, 2) := dc_16 (a := 57) (v := 57) (by decide +kernel)
theorem dX3_set_239 : decode cX3_set 239 = .ok (.if_icmp .ne 7, 3) := dc_160 (a := 0) (b := 7) (v := 7) (by decide +kernel)
theorem dX3_set_242 : decode cX3_set 242 = .ok (.iconst 1, 1) := dc_4 (by decide +kernel)
theorem dX3_set_243 : decode cX3_set 243 = .ok (.goto 4, 3) := dc_167 (a := 0) (b := 4) (v := 4) (by decide +kernel)
theorem dX3_set_246 : decode cX3_set 246 = .ok (.iconst 0, 1) := dc_3 (by decide +kernel)
theorem dX3_set_247 : decode cX3_set 247 = .ok (.invokevirtual 760, 3) := dc_182 (a := 2) (b := 248) (n := 760) (by decide +kernel)
theorem dX3_set_250 : decode cX3_set 250 = .ok (.return_, 1) := dc_177 (by decide +kernel)
def fX3_set_b250 (N : Nat) (rE : Nat → Int32 → eH → Option ((Unit ⊕ Nat) × eH)) (rN : Nat → eH → Option ((Int32 ⊕ Nat) × eH))  (h : eH) : Option ((Unit ⊕ Nat) × eH) :=
  some (.inl (), h)
theorem pX3_set_b250 {w : eW} {d : Nat} {dr : Nat} (hd : dr + 21 ≤ d + 1) (hdr : 12 ≤ dr) {N : Nat} {rE : Nat → Int32 → eH → Option ((Unit ⊕ Nat) × eH)} {rN : Nat → eH → Option ((Int32 ⊕ Nat) × eH)} (hrE : ∀ a t0 h q, rE a t0 h = some q → wm w dr YX8_expand [.ref a, .int t0] h (e_is (e_rt c_V q))) (hrN : ∀ a h q, rN a h = some q → wm w dr YX8_number [.ref a] h (e_is (e_rt c_I q)))  {h : eH} {q} (hf : fX3_set_b250 N rE rN h = some q) : wp w (d + 1) YX3_set 250 [none, none, none, none, none, none] [] h (e_is (e_rt c_V q)) := by
  unfold fX3_set_b250 at hf
  cases hf
  exact w_vret dX3_set_250 rfl rfl
def fX3_set_b247 (N : Nat) (rE : Nat → Int32 → eH → Option ((Unit ⊕ Nat) × eH)) (rN : Nat → eH → Option ((Int32 ⊕ Nat) × eH)) (s0 : Nat) (s1 : Int32) (s2 : Int32) (h : eH) : Option ((Unit ⊕ Nat) × eH) :=
  (k_ok 7 h s0).bind fun _ =>
  t_B (fX8_define N rE s0 s1 s2 h) fun x2 h3 =>
  fX3_set_b250 N rE rN h3
theorem pX3_set_b247 {w : eW} {d : Nat} {dr : Nat} (hd : dr + 21 ≤ d + 1) (hdr : 12 ≤ dr) {N : Nat} {rE : Nat → Int32 → eH → Option ((Unit ⊕ Nat) × eH)} {rN : Nat → eH → Option ((Int32 ⊕ Nat) × eH)} (hrE : ∀ a t0 h q, rE a t0 h = some q → wm w dr YX8_expand [.ref a, .int t0] h (e_is (e_rt c_V q))) (hrN : ∀ a h q, rN a h = some q → wm w dr YX8_number [.ref a] h (e_is (e_rt c_I q))) {s0 : Nat} {s1 : Int32} {s2 : Int32} {h : eH} {q} (hf : fX3_set_b247 N rE rN s0 s1 s2 h = some q) : wp w (d + 1) YX3_set 247 [none, none, none, none, none, none] [.int s2, .int s1, .ref s0] h (e_is (e_rt c_V q)) := by
  unfold fX3_set_b247 at hf
  obtain ⟨_, b1, hf⟩ := Option.bind_eq_some_iff.mp hf
  refine x_ctV hf (e_stVN (Yc := YX8_define) (ci := 7) (av := [.int s1, .int s2]) (st := []) dX3_set_247 q4003 mX8_define rfl (k_ok_some b1).1 (k_ok_some b1).2) mX8_define.2.2.1 mX8_define.2.2.2.2.1 (Nat.le_of_ble_eq_true rfl) (Nat.le_of_ble_eq_true rfl) rfl (fun q hq => pX8_define (by omega) hdr hrE hq) (fun x2 h3 hf => ?_)
  exact (pX3_set_b250 hd hdr hrE hrN hf).to trivial
def fX3_set_b242 (N : Nat) (rE : Nat → Int32 → eH → Option ((Unit ⊕ Nat) × eH)) (rN : Nat → eH → Option ((Int32 ⊕ Nat) × eH)) (s0 : Nat) (s1 : Int32) (h : eH) : Option ((Unit ⊕ Nat) × eH) :=
  fX3_set_b247 N rE rN s0 s1 (1 : Int32) h
theorem pX3_set_b242 {w : eW} {d : Nat} {dr : Nat} (hd : dr + 21 ≤ d + 1) (hdr : 12 ≤ dr) {N : Nat} {rE : Nat → Int32 → eH → Option ((Unit ⊕ Nat) × eH)} {rN : Nat → eH → Option ((Int32 ⊕ Nat) × eH)} (hrE : ∀ a t0 h q, rE a t0 h = some q → wm w dr YX8_expand [.ref a, .int t0] h (e_is (e_rt c_V q))) (hrN : ∀ a h q, rN a h = some q → wm w dr YX8_number [.ref a] h (e_is (e_rt c_I q))) {s0 : Nat} {s1 : Int32} {h : eH} {q} (hf : fX3_set_b242 N rE rN s0 s1 h = some q) : wp w (d + 1) YX3_set 242 [none, none, none, none, none, none] [.int s1, .ref s0] h (e_is (e_rt c_V q)) := by
  unfold fX3_set_b242 at hf
  refine w_iconst dX3_set_242 (v := 1) (by decide) ?_
  refine w_goto 247 dX3_set_243 (by decide) ?_
  exact (pX3_set_b247 hd hdr hrE hrN hf).to trivial
def fX3_set (N : Nat) (rE : Nat → Int32 → eH → Option ((Unit ⊕ Nat) × eH)) (rN : Nat → eH → Option ((Int32 ⊕ Nat) × eH)) (this : Nat) (p0 : Int32) (p1 : Int32) (h : eH) : Option ((Unit ⊕ Nat) × eH) :=
  if p0 = (58 : Int32) then
    (g_A 2 h this 5).bind fun a2 =>
    (k_ok 7 h a2).bind fun _ =>
    t_B (fX8_let N a2 p1 h) fun x5 h6 =>
    fX3_set_b250 N rE rN h6
  else
  if p0 = (59 : Int32) then
    (g_A 2 h this 5).bind fun a8 =>
    (k_ok 7 h a8).bind fun _ =>
    t_B (fX8_target N a8 h) fun x11 h12 =>
    (g_A 2 h12 this 5).bind fun a13 =>
    (k_ok 7 h12 a13).bind fun _ =>
    t_B (fX8_equals N rE a13 h12) fun x16 h17 =>
    (g_A 2 h17 this 6).bind fun a18 =>
    (g_A 2 h17 this 5).bind fun a20 =>
    (k_ok 7 h17 a20).bind fun _ =>
    t_B (fX8_within rN a20 (255 : Int32) h17) fun x23 h24 =>
    (k_ok 8 h24 a18).bind fun _ =>
    (fX9_mean N a18 x11 (4 : Int32) x23 p1 h24).bind fun q26 =>
    fX3_set_b250 N rE rN q26.2
  else
  if p0 = (60 : Int32) then
    (k_ok 2 h this).bind fun _ =>
    t_B (fX3_newFont N rE rN this p1 h) fun x29 h30 =>
    fX3_set_b250 N rE rN h30
  else
  if p0 = (61 : Int32) then
    (g_A 2 h this 5).bind fun a32 =>
    (k_ok 7 h a32).bind fun _ =>
    t_B (fX8_within rN a32 (255 : Int32) h) fun x35 h36 =>
    (g_A 2 h36 this 5).bind fun a37 =>
    (k_ok 7 h36 a37).bind fun _ =>
    t_B (fX8_equals N rE a37 h36) fun x40 h41 =>
    (g_A 2 h41 this 6).bind fun a42 =>
    (g_A 2 h41 this 5).bind fun a44 =>
    (k_ok 7 h41 a44).bind fun _ =>
    t_B (fX8_within rN a44 (15 : Int32) h41) fun x47 h48 =>
    (k_ok 8 h48 a42).bind fun _ =>
    (fX9_set N a42 ((1839 : Int32) + x35) x47 p1 h48).bind fun q50 =>
    fX3_set_b250 N rE rN q50.2
  else
  if p0 = (62 : Int32) then
    (g_A 2 h this 5).bind fun a52 =>
    (k_ok 7 h a52).bind fun _ =>
    t_B (fX8_reckon N rE rN a52 p0 p1 h) fun x55 h56 =>
    fX3_set_b250 N rE rN h56
  else
  if p0 = (63 : Int32) then
    (g_A 2 h this 5).bind fun a58 =>
    (k_ok 7 h a58).bind fun _ =>
    t_B (fX8_reckon N rE rN a58 p0 p1 h) fun x61 h62 =>
    fX3_set_b250 N rE rN h62
  else
  if p0 = (64 : Int32) then
    (g_A 2 h this 5).bind fun a64 =>
    (k_ok 7 h a64).bind fun _ =>
    t_B (fX8_reckon N rE rN a64 p0 p1 h) fun x67 h68 =>
    fX3_set_b250 N rE rN h68
  else
  if p0 = (65 : Int32) then
    (g_A 2 h this 5).bind fun a70 =>
    (k_ok 7 h a70).bind fun _ =>
    t_B (fX8_within rN a70 (255 : Int32) h) fun x73 h74 =>
    (g_A 2 h74 this 5).bind fun a75 =>
    (k_ok 7 h74 a75).bind fun _ =>
    t_B (fX8_equals N rE a75 h74) fun x78 h79 =>
    (g_A 2 h79 this 5).bind fun a80 =>
    (k_ok 2 h79 this).bind fun _ =>
    t_B (fX3_solid N rE this h79) fun x83 h84 =>
    (k_ok 7 h84 a80).bind fun _ =>
    (fX8_primitive a80 x83 h84).bind fun q86 =>
    (k_ok 2 q86.2 this).bind fun _ =>
    t_B (fX3_readBox N rE rN this q86.1 x73 (0 : Int32) p1 q86.2) fun x88 h89 =>
    fX3_set_b250 N rE rN h89
  else
  if p0 < (67 : Int32) then
    (g_A 2 h this 5).bind fun a91 =>
    if ¬ p1 = 0 then
      fX3_set_b242 N rE rN a91 p0 h
    else
      if p0 = (56 : Int32) then
        fX3_set_b242 N rE rN a91 p0 h
      else
        if ¬ p0 = (57 : Int32) then
          fX3_set_b247 N rE rN a91 p0 (0 : Int32) h
        else
          fX3_set_b242 N rE rN a91 p0 h
  else
    (g_A 2 h this 5).bind fun a96 =>
    (k_ok 7 h a96).bind fun _ =>
    t_B (fX8_set N rE rN a96 p0 p1 h) fun x99 h100 =>
    fX3_set_b250 N rE rN h100
theorem pX3_set {w : eW} {d : Nat} {dr : Nat} (hd : dr + 21 ≤ d) (hdr : 12 ≤ dr) {N : Nat} {rE : Nat → Int32 → eH → Option ((Unit ⊕ Nat) × eH)} {rN : Nat → eH → Option ((Int32 ⊕ Nat) × eH)} (hrE : ∀ a t0 h q, rE a t0 h = some q → wm w dr YX8_expand [.ref a, .int t0] h (e_is (e_rt c_V q))) (hrN : ∀ a h q, rN a h = some q → wm w dr YX8_number [.ref a] h (e_is (e_rt c_I q))) {this : Nat} {p0 : Int32} {p1 : Int32} {h : eH} {q} (hf : fX3_set N rE rN this p0 p1 h = some q) : wm w d YX3_set [.ref this, .int p0, .int p1] h (e_is (e_rt c_V q)) := by
  obtain ⟨d, rfl⟩ : ∃ e, d = e + 1 := ⟨d - 1, by omega⟩
  show wp w (d + 1) YX3_set 0 [some (.ref this), some (.int p0), some (.int p1), none, none, none] [] h _
  unfold fX3_set at hf
  refine w_iload_n dX3_set_0 rfl rfl ?_
  by_cases c1 : p0 = (58 : Int32)
  · replace hf := (if_pos c1).symm.trans hf
    refine w_tableIn 48 dX3_set_1 (by rw [c1]; decide) (by rw [c1]; decide) (by rw [c1]; rfl) (by decide) ?_
    refine w_aload_n dX3_set_48 rfl rfl ?_
    obtain ⟨a2, b3, hf⟩ := Option.bind_eq_some_iff.mp hf
    refine GX3_45 b3 dX3_set_49 rfl ?_
    refine w_iload_n dX3_set_52 rfl rfl ?_
    obtain ⟨_, b4, hf⟩ := Option.bind_eq_some_iff.mp hf
    refine x_ctV hf (e_stVN (Yc := YX8_let) (ci := 7) (av := [.int p1]) (st := []) dX3_set_53 q3908 mX8_let rfl (k_ok_some b4).1 (k_ok_some b4).2) mX8_let.2.2.1 mX8_let.2.2.2.2.1 (Nat.le_of_ble_eq_true rfl) (Nat.le_of_ble_eq_true rfl) rfl (fun q hq => pX8_let (by omega) hq) (fun x5 h6 hf => ?_)
    refine w_goto 250 dX3_set_56 (by decide) ?_
    exact (pX3_set_b250 hd hdr hrE hrN hf).to trivial
  replace hf := (if_neg c1).symm.trans hf
  by_cases c7 : p0 = (59 : Int32)
  · replace hf := (if_pos c7).symm.trans hf
    refine w_tableIn 59 dX3_set_1 (by rw [c7]; decide) (by rw [c7]; decide) (by rw [c7]; rfl) (by decide) ?_
    refine w_aload_n dX3_set_59 rfl rfl ?_
    obtain ⟨a8, b9, hf⟩ := Option.bind_eq_some_iff.mp hf
    refine GX3_45 b9 dX3_set_60 rfl ?_
    obtain ⟨_, b10, hf⟩ := Option.bind_eq_some_iff.mp hf
    refine x_ctI hf (e_stVN (Yc := YX8_target) (ci := 7) (av := []) (st := []) dX3_set_63 q3916 mX8_target rfl (k_ok_some b10).1 (k_ok_some b10).2) mX8_target.2.2.1 mX8_target.2.2.2.2.1 (Nat.le_of_ble_eq_true rfl) (Nat.le_of_ble_eq_true rfl) rfl (fun q hq => pX8_target (by omega) hq) (fun x11 h12 hf => ?_)
    refine w_istore_n dX3_set_66 rfl (by decide) (ls' := [some (.ref this), some (.int p0), some (.int p1), some (.int x11), none, none]) rfl ?_
    refine w_aload_n dX3_set_67 rfl rfl ?_
    obtain ⟨a13, b14, hf⟩ := Option.bind_eq_some_iff.mp hf
    refine GX3_45 b14 dX3_set_68 rfl ?_
    obtain ⟨_, b15, hf⟩ := Option.bind_eq_some_iff.mp hf
    refine x_ctV hf (e_stVN (Yc := YX8_equals) (ci := 7) (av := []) (st := []) dX3_set_71 q3917 mX8_equals rfl (k_ok_some b15).1 (k_ok_some b15).2) mX8_equals.2.2.1 mX8_equals.2.2.2.2.1 (Nat.le_of_ble_eq_true rfl) (Nat.le_of_ble_eq_true rfl) rfl (fun q hq => pX8_equals (by omega) hdr hrE hq) (fun x16 h17 hf => ?_)
    refine w_aload_n dX3_set_74 rfl rfl ?_
    obtain ⟨a18, b19, hf⟩ := Option.bind_eq_some_iff.mp hf
    refine GX3_53 b19 dX3_set_75 rfl ?_
    refine w_iload_n dX3_set_78 rfl rfl ?_
    refine w_iconst dX3_set_79 (v := 4) (by decide) ?_
    refine w_aload_n dX3_set_80 rfl rfl ?_
    obtain ⟨a20, b21, hf⟩ := Option.bind_eq_some_iff.mp hf
    refine GX3_45 b21 dX3_set_81 rfl ?_
    refine w_sipush dX3_set_84 (v := 255) (by decide) ?_
    obtain ⟨_, b22, hf⟩ := Option.bind_eq_some_iff.mp hf
    refine x_ctI hf (e_stVN (Yc := YX8_within) (ci := 7) (av := [.int (255 : Int32)]) (st := [.int (4 : Int32), .int x11, .ref a18]) dX3_set_87 q3892 mX8_within rfl (k_ok_some b22).1 (k_ok_some b22).2) mX8_within.2.2.1 mX8_within.2.2.2.2.1 (Nat.le_of_ble_eq_true rfl) (Nat.le_of_ble_eq_true rfl) rfl (fun q hq => pX8_within (by omega) hdr hrN hq) (fun x23 h24 hf => ?_)
    refine w_iload_n dX3_set_90 rfl rfl ?_
    obtain ⟨_, b25, hf⟩ := Option.bind_eq_some_iff.mp hf
    refine x_cnV hf (e_stV (Yc := YX9_mean) (ci := 8) (av := [.int x11, .int (4 : Int32), .int x23, .int p1]) (st := []) dX3_set_91 q3921 mX9_mean rfl (k_ok_some b25).1 (k_ok_some b25).2) mX9_mean.2.2.1 mX9_mean.2.2.2.2.1 (Nat.le_of_ble_eq_true rfl) (Nat.le_of_ble_eq_true rfl) (fun q hq => pX9_mean (by omega) hq) (fun q26 hf => ?_)
    refine w_goto 250 dX3_set_94 (by decide) ?_
    exact (pX3_set_b250 hd hdr hrE hrN hf).to trivial
  replace hf := (if_neg c7).symm.trans hf
  by_cases c27 : p0 = (60 : Int32)
  · replace hf := (if_pos c27).symm.trans hf
    refine w_tableIn 97 dX3_set_1 (by rw [c27]; decide) (by rw [c27]; decide) (by rw [c27]; rfl) (by decide) ?_
    refine w_aload_n dX3_set_97 rfl rfl ?_
    refine w_iload_n dX3_set_98 rfl rfl ?_
    obtain ⟨_, b28, hf⟩ := Option.bind_eq_some_iff.mp hf
    refine x_ctV hf (e_stV (Yc := YX3_newFont) (ci := 2) (av := [.int p1]) (st := []) dX3_set_99 q3922 mX3_newFont rfl (k_ok_some b28).1 (k_ok_some b28).2) mX3_newFont.2.2.1 mX3_newFont.2.2.2.2.1 (Nat.le_of_ble_eq_true rfl) (Nat.le_of_ble_eq_true rfl) rfl (fun q hq => pX3_newFont (by omega) hdr hrE hrN hq) (fun x29 h30 hf => ?_)
    refine w_goto 250 dX3_set_102 (by decide) ?_
    exact (pX3_set_b250 hd hdr hrE hrN hf).to trivial
  replace hf := (if_neg c27).symm.trans hf
  by_cases c31 : p0 = (61 : Int32)
  · replace hf := (if_pos c31).symm.trans hf
    refine w_tableIn 105 dX3_set_1 (by rw [c31]; decide) (by rw [c31]; decide) (by rw [c31]; rfl) (by decide) ?_
    refine w_aload_n dX3_set_105 rfl rfl ?_
    obtain ⟨a32, b33, hf⟩ := Option.bind_eq_some_iff.mp hf
    refine GX3_45 b33 dX3_set_106 rfl ?_
    refine w_sipush dX3_set_109 (v := 255) (by decide) ?_
    obtain ⟨_, b34, hf⟩ := Option.bind_eq_some_iff.mp hf
    refine x_ctI hf (e_stVN (Yc := YX8_within) (ci := 7) (av := [.int (255 : Int32)]) (st := []) dX3_set_112 q3892 mX8_within rfl (k_ok_some b34).1 (k_ok_some b34).2) mX8_within.2.2.1 mX8_within.2.2.2.2.1 (Nat.le_of_ble_eq_true rfl) (Nat.le_of_ble_eq_true rfl) rfl (fun q hq => pX8_within (by omega) hdr hrN hq) (fun x35 h36 hf => ?_)
    refine w_istore dX3_set_115 (by decide) (ls' := [some (.ref this), some (.int p0), some (.int p1), none, some (.int x35), none]) rfl ?_
    refine w_aload_n dX3_set_117 rfl rfl ?_
    obtain ⟨a37, b38, hf⟩ := Option.bind_eq_some_iff.mp hf
    refine GX3_45 b38 dX3_set_118 rfl ?_
    obtain ⟨_, b39, hf⟩ := Option.bind_eq_some_iff.mp hf
    refine x_ctV hf (e_stVN (Yc := YX8_equals) (ci := 7) (av := []) (st := []) dX3_set_121 q3917 mX8_equals rfl (k_ok_some b39).1 (k_ok_some b39).2) mX8_equals.2.2.1 mX8_equals.2.2.2.2.1 (Nat.le_of_ble_eq_true rfl) (Nat.le_of_ble_eq_true rfl) rfl (fun q hq => pX8_equals (by omega) hdr hrE hq) (fun x40 h41 hf => ?_)
    refine w_aload_n dX3_set_124 rfl rfl ?_
    obtain ⟨a42, b43, hf⟩ := Option.bind_eq_some_iff.mp hf
    refine GX3_53 b43 dX3_set_125 rfl ?_
    refine w_sipush dX3_set_128 (v := 1839) (by decide) ?_
    refine w_iload dX3_set_131 rfl ?_
    refine w_iadd dX3_set_133 ?_
    refine w_aload_n dX3_set_134 rfl rfl ?_
    obtain ⟨a44, b45, hf⟩ := Option.bind_eq_some_iff.mp hf
    refine GX3_45 b45 dX3_set_135 rfl ?_
    refine w_bipush dX3_set_138 (v := 15) (by decide) ?_
    obtain ⟨_, b46, hf⟩ := Option.bind_eq_some_iff.mp hf
    refine x_ctI hf (e_stVN (Yc := YX8_within) (ci := 7) (av := [.int (15 : Int32)]) (st := [.int ((1839 : Int32) + x35), .ref a42]) dX3_set_140 q3892 mX8_within rfl (k_ok_some b46).1 (k_ok_some b46).2) mX8_within.2.2.1 mX8_within.2.2.2.2.1 (Nat.le_of_ble_eq_true rfl) (Nat.le_of_ble_eq_true rfl) rfl (fun q hq => pX8_within (by omega) hdr hrN hq) (fun x47 h48 hf => ?_)
    refine w_iload_n dX3_set_143 rfl rfl ?_
    obtain ⟨_, b49, hf⟩ := Option.bind_eq_some_iff.mp hf
    refine x_cnV hf (e_stV (Yc := YX9_set) (ci := 8) (av := [.int ((1839 : Int32) + x35), .int x47, .int p1]) (st := []) dX3_set_144 q3474 mX9_set rfl (k_ok_some b49).1 (k_ok_some b49).2) mX9_set.2.2.1 mX9_set.2.2.2.2.1 (Nat.le_of_ble_eq_true rfl) (Nat.le_of_ble_eq_true rfl) (fun q hq => pX9_set (by omega) hq) (fun q50 hf => ?_)
    refine w_goto 250 dX3_set_147 (by decide) ?_
    exact (pX3_set_b250 hd hdr hrE hrN hf).to trivial
  replace hf := (if_neg c31).symm.trans hf
  by_cases c51 : p0 = (62 : Int32)
  · replace hf := (if_pos c51).symm.trans hf
    refine w_tableIn 150 dX3_set_1 (by rw [c51]; decide) (by rw [c51]; decide) (by rw [c51]; rfl) (by decide) ?_
    refine w_aload_n dX3_set_150 rfl rfl ?_
    obtain ⟨a52, b53, hf⟩ := Option.bind_eq_some_iff.mp hf
    refine GX3_45 b53 dX3_set_151 rfl ?_
    refine w_iload_n dX3_set_154 rfl rfl ?_
    refine w_iload_n dX3_set_155 rfl rfl ?_
    obtain ⟨_, b54, hf⟩ := Option.bind_eq_some_iff.mp hf
    refine x_ctV hf (e_stVN (Yc := YX8_reckon) (ci := 7) (av := [.int p0, .int p1]) (st := []) dX3_set_156 q3948 mX8_reckon rfl (k_ok_some b54).1 (k_ok_some b54).2) mX8_reckon.2.2.1 mX8_reckon.2.2.2.2.1 (Nat.le_of_ble_eq_true rfl) (Nat.le_of_ble_eq_true rfl) rfl (fun q hq => pX8_reckon (by omega) hdr hrE hrN hq) (fun x55 h56 hf => ?_)
    refine w_goto 250 dX3_set_159 (by decide) ?_
    exact (pX3_set_b250 hd hdr hrE hrN hf).to trivial
  replace hf := (if_neg c51).symm.trans hf
  by_cases c57 : p0 = (63 : Int32)
  · replace hf := (if_pos c57).symm.trans hf
    refine w_tableIn 150 dX3_set_1 (by rw [c57]; decide) (by rw [c57]; decide) (by rw [c57]; rfl) (by decide) ?_
    refine w_aload_n dX3_set_150 rfl rfl ?_
    obtain ⟨a58, b59, hf⟩ := Option.bind_eq_some_iff.mp hf
    refine GX3_45 b59 dX3_set_151 rfl ?_
    refine w_iload_n dX3_set_154 rfl rfl ?_
    refine w_iload_n dX3_set_155 rfl rfl ?_
    obtain ⟨_, b60, hf⟩ := Option.bind_eq_some_iff.mp hf
    refine x_ctV hf (e_stVN (Yc := YX8_reckon) (ci := 7) (av := [.int p0, .int p1]) (st := []) dX3_set_156 q3948 mX8_reckon rfl (k_ok_some b60).1 (k_ok_some b60).2) mX8_reckon.2.2.1 mX8_reckon.2.2.2.2.1 (Nat.le_of_ble_eq_true rfl) (Nat.le_of_ble_eq_true rfl) rfl (fun q hq => pX8_reckon (by omega) hdr hrE hrN hq) (fun x61 h62 hf => ?_)
    refine w_goto 250 dX3_set_159 (by decide) ?_
    exact (pX3_set_b250 hd hdr hrE hrN hf).to trivial
  replace hf := (if_neg c57).symm.trans hf
  by_cases c63 : p0 = (64 : Int32)
  · replace hf := (if_pos c63).symm.trans hf
    refine w_tableIn 150 dX3_set_1 (by rw [c63]; decide) (by rw [c63]; decide) (by rw [c63]; rfl) (by decide) ?_
    refine w_aload_n dX3_set_150 rfl rfl ?_
    obtain ⟨a64, b65, hf⟩ := Option.bind_eq_some_iff.mp hf
    refine GX3_45 b65 dX3_set_151 rfl ?_
    refine w_iload_n dX3_set_154 rfl rfl ?_
    refine w_iload_n dX3_set_155 rfl rfl ?_
    obtain ⟨_, b66, hf⟩ := Option.bind_eq_some_iff.mp hf
    refine x_ctV hf (e_stVN (Yc := YX8_reckon) (ci := 7) (av := [.int p0, .int p1]) (st := []) dX3_set_156 q3948 mX8_reckon rfl (k_ok_some b66).1 (k_ok_some b66).2) mX8_reckon.2.2.1 mX8_reckon.2.2.2.2.1 (Nat.le_of_ble_eq_true rfl) (Nat.le_of_ble_eq_true rfl) rfl (fun q hq => pX8_reckon (by omega) hdr hrE hrN hq) (fun x67 h68 hf => ?_)
    refine w_goto 250 dX3_set_159 (by decide) ?_
    exact (pX3_set_b250 hd hdr hrE hrN hf).to trivial
  replace hf := (if_neg c63).symm.trans hf
  by_cases c69 : p0 = (65 : Int32)
  · replace hf := (if_pos c69).symm.trans hf
    refine w_tableIn 162 dX3_set_1 (by rw [c69]; decide) (by rw [c69]; decide) (by rw [c69]; rfl) (by decide) ?_
    refine w_aload_n dX3_set_162 rfl rfl ?_
    obtain ⟨a70, b71, hf⟩ := Option.bind_eq_some_iff.mp hf
    refine GX3_45 b71 dX3_set_163 rfl ?_
    refine w_sipush dX3_set_166 (v := 255) (by decide) ?_
    obtain ⟨_, b72, hf⟩ := Option.bind_eq_some_iff.mp hf
    refine x_ctI hf (e_stVN (Yc := YX8_within) (ci := 7) (av := [.int (255 : Int32)]) (st := []) dX3_set_169 q3892 mX8_within rfl (k_ok_some b72).1 (k_ok_some b72).2) mX8_within.2.2.1 mX8_within.2.2.2.2.1 (Nat.le_of_ble_eq_true rfl) (Nat.le_of_ble_eq_true rfl) rfl (fun q hq => pX8_within (by omega) hdr hrN hq) (fun x73 h74 hf => ?_)
    refine w_istore dX3_set_172 (by decide) (ls' := [some (.ref this), some (.int p0), some (.int p1), none, none, some (.int x73)]) rfl ?_
    refine w_aload_n dX3_set_174 rfl rfl ?_
    obtain ⟨a75, b76, hf⟩ := Option.bind_eq_some_iff.mp hf
    refine GX3_45 b76 dX3_set_175 rfl ?_
    obtain ⟨_, b77, hf⟩ := Option.bind_eq_some_iff.mp hf
    refine x_ctV hf (e_stVN (Yc := YX8_equals) (ci := 7) (av := []) (st := []) dX3_set_178 q3917 mX8_equals rfl (k_ok_some b77).1 (k_ok_some b77).2) mX8_equals.2.2.1 mX8_equals.2.2.2.2.1 (Nat.le_of_ble_eq_true rfl) (Nat.le_of_ble_eq_true rfl) rfl (fun q hq => pX8_equals (by omega) hdr hrE hq) (fun x78 h79 hf => ?_)
    refine w_aload_n dX3_set_181 rfl rfl ?_
    refine w_aload_n dX3_set_182 rfl rfl ?_
    obtain ⟨a80, b81, hf⟩ := Option.bind_eq_some_iff.mp hf
    refine GX3_45 b81 dX3_set_183 rfl ?_
    refine w_aload_n dX3_set_186 rfl rfl ?_
    obtain ⟨_, b82, hf⟩ := Option.bind_eq_some_iff.mp hf
    refine x_ctI hf (e_stV (Yc := YX3_solid) (ci := 2) (av := []) (st := [.ref a80, .ref this]) dX3_set_187 q3897 mX3_solid rfl (k_ok_some b82).1 (k_ok_some b82).2) mX3_solid.2.2.1 mX3_solid.2.2.2.2.1 (Nat.le_of_ble_eq_true rfl) (Nat.le_of_ble_eq_true rfl) rfl (fun q hq => pX3_solid (by omega) hdr hrE hq) (fun x83 h84 hf => ?_)
    obtain ⟨_, b85, hf⟩ := Option.bind_eq_some_iff.mp hf
    refine x_cnI hf (e_stVN (Yc := YX8_primitive) (ci := 7) (av := [.int x83]) (st := [.ref this]) dX3_set_190 q3903 mX8_primitive rfl (k_ok_some b85).1 (k_ok_some b85).2) mX8_primitive.2.2.1 mX8_primitive.2.2.2.2.1 (Nat.le_of_ble_eq_true rfl) (Nat.le_of_ble_eq_true rfl) (fun q hq => pX8_primitive (by omega) hq) (fun q86 hf => ?_)
    refine w_iload dX3_set_193 rfl ?_
    refine w_iconst dX3_set_195 (v := 0) (by decide) ?_
    refine w_iload_n dX3_set_196 rfl rfl ?_
    obtain ⟨_, b87, hf⟩ := Option.bind_eq_some_iff.mp hf
    refine x_ctV hf (e_stV (Yc := YX3_readBox) (ci := 2) (av := [.int q86.1, .int x73, .int (0 : Int32), .int p1]) (st := []) dX3_set_197 q3992 mX3_readBox rfl (k_ok_some b87).1 (k_ok_some b87).2) mX3_readBox.2.2.1 mX3_readBox.2.2.2.2.1 (Nat.le_of_ble_eq_true rfl) (Nat.le_of_ble_eq_true rfl) rfl (fun q hq => pX3_readBox (by omega) hdr hrE hrN hq) (fun x88 h89 hf => ?_)
    refine w_goto 250 dX3_set_200 (by decide) ?_
    exact (pX3_set_b250 hd hdr hrE hrN hf).to trivial
  replace hf := (if_neg c69).symm.trans hf
  refine w_tableOut 203 dX3_set_1 (by have n0 := sw_ne c1 (by decide : (58 : Int32).toInt = 58); have n1 := sw_ne c7 (by decide : (59 : Int32).toInt = 59); have n2 := sw_ne c27 (by decide : (60 : Int32).toInt = 60); have n3 := sw_ne c31 (by decide : (61 : Int32).toInt = 61); have n4 := sw_ne c51 (by decide : (62 : Int32).toInt = 62); have n5 := sw_ne c57 (by decide : (63 : Int32).toInt = 63); have n6 := sw_ne c63 (by decide : (64 : Int32).toInt = 64); have n7 := sw_ne c69 (by decide : (65 : Int32).toInt = 65); omega) (by decide) ?_
  refine w_iload_n dX3_set_203 rfl rfl ?_
  refine w_bipush dX3_set_204 (v := 67) (by decide) ?_
  refine w_icmp_lt 221 dX3_set_206 (by decide) (fun c90 => ?_) (fun c90 => ?_)
  · replace hf := (if_pos (show p0 < (67 : Int32) from c90)).symm.trans hf
    refine w_aload_n dX3_set_221 rfl rfl ?_
    obtain ⟨a91, b92, hf⟩ := Option.bind_eq_some_iff.mp hf
    refine GX3_45 b92 dX3_set_222 rfl ?_
    refine w_iload_n dX3_set_225 rfl rfl ?_
    refine w_iload_n dX3_set_226 rfl rfl ?_
    refine w_if_ne 242 dX3_set_227 (by decide) (fun c93 => ?_) (fun c93 => ?_)
    · replace hf := (if_pos (show ¬ p1 = 0 from c93)).symm.trans hf
      exact (pX3_set_b242 hd hdr hrE hrN hf).to trivial
    · replace hf := (if_neg (show ¬ (¬ p1 = 0) from (fun z => z c93))).symm.trans hf
      refine w_iload_n dX3_set_230 rfl rfl ?_
      refine w_bipush dX3_set_231 (v := 56) (by decide) ?_
      refine w_icmp_eq 242 dX3_set_233 (by decide) (fun c94 => ?_) (fun c94 => ?_)
      · replace hf := (if_pos (show p0 = (56 : Int32) from c94)).symm.trans hf
        exact (pX3_set_b242 hd hdr hrE hrN hf).to trivial
      · replace hf := (if_neg (show ¬ (p0 = (56 : Int32)) from c94)).symm.trans hf
        refine w_iload_n dX3_set_236 rfl rfl ?_
        refine w_bipush dX3_set_237 (v := 57) (by decide) ?_
        refine w_icmp_ne 246 dX3_set_239 (by decide) (fun c95 => ?_) (fun c95 => ?_)
        · replace hf := (if_pos (show ¬ p0 = (57 : Int32) from c95)).symm.trans hf
          refine w_iconst dX3_set_246 (v := 0) (by decide) ?_
          exact (pX3_set_b247 hd hdr hrE hrN hf).to trivial
        · replace hf := (if_neg (show ¬ (¬ p0 = (57 : Int32)) from (fun z => z c95))).symm.trans hf
          exact (pX3_set_b242 hd hdr hrE hrN hf).to trivial
  · replace hf := (if_neg (show ¬ (p0 < (67 : Int32)) from c90)).symm.trans hf
    refine w_aload_n dX3_set_209 rfl rfl ?_
    obtain ⟨a96, b97, hf⟩ := Option.bind_eq_some_iff.mp hf
    refine GX3_45 b97 dX3_set_210 rfl ?_
    refine w_iload_n dX3_set_213 rfl rfl ?_
    refine w_iload_n dX3_set_214 rfl rfl ?_
    obtain ⟨_, b98, hf⟩ := Option.bind_eq_some_iff.mp hf
    refine x_ctV hf (e_stVN (Yc := YX8_set) (ci := 7) (av := [.int p0, .int p1]) (st := []) dX3_set_215 q3998 mX8_set rfl (k_ok_some b98).1 (k_ok_some b98).2) mX8_set.2.2.1 mX8_set.2.2.2.2.1 (Nat.le_of_ble_eq_true rfl) (Nat.le_of_ble_eq_true rfl) rfl (fun q hq => pX8_set (by omega) hdr hrE hrN hq) (fun x99 h100 hf => ?_)
    refine w_goto 250 dX3_set_218 (by decide) ?_
    exact (pX3_set_b250 hd hdr hrE hrN hf).to trivial
abbrev cX3_actGlobal : ByteArray := prog_26_method_54_code
def yX3_actGlobal : MethodName := ⟨RX3, "actGlobal", "()V"⟩
def YX3_actGlobal : eY := (yX3_actGlobal, cX3_actGlobal, 2, none, [])
theorem mX3_actGlobal : e_mv YX3_actGlobal RX3 0 := ⟨q3895, qs188, q3896, by decide, by decide +kernel, (e_sig (by decide +kernel))⟩
theorem dX3_actGlobal_0 : decode cX3_actGlobal 0 = .ok (.bipush 66, 2) := dc_16 (a := 66) (v := 66) (by decide +kernel)
theorem dX3_actGlobal_2 : decode cX3_actGlobal 2 = .ok (.istore_n 1, 1) := dc_60 (by decide +kernel)
theorem dX3_actGlobal_3 : decode cX3_actGlobal 3 = .ok (.iload_n 1, 1) := dc_27 (by decide +kernel)
theorem dX3_actGlobal_4 : decode cX3_actGlobal 4 = .ok (.bipush 66, 2) := dc_16 (a := 66) (v := 66) (by decide +kernel)
theorem dX3_actGlobal_6 : decode cX3_actGlobal 6 = .ok (.if_icmp .ne 18, 3) := dc_160 (a := 0) (b := 18) (v := 18) (by decide +kernel)
theorem dX3_actGlobal_9 : decode cX3_actGlobal 9 = .ok (.aload_n 0, 1) := dc_42 (by decide +kernel)
theorem dX3_actGlobal_10 : decode cX3_actGlobal 10 = .ok (.getfield 45, 3) := dc_180 (a := 0) (b := 45) (n := 45) (by decide +kernel)
theorem dX3_actGlobal_13 : decode cX3_actGlobal 13 = .ok (.aload_n 0, 1) := dc_42 (by decide +kernel)
theorem dX3_actGlobal_14 : decode cX3_actGlobal 14 = .ok (.invokevirtual 421, 3) := dc_182 (a := 1) (b := 165) (n := 421) (by decide +kernel)
theorem dX3_actGlobal_17 : decode cX3_actGlobal 17 = .ok (.invokevirtual 401, 3) := dc_182 (a := 1) (b := 145) (n := 401) (by decide +kernel)
theorem dX3_actGlobal_20 : decode cX3_actGlobal 20 = .ok (.istore_n 1, 1) := dc_60 (by decide +kernel)
theorem dX3_actGlobal_21 : decode cX3_actGlobal 21 = .ok (.goto (-18), 3) := dc_167 (a := 255) (b := 238) (v := -18) (by decide +kernel)
theorem dX3_actGlobal_24 : decode cX3_actGlobal 24 = .ok (.aload_n 0, 1) := dc_42 (by decide +kernel)
theorem dX3_actGlobal_25 : decode cX3_actGlobal 25 = .ok (.getfield 14, 3) := dc_180 (a := 0) (b := 14) (n := 14) (by decide +kernel)
theorem dX3_actGlobal_28 : decode cX3_actGlobal 28 = .ok (.iload_n 1, 1) := dc_27 (by decide +kernel)
theorem dX3_actGlobal_29 : decode cX3_actGlobal 29 = .ok (.bipush 54, 2) := dc_16 (a := 54) (v := 54) (by decide +kernel)
theorem dX3_actGlobal_31 : decode cX3_actGlobal 31 = .ok (.if_icmp .lt 7, 3) := dc_161 (a := 0) (b := 7) (v := 7) (by decide +kernel)
theorem dX3_actGlobal_34 : decode cX3_actGlobal 34 = .ok (.iconst 1, 1) := dc_4 (by decide +kernel)
theorem dX3_actGlobal_35 : decode cX3_actGlobal 35 = .ok (.goto 4, 3) := dc_167 (a := 0) (b := 4) (v := 4) (by decide +kernel)
theorem dX3_actGlobal_38 : decode cX3_actGlobal 38 = .ok (.iconst 0, 1) := dc_3 (by decide +kernel)
theorem dX3_actGlobal_39 : decode cX3_actGlobal 39 = .ok (.bipush 6, 2) := dc_16 (a := 6) (v := 6) (by decide +kernel)
theorem dX3_actGlobal_41 : decode cX3_actGlobal 41 = .ok (.invokevirtual 289, 3) := dc_182 (a := 1) (b := 33) (n := 289) (by decide +kernel)
theorem dX3_actGlobal_44 : decode cX3_actGlobal 44 = .ok (.aload_n 0, 1) := dc_42 (by decide +kernel)
theorem dX3_actGlobal_45 : decode cX3_actGlobal 45 = .ok (.iload_n 1, 1) := dc_27 (by decide +kernel)
theorem dX3_actGlobal_46 : decode cX3_actGlobal 46 = .ok (.iconst 1, 1) := dc_4 (by decide +kernel)
theorem dX3_actGlobal_47 : decode cX3_actGlobal 47 = .ok (.invokevirtual 703, 3) := dc_182 (a := 2) (b := 191) (n := 703) (by decide +kernel)
theorem dX3_actGlobal_50 : decode cX3_actGlobal 50 = .ok (.return_, 1) := dc_177 (by decide +kernel)
def fX3_actGlobal_b39 (N : Nat) (rE : Nat → Int32 → eH → Option ((Unit ⊕ Nat) × eH)) (rN : Nat → eH → Option ((Int32 ⊕ Nat) × eH)) (l0 : Nat) (l1 : Int32) (s0 : Nat) (s1 : Int32) (h : eH) : Option ((Unit ⊕ Nat) × eH) :=
  (k_ok 3 h s0).bind fun _ =>
  t_B (fX4_want s0 s1 (6 : Int32) h) fun x2 h3 =>
  (k_ok 2 h3 l0).bind fun _ =>
  t_B (fX3_set N rE rN l0 l1 (1 : Int32) h3) fun x5 h6 =>
  some (.inl (), h6)
theorem pX3_actGlobal_b39 {w : eW} {d : Nat} {dr : Nat} (hd : dr + 22 ≤ d + 1) (hdr : 12 ≤ dr) {N : Nat} {rE : Nat → Int32 → eH → Option ((Unit ⊕ Nat) × eH)} {rN : Nat → eH → Option ((Int32 ⊕ Nat) × eH)} (hrE : ∀ a t0 h q, rE a t0 h = some q → wm w dr YX8_expand [.ref a, .int t0] h (e_is (e_rt c_V q))) (hrN : ∀ a h q, rN a h = some q → wm w dr YX8_number [.ref a] h (e_is (e_rt c_I q))) {l0 : Nat} {l1 : Int32} {s0 : Nat} {s1 : Int32} {h : eH} {q} (hf : fX3_actGlobal_b39 N rE rN l0 l1 s0 s1 h = some q) : wp w (d + 1) YX3_actGlobal 39 [some (.ref l0), some (.int l1)] [.int s1, .ref s0] h (e_is (e_rt c_V q)) := by
  unfold fX3_actGlobal_b39 at hf
  refine w_bipush dX3_actGlobal_39 (v := 6) (by decide) ?_
  obtain ⟨_, b1, hf⟩ := Option.bind_eq_some_iff.mp hf
  refine x_ctV hf (e_stV (Yc := YX4_want) (ci := 3) (av := [.int s1, .int (6 : Int32)]) (st := []) dX3_actGlobal_41 q2846 mX4_want rfl (k_ok_some b1).1 (k_ok_some b1).2) mX4_want.2.2.1 mX4_want.2.2.2.2.1 (Nat.le_of_ble_eq_true rfl) (Nat.le_of_ble_eq_true rfl) rfl (fun q hq => pX4_want (by omega) hq) (fun x2 h3 hf => ?_)
  refine w_aload_n dX3_actGlobal_44 rfl rfl ?_
  refine w_iload_n dX3_actGlobal_45 rfl rfl ?_
  refine w_iconst dX3_actGlobal_46 (v := 1) (by decide) ?_
  obtain ⟨_, b4, hf⟩ := Option.bind_eq_some_iff.mp hf
  refine x_ctV hf (e_stV (Yc := YX3_set) (ci := 2) (av := [.int l1, .int (1 : Int32)]) (st := []) dX3_actGlobal_47 q3904 mX3_set rfl (k_ok_some b4).1 (k_ok_some b4).2) mX3_set.2.2.1 mX3_set.2.2.2.2.1 (Nat.le_of_ble_eq_true rfl) (Nat.le_of_ble_eq_true rfl) rfl (fun q hq => pX3_set (by omega) hdr hrE hrN hq) (fun x5 h6 hf => ?_)
  cases hf
  exact w_vret dX3_actGlobal_50 rfl rfl
def fX3_actGlobal_b3 (N : Nat) (rE : Nat → Int32 → eH → Option ((Unit ⊕ Nat) × eH)) (rN : Nat → eH → Option ((Int32 ⊕ Nat) × eH)) : Nat → Nat → Int32 → eH → Option ((Unit ⊕ Nat) × eH)
  | 0, _, _, _ => none
  | n + 1, l0, l1, h =>
    if ¬ l1 = (66 : Int32) then
      (g_A 2 h l0 0).bind fun a2 =>
      if l1 < (54 : Int32) then
        fX3_actGlobal_b39 N rE rN l0 l1 a2 (0 : Int32) h
      else
        fX3_actGlobal_b39 N rE rN l0 l1 a2 (1 : Int32) h
    else
      (g_A 2 h l0 5).bind fun a5 =>
      (k_ok 2 h l0).bind fun _ =>
      t_B (fX3_solid N rE l0 h) fun x8 h9 =>
      (k_ok 7 h9 a5).bind fun _ =>
      (fX8_primitive a5 x8 h9).bind fun q11 =>
      fX3_actGlobal_b3 N rE rN n l0 q11.1 q11.2
theorem pX3_actGlobal_b3 {w : eW} {d : Nat} {dr : Nat} (hd : dr + 22 ≤ d + 1) (hdr : 12 ≤ dr) {N : Nat} {rE : Nat → Int32 → eH → Option ((Unit ⊕ Nat) × eH)} {rN : Nat → eH → Option ((Int32 ⊕ Nat) × eH)} (hrE : ∀ a t0 h q, rE a t0 h = some q → wm w dr YX8_expand [.ref a, .int t0] h (e_is (e_rt c_V q))) (hrN : ∀ a h q, rN a h = some q → wm w dr YX8_number [.ref a] h (e_is (e_rt c_I q))) : ∀ (n : Nat) l0 l1 h q, fX3_actGlobal_b3 N rE rN n l0 l1 h = some q → wp w (d + 1) YX3_actGlobal 3 [some (.ref l0), some (.int l1)] [] h (e_is (e_rt c_V q)) := by
  intro n
  induction n with
  | zero => intro l0 l1 h q hf; simp [fX3_actGlobal_b3] at hf
  | succ n ih =>
    intro l0 l1 h q hf
    rw [fX3_actGlobal_b3] at hf
    refine w_iload_n dX3_actGlobal_3 rfl rfl ?_
    refine w_bipush dX3_actGlobal_4 (v := 66) (by decide) ?_
    refine w_icmp_ne 24 dX3_actGlobal_6 (by decide) (fun c1 => ?_) (fun c1 => ?_)
    · replace hf := (if_pos (show ¬ l1 = (66 : Int32) from c1)).symm.trans hf
      refine w_aload_n dX3_actGlobal_24 rfl rfl ?_
      obtain ⟨a2, b3, hf⟩ := Option.bind_eq_some_iff.mp hf
      refine GX3_14 b3 dX3_actGlobal_25 rfl ?_
      refine w_iload_n dX3_actGlobal_28 rfl rfl ?_
      refine w_bipush dX3_actGlobal_29 (v := 54) (by decide) ?_
      refine w_icmp_lt 38 dX3_actGlobal_31 (by decide) (fun c4 => ?_) (fun c4 => ?_)
      · replace hf := (if_pos (show l1 < (54 : Int32) from c4)).symm.trans hf
        refine w_iconst dX3_actGlobal_38 (v := 0) (by decide) ?_
        exact (pX3_actGlobal_b39 hd hdr hrE hrN hf).to ⟨rfl, rfl, trivial⟩
      · replace hf := (if_neg (show ¬ (l1 < (54 : Int32)) from c4)).symm.trans hf
        refine w_iconst dX3_actGlobal_34 (v := 1) (by decide) ?_
        refine w_goto 39 dX3_actGlobal_35 (by decide) ?_
        exact (pX3_actGlobal_b39 hd hdr hrE hrN hf).to ⟨rfl, rfl, trivial⟩
    · replace hf := (if_neg (show ¬ (¬ l1 = (66 : Int32)) from (fun z => z c1))).symm.trans hf
      refine w_aload_n dX3_actGlobal_9 rfl rfl ?_
      obtain ⟨a5, b6, hf⟩ := Option.bind_eq_some_iff.mp hf
      refine GX3_45 b6 dX3_actGlobal_10 rfl ?_
      refine w_aload_n dX3_actGlobal_13 rfl rfl ?_
      obtain ⟨_, b7, hf⟩ := Option.bind_eq_some_iff.mp hf
      refine x_ctI hf (e_stV (Yc := YX3_solid) (ci := 2) (av := []) (st := [.ref a5]) dX3_actGlobal_14 q3897 mX3_solid rfl (k_ok_some b7).1 (k_ok_some b7).2) mX3_solid.2.2.1 mX3_solid.2.2.2.2.1 (Nat.le_of_ble_eq_true rfl) (Nat.le_of_ble_eq_true rfl) rfl (fun q hq => pX3_solid (by omega) hdr hrE hq) (fun x8 h9 hf => ?_)
      obtain ⟨_, b10, hf⟩ := Option.bind_eq_some_iff.mp hf
      refine x_cnI hf (e_stVN (Yc := YX8_primitive) (ci := 7) (av := [.int x8]) (st := []) dX3_actGlobal_17 q3903 mX8_primitive rfl (k_ok_some b10).1 (k_ok_some b10).2) mX8_primitive.2.2.1 mX8_primitive.2.2.2.2.1 (Nat.le_of_ble_eq_true rfl) (Nat.le_of_ble_eq_true rfl) (fun q hq => pX8_primitive (by omega) hq) (fun q11 hf => ?_)
      refine w_istore_n dX3_actGlobal_20 rfl (by decide) (ls' := [some (.ref l0), some (.int q11.1)]) rfl ?_
      refine w_goto 3 dX3_actGlobal_21 (by decide) ?_
      exact (ih _ _ _ _ hf).to ⟨rfl, rfl, trivial⟩
def fX3_actGlobal (N : Nat) (rE : Nat → Int32 → eH → Option ((Unit ⊕ Nat) × eH)) (rN : Nat → eH → Option ((Int32 ⊕ Nat) × eH)) (this : Nat) (h : eH) : Option ((Unit ⊕ Nat) × eH) :=
  fX3_actGlobal_b3 N rE rN N this (66 : Int32) h
theorem pX3_actGlobal {w : eW} {d : Nat} {dr : Nat} (hd : dr + 22 ≤ d) (hdr : 12 ≤ dr) {N : Nat} {rE : Nat → Int32 → eH → Option ((Unit ⊕ Nat) × eH)} {rN : Nat → eH → Option ((Int32 ⊕ Nat) × eH)} (hrE : ∀ a t0 h q, rE a t0 h = some q → wm w dr YX8_expand [.ref a, .int t0] h (e_is (e_rt c_V q))) (hrN : ∀ a h q, rN a h = some q → wm w dr YX8_number [.ref a] h (e_is (e_rt c_I q))) {this : Nat} {h : eH} {q} (hf : fX3_actGlobal N rE rN this h = some q) : wm w d YX3_actGlobal [.ref this] h (e_is (e_rt c_V q)) := by
  obtain ⟨d, rfl⟩ : ∃ e, d = e + 1 := ⟨d - 1, by omega⟩
  show wp w (d + 1) YX3_actGlobal 0 [some (.ref this), none] [] h _
  unfold fX3_actGlobal at hf
  refine w_bipush dX3_actGlobal_0 (v := 66) (by decide) ?_
  refine w_istore_n dX3_actGlobal_2 rfl (by decide) (ls' := [some (.ref this), some (.int (66 : Int32))]) rfl ?_
  exact (pX3_actGlobal_b3 hd hdr hrE hrN N _ _ _ _ hf).to ⟨rfl, rfl, trivial⟩
abbrev cX3_actSkip : ByteArray := prog_26_method_50_code
def yX3_actSkip : MethodName := ⟨RX3, "actSkip", "(ZI)V"⟩
def YX3_actSkip : eY := (yX3_actSkip, cX3_actSkip, 3, none, [])
theorem mX3_actSkip : e_mv YX3_actSkip RX3 2 := ⟨q4039, qs210, q4040, by decide, by decide +kernel, (e_sig (by decide +kernel))⟩
theorem dX3_actSkip_0 : decode cX3_actSkip 0 = .ok (.iload_n 1, 1) := dc_27 (by decide +kernel)
theorem dX3_actSkip_1 : decode cX3_actSkip 1 = .ok (.ifCond .eq 54, 3) := dc_153 (a := 0) (b := 54) (v := 54) (by decide +kernel)
theorem dX3_actSkip_4 : decode cX3_actSkip 4 = .ok (.aload_n 0, 1) := dc_42 (by decide +kernel)
theorem dX3_actSkip_5 : decode cX3_actSkip 5 = .ok (.getfield 45, 3) := dc_180 (a := 0) (b := 45) (n := 45) (by decide +kernel)
theorem dX3_actSkip_8 : decode cX3_actSkip 8 = .ok (.invokevirtual 728, 3) := dc_182 (a := 2) (b := 216) (n := 728) (by decide +kernel)
theorem dX3_actSkip_11 : decode cX3_actSkip 11 = .ok (.aload_n 0, 1) := dc_42 (by decide +kernel)
theorem dX3_actSkip_12 : decode cX3_actSkip 12 = .ok (.iconst 2, 1) := dc_5 (by decide +kernel)
theorem dX3_actSkip_13 : decode cX3_actSkip 13 = .ok (.aload_n 0, 1) := dc_42 (by decide +kernel)
theorem dX3_actSkip_14 : decode cX3_actSkip 14 = .ok (.getfield 45, 3) := dc_180 (a := 0) (b := 45) (n := 45) (by decide +kernel)
theorem dX3_actSkip_17 : decode cX3_actSkip 17 = .ok (.getfield 731, 3) := dc_180 (a := 2) (b := 219) (n := 731) (by decide +kernel)
theorem dX3_actSkip_20 : decode cX3_actSkip 20 = .ok (.iconst 0, 1) := dc_3 (by decide +kernel)
theorem dX3_actSkip_21 : decode cX3_actSkip 21 = .ok (.iaload, 1) := dc_46 (by decide +kernel)
theorem dX3_actSkip_22 : decode cX3_actSkip 22 = .ok (.aload_n 0, 1) := dc_42 (by decide +kernel)
theorem dX3_actSkip_23 : decode cX3_actSkip 23 = .ok (.getfield 45, 3) := dc_180 (a := 0) (b := 45) (n := 45) (by decide +kernel)
theorem dX3_actSkip_26 : decode cX3_actSkip 26 = .ok (.getfield 731, 3) := dc_180 (a := 2) (b := 219) (n := 731) (by decide +kernel)
theorem dX3_actSkip_29 : decode cX3_actSkip 29 = .ok (.iconst 1, 1) := dc_4 (by decide +kernel)
theorem dX3_actSkip_30 : decode cX3_actSkip 30 = .ok (.iaload, 1) := dc_46 (by decide +kernel)
theorem dX3_actSkip_31 : decode cX3_actSkip 31 = .ok (.aload_n 0, 1) := dc_42 (by decide +kernel)
theorem dX3_actSkip_32 : decode cX3_actSkip 32 = .ok (.getfield 45, 3) := dc_180 (a := 0) (b := 45) (n := 45) (by decide +kernel)
theorem dX3_actSkip_35 : decode cX3_actSkip 35 = .ok (.getfield 731, 3) := dc_180 (a := 2) (b := 219) (n := 731) (by decide +kernel)
theorem dX3_actSkip_38 : decode cX3_actSkip 38 = .ok (.iconst 2, 1) := dc_5 (by decide +kernel)
theorem dX3_actSkip_39 : decode cX3_actSkip 39 = .ok (.iaload, 1) := dc_46 (by decide +kernel)
theorem dX3_actSkip_40 : decode cX3_actSkip 40 = .ok (.aload_n 0, 1) := dc_42 (by decide +kernel)
theorem dX3_actSkip_41 : decode cX3_actSkip 41 = .ok (.getfield 45, 3) := dc_180 (a := 0) (b := 45) (n := 45) (by decide +kernel)
theorem dX3_actSkip_44 : decode cX3_actSkip 44 = .ok (.getfield 731, 3) := dc_180 (a := 2) (b := 219) (n := 731) (by decide +kernel)
theorem dX3_actSkip_47 : decode cX3_actSkip 47 = .ok (.iconst 3, 1) := dc_6 (by decide +kernel)
theorem dX3_actSkip_48 : decode cX3_actSkip 48 = .ok (.iaload, 1) := dc_46 (by decide +kernel)
theorem dX3_actSkip_49 : decode cX3_actSkip 49 = .ok (.invokevirtual 353, 3) := dc_182 (a := 1) (b := 97) (n := 353) (by decide +kernel)
theorem dX3_actSkip_52 : decode cX3_actSkip 52 = .ok (.goto 14, 3) := dc_167 (a := 0) (b := 14) (v := 14) (by decide +kernel)
theorem dX3_actSkip_55 : decode cX3_actSkip 55 = .ok (.aload_n 0, 1) := dc_42 (by decide +kernel)
theorem dX3_actSkip_56 : decode cX3_actSkip 56 = .ok (.iconst 2, 1) := dc_5 (by decide +kernel)
theorem dX3_actSkip_57 : decode cX3_actSkip 57 = .ok (.iconst 0, 1) := dc_3 (by decide +kernel)
theorem dX3_actSkip_58 : decode cX3_actSkip 58 = .ok (.ldc_w 293, 3) := dc_19 (a := 1) (b := 37) (n := 293) (by decide +kernel)
theorem dX3_actSkip_61 : decode cX3_actSkip 61 = .ok (.iload_n 2, 1) := dc_28 (by decide +kernel)
theorem dX3_actSkip_62 : decode cX3_actSkip 62 = .ok (.iconst 0, 1) := dc_3 (by decide +kernel)
theorem dX3_actSkip_63 : decode cX3_actSkip 63 = .ok (.invokevirtual 353, 3) := dc_182 (a := 1) (b := 97) (n := 353) (by decide +kernel)
theorem dX3_actSkip_66 : decode cX3_actSkip 66 = .ok (.return_, 1) := dc_177 (by decide +kernel)
theorem GX3_731 {w : eW} {d : Nat} {Y : eY} {pc : Nat} {ls : eL} {st : List Value} {h : eH} {Q : eO → eH → Prop} {a : Nat} {x : Nat} (hf : g_A 7 h a 29 = some x) (hd : decode Y.2.1 pc = .ok (.getfield 731, 3)) (hY : Y.1.cls = RX3) (kk : wp w d Y (pc + 3) ls (.ref x :: st) h Q) : wp w d Y pc ls (.ref a :: st) h Q := x_gAN (ci := 7) (k := 29) hf hd rfl (by decide) (by rw [hY]; exact q868) kk
def fX3_actSkip_b66 (N : Nat) (rE : Nat → Int32 → eH → Option ((Unit ⊕ Nat) × eH)) (rN : Nat → eH → Option ((Int32 ⊕ Nat) × eH))  (h : eH) : Option ((Unit ⊕ Nat) × eH) :=
  some (.inl (), h)
theorem pX3_actSkip_b66 {w : eW} {d : Nat} {dr : Nat} (hd : dr + 19 ≤ d + 1) (hdr : 12 ≤ dr) {N : Nat} {rE : Nat → Int32 → eH → Option ((Unit ⊕ Nat) × eH)} {rN : Nat → eH → Option ((Int32 ⊕ Nat) × eH)} (hrE : ∀ a t0 h q, rE a t0 h = some q → wm w dr YX8_expand [.ref a, .int t0] h (e_is (e_rt c_V q))) (hrN : ∀ a h q, rN a h = some q → wm w dr YX8_number [.ref a] h (e_is (e_rt c_I q)))  {h : eH} {q} (hf : fX3_actSkip_b66 N rE rN h = some q) : wp w (d + 1) YX3_actSkip 66 [none, none, none] [] h (e_is (e_rt c_V q)) := by
  unfold fX3_actSkip_b66 at hf
  cases hf
  exact w_vret dX3_actSkip_66 rfl rfl
def fX3_actSkip (N : Nat) (rE : Nat → Int32 → eH → Option ((Unit ⊕ Nat) × eH)) (rN : Nat → eH → Option ((Int32 ⊕ Nat) × eH)) (this : Nat) (p0 : Int32) (p1 : Int32) (h : eH) : Option ((Unit ⊕ Nat) × eH) :=
  if p0 = 0 then
    (k_ok 2 h this).bind fun _ =>
    t_B (fX3_add N this (2 : Int32) (0 : Int32) (65536 : Int32) p1 (0 : Int32) h) fun x3 h4 =>
    fX3_actSkip_b66 N rE rN h4
  else
    (g_A 2 h this 5).bind fun a5 =>
    (k_ok 7 h a5).bind fun _ =>
    t_B (fX8_glue N rE rN a5 h) fun x8 h9 =>
    (g_A 2 h9 this 5).bind fun a10 =>
    (g_A 7 h9 a10 29).bind fun a12 =>
    (r_I 100 h9 a12 (0 : Int32)).bind fun x14 =>
    (g_A 2 h9 this 5).bind fun a16 =>
    (g_A 7 h9 a16 29).bind fun a18 =>
    (r_I 100 h9 a18 (1 : Int32)).bind fun x20 =>
    (g_A 2 h9 this 5).bind fun a22 =>
    (g_A 7 h9 a22 29).bind fun a24 =>
    (r_I 100 h9 a24 (2 : Int32)).bind fun x26 =>
    (g_A 2 h9 this 5).bind fun a28 =>
    (g_A 7 h9 a28 29).bind fun a30 =>
    (r_I 100 h9 a30 (3 : Int32)).bind fun x32 =>
    (k_ok 2 h9 this).bind fun _ =>
    t_B (fX3_add N this (2 : Int32) x14 x20 x26 x32 h9) fun x35 h36 =>
    fX3_actSkip_b66 N rE rN h36
theorem pX3_actSkip {w : eW} {d : Nat} {dr : Nat} (hd : dr + 19 ≤ d) (hdr : 12 ≤ dr) {N : Nat} {rE : Nat → Int32 → eH → Option ((Unit ⊕ Nat) × eH)} {rN : Nat → eH → Option ((Int32 ⊕ Nat) × eH)} (hrE : ∀ a t0 h q, rE a t0 h = some q → wm w dr YX8_expand [.ref a, .int t0] h (e_is (e_rt c_V q))) (hrN : ∀ a h q, rN a h = some q → wm w dr YX8_number [.ref a] h (e_is (e_rt c_I q))) {this : Nat} {p0 : Int32} {p1 : Int32} {h : eH} {q} (hf : fX3_actSkip N rE rN this p0 p1 h = some q) : wm w d YX3_actSkip [.ref this, .int p0, .int p1] h (e_is (e_rt c_V q)) := by
  obtain ⟨d, rfl⟩ : ∃ e, d = e + 1 := ⟨d - 1, by omega⟩
  show wp w (d + 1) YX3_actSkip 0 [some (.ref this), some (.int p0), some (.int p1)] [] h _
  unfold fX3_actSkip at hf
  refine w_iload_n dX3_actSkip_0 rfl rfl ?_
  refine w_if_eq 55 dX3_actSkip_1 (by decide) (fun c1 => ?_) (fun c1 => ?_)
  · replace hf := (if_pos (show p0 = 0 from c1)).symm.trans hf
    refine w_aload_n dX3_actSkip_55 rfl rfl ?_
    refine w_iconst dX3_actSkip_56 (v := 2) (by decide) ?_
    refine w_iconst dX3_actSkip_57 (v := 0) (by decide) ?_
    refine w_ldc_w dX3_actSkip_58 q4042 ?_
    refine w_iload_n dX3_actSkip_61 rfl rfl ?_
    refine w_iconst dX3_actSkip_62 (v := 0) (by decide) ?_
    obtain ⟨_, b2, hf⟩ := Option.bind_eq_some_iff.mp hf
    refine x_ctV hf (e_stV (Yc := YX3_add) (ci := 2) (av := [.int (2 : Int32), .int (0 : Int32), .int (65536 : Int32), .int p1, .int (0 : Int32)]) (st := []) dX3_actSkip_63 q3858 mX3_add rfl (k_ok_some b2).1 (k_ok_some b2).2) mX3_add.2.2.1 mX3_add.2.2.2.2.1 (Nat.le_of_ble_eq_true rfl) (Nat.le_of_ble_eq_true rfl) rfl (fun q hq => pX3_add (by omega) hq) (fun x3 h4 hf => ?_)
    exact (pX3_actSkip_b66 hd hdr hrE hrN hf).to trivial
  · replace hf := (if_neg (show ¬ (p0 = 0) from c1)).symm.trans hf
    refine w_aload_n dX3_actSkip_4 rfl rfl ?_
    obtain ⟨a5, b6, hf⟩ := Option.bind_eq_some_iff.mp hf
    refine GX3_45 b6 dX3_actSkip_5 rfl ?_
    obtain ⟨_, b7, hf⟩ := Option.bind_eq_some_iff.mp hf
    refine x_ctV hf (e_stVN (Yc := YX8_glue) (ci := 7) (av := []) (st := []) dX3_actSkip_8 q4041 mX8_glue rfl (k_ok_some b7).1 (k_ok_some b7).2) mX8_glue.2.2.1 mX8_glue.2.2.2.2.1 (Nat.le_of_ble_eq_true rfl) (Nat.le_of_ble_eq_true rfl) rfl (fun q hq => pX8_glue (by omega) hdr hrE hrN hq) (fun x8 h9 hf => ?_)
    refine w_aload_n dX3_actSkip_11 rfl rfl ?_
    refine w_iconst dX3_actSkip_12 (v := 2) (by decide) ?_
    refine w_aload_n dX3_actSkip_13 rfl rfl ?_
    obtain ⟨a10, b11, hf⟩ := Option.bind_eq_some_iff.mp hf
    refine GX3_45 b11 dX3_actSkip_14 rfl ?_
    obtain ⟨a12, b13, hf⟩ := Option.bind_eq_some_iff.mp hf
    refine GX3_731 b13 dX3_actSkip_17 rfl ?_
    refine w_iconst dX3_actSkip_20 (v := 0) (by decide) ?_
    obtain ⟨x14, b15, hf⟩ := Option.bind_eq_some_iff.mp hf
    refine x_rI b15 dX3_actSkip_21 ?_
    refine w_aload_n dX3_actSkip_22 rfl rfl ?_
    obtain ⟨a16, b17, hf⟩ := Option.bind_eq_some_iff.mp hf
    refine GX3_45 b17 dX3_actSkip_23 rfl ?_
    obtain ⟨a18, b19, hf⟩ := Option.bind_eq_some_iff.mp hf
    refine GX3_731 b19 dX3_actSkip_26 rfl ?_
    refine w_iconst dX3_actSkip_29 (v := 1) (by decide) ?_
    obtain ⟨x20, b21, hf⟩ := Option.bind_eq_some_iff.mp hf
    refine x_rI b21 dX3_actSkip_30 ?_
    refine w_aload_n dX3_actSkip_31 rfl rfl ?_
    obtain ⟨a22, b23, hf⟩ := Option.bind_eq_some_iff.mp hf
    refine GX3_45 b23 dX3_actSkip_32 rfl ?_
    obtain ⟨a24, b25, hf⟩ := Option.bind_eq_some_iff.mp hf
    refine GX3_731 b25 dX3_actSkip_35 rfl ?_
    refine w_iconst dX3_actSkip_38 (v := 2) (by decide) ?_
    obtain ⟨x26, b27, hf⟩ := Option.bind_eq_some_iff.mp hf
    refine x_rI b27 dX3_actSkip_39 ?_
    refine w_aload_n dX3_actSkip_40 rfl rfl ?_
    obtain ⟨a28, b29, hf⟩ := Option.bind_eq_some_iff.mp hf
    refine GX3_45 b29 dX3_actSkip_41 rfl ?_
    obtain ⟨a30, b31, hf⟩ := Option.bind_eq_some_iff.mp hf
    refine GX3_731 b31 dX3_actSkip_44 rfl ?_
    refine w_iconst dX3_actSkip_47 (v := 3) (by decide) ?_
    obtain ⟨x32, b33, hf⟩ := Option.bind_eq_some_iff.mp hf
    refine x_rI b33 dX3_actSkip_48 ?_
    obtain ⟨_, b34, hf⟩ := Option.bind_eq_some_iff.mp hf
    refine x_ctV hf (e_stV (Yc := YX3_add) (ci := 2) (av := [.int (2 : Int32), .int x14, .int x20, .int x26, .int x32]) (st := []) dX3_actSkip_49 q3858 mX3_add rfl (k_ok_some b34).1 (k_ok_some b34).2) mX3_add.2.2.1 mX3_add.2.2.2.2.1 (Nat.le_of_ble_eq_true rfl) (Nat.le_of_ble_eq_true rfl) rfl (fun q hq => pX3_add (by omega) hq) (fun x35 h36 hf => ?_)
    refine w_goto 66 dX3_actSkip_52 (by decide) ?_
    exact (pX3_actSkip_b66 hd hdr hrE hrN hf).to trivial
abbrev cX3_wantVertical : ByteArray := prog_26_method_8_code
def yX3_wantVertical : MethodName := ⟨RX3, "wantVertical", "()V"⟩
def YX3_wantVertical : eY := (yX3_wantVertical, cX3_wantVertical, 1, none, [])
theorem mX3_wantVertical : e_mv YX3_wantVertical RX3 0 := ⟨q4045, qs211, q4046, by decide, by decide +kernel, (e_sig (by decide +kernel))⟩
theorem dX3_wantVertical_0 : decode cX3_wantVertical 0 = .ok (.aload_n 0, 1) := dc_42 (by decide +kernel)
theorem dX3_wantVertical_1 : decode cX3_wantVertical 1 = .ok (.getfield 14, 3) := dc_180 (a := 0) (b := 14) (n := 14) (by decide +kernel)
theorem dX3_wantVertical_4 : decode cX3_wantVertical 4 = .ok (.aload_n 0, 1) := dc_42 (by decide +kernel)
theorem dX3_wantVertical_5 : decode cX3_wantVertical 5 = .ok (.getfield 136, 3) := dc_180 (a := 0) (b := 136) (n := 136) (by decide +kernel)
theorem dX3_wantVertical_8 : decode cX3_wantVertical 8 = .ok (.aload_n 0, 1) := dc_42 (by decide +kernel)
theorem dX3_wantVertical_9 : decode cX3_wantVertical 9 = .ok (.getfield 211, 3) := dc_180 (a := 0) (b := 211) (n := 211) (by decide +kernel)
theorem dX3_wantVertical_12 : decode cX3_wantVertical 12 = .ok (.iaload, 1) := dc_46 (by decide +kernel)
theorem dX3_wantVertical_13 : decode cX3_wantVertical 13 = .ok (.iconst 3, 1) := dc_6 (by decide +kernel)
theorem dX3_wantVertical_14 : decode cX3_wantVertical 14 = .ok (.if_icmp .eq 7, 3) := dc_159 (a := 0) (b := 7) (v := 7) (by decide +kernel)
theorem dX3_wantVertical_17 : decode cX3_wantVertical 17 = .ok (.iconst 1, 1) := dc_4 (by decide +kernel)
theorem dX3_wantVertical_18 : decode cX3_wantVertical 18 = .ok (.goto 4, 3) := dc_167 (a := 0) (b := 4) (v := 4) (by decide +kernel)
theorem dX3_wantVertical_21 : decode cX3_wantVertical 21 = .ok (.iconst 0, 1) := dc_3 (by decide +kernel)
theorem dX3_wantVertical_22 : decode cX3_wantVertical 22 = .ok (.bipush 15, 2) := dc_16 (a := 15) (v := 15) (by decide +kernel)
theorem dX3_wantVertical_24 : decode cX3_wantVertical 24 = .ok (.invokevirtual 289, 3) := dc_182 (a := 1) (b := 33) (n := 289) (by decide +kernel)
theorem dX3_wantVertical_27 : decode cX3_wantVertical 27 = .ok (.aload_n 0, 1) := dc_42 (by decide +kernel)
theorem dX3_wantVertical_28 : decode cX3_wantVertical 28 = .ok (.getfield 136, 3) := dc_180 (a := 0) (b := 136) (n := 136) (by decide +kernel)
theorem dX3_wantVertical_31 : decode cX3_wantVertical 31 = .ok (.aload_n 0, 1) := dc_42 (by decide +kernel)
theorem dX3_wantVertical_32 : decode cX3_wantVertical 32 = .ok (.getfield 211, 3) := dc_180 (a := 0) (b := 211) (n := 211) (by decide +kernel)
theorem dX3_wantVertical_35 : decode cX3_wantVertical 35 = .ok (.iaload, 1) := dc_46 (by decide +kernel)
theorem dX3_wantVertical_36 : decode cX3_wantVertical 36 = .ok (.iconst 2, 1) := dc_5 (by decide +kernel)
theorem dX3_wantVertical_37 : decode cX3_wantVertical 37 = .ok (.if_icmp .ne 7, 3) := dc_160 (a := 0) (b := 7) (v := 7) (by decide +kernel)
theorem dX3_wantVertical_40 : decode cX3_wantVertical 40 = .ok (.aload_n 0, 1) := dc_42 (by decide +kernel)
theorem dX3_wantVertical_41 : decode cX3_wantVertical 41 = .ok (.invokevirtual 283, 3) := dc_182 (a := 1) (b := 27) (n := 283) (by decide +kernel)
theorem dX3_wantVertical_44 : decode cX3_wantVertical 44 = .ok (.return_, 1) := dc_177 (by decide +kernel)
def fX3_wantVertical_b44 (N : Nat)  (h : eH) : Option ((Unit ⊕ Nat) × eH) :=
  some (.inl (), h)
theorem pX3_wantVertical_b44 {w : eW} {d : Nat} (hd : 17 ≤ d + 1) {N : Nat}  {h : eH} {q} (hf : fX3_wantVertical_b44 N h = some q) : wp w (d + 1) YX3_wantVertical 44 [none] [] h (e_is (e_rt c_V q)) := by
  unfold fX3_wantVertical_b44 at hf
  cases hf
  exact w_vret dX3_wantVertical_44 rfl rfl
def fX3_wantVertical_b22 (N : Nat) (l0 : Nat) (s0 : Nat) (s1 : Int32) (h : eH) : Option ((Unit ⊕ Nat) × eH) :=
  (k_ok 3 h s0).bind fun _ =>
  t_B (fX4_want s0 s1 (15 : Int32) h) fun x2 h3 =>
  (g_A 2 h3 l0 19).bind fun a4 =>
  (g_I 2 h3 l0 27).bind fun x6 =>
  (r_I 100 h3 a4 x6).bind fun x8 =>
  if ¬ x8 = (2 : Int32) then
    fX3_wantVertical_b44 N h3
  else
    (k_ok 2 h3 l0).bind fun _ =>
    t_B (fX3_endParagraph N l0 h3) fun x12 h13 =>
    fX3_wantVertical_b44 N h13
theorem pX3_wantVertical_b22 {w : eW} {d : Nat} (hd : 17 ≤ d + 1) {N : Nat} {l0 : Nat} {s0 : Nat} {s1 : Int32} {h : eH} {q} (hf : fX3_wantVertical_b22 N l0 s0 s1 h = some q) : wp w (d + 1) YX3_wantVertical 22 [some (.ref l0)] [.int s1, .ref s0] h (e_is (e_rt c_V q)) := by
  unfold fX3_wantVertical_b22 at hf
  refine w_bipush dX3_wantVertical_22 (v := 15) (by decide) ?_
  obtain ⟨_, b1, hf⟩ := Option.bind_eq_some_iff.mp hf
  refine x_ctV hf (e_stV (Yc := YX4_want) (ci := 3) (av := [.int s1, .int (15 : Int32)]) (st := []) dX3_wantVertical_24 q2846 mX4_want rfl (k_ok_some b1).1 (k_ok_some b1).2) mX4_want.2.2.1 mX4_want.2.2.2.2.1 (Nat.le_of_ble_eq_true rfl) (Nat.le_of_ble_eq_true rfl) rfl (fun q hq => pX4_want (by omega) hq) (fun x2 h3 hf => ?_)
  refine w_aload_n dX3_wantVertical_27 rfl rfl ?_
  obtain ⟨a4, b5, hf⟩ := Option.bind_eq_some_iff.mp hf
  refine GX3_136 b5 dX3_wantVertical_28 rfl ?_
  refine w_aload_n dX3_wantVertical_31 rfl rfl ?_
  obtain ⟨x6, b7, hf⟩ := Option.bind_eq_some_iff.mp hf
  refine GX3_211 b7 dX3_wantVertical_32 rfl ?_
  obtain ⟨x8, b9, hf⟩ := Option.bind_eq_some_iff.mp hf
  refine x_rI b9 dX3_wantVertical_35 ?_
  refine w_iconst dX3_wantVertical_36 (v := 2) (by decide) ?_
  refine w_icmp_ne 44 dX3_wantVertical_37 (by decide) (fun c10 => ?_) (fun c10 => ?_)
  · replace hf := (if_pos (show ¬ x8 = (2 : Int32) from c10)).symm.trans hf
    exact (pX3_wantVertical_b44 hd hf).to trivial
  · replace hf := (if_neg (show ¬ (¬ x8 = (2 : Int32)) from (fun z => z c10))).symm.trans hf
    refine w_aload_n dX3_wantVertical_40 rfl rfl ?_
    obtain ⟨_, b11, hf⟩ := Option.bind_eq_some_iff.mp hf
    refine x_ctV hf (e_stV (Yc := YX3_endParagraph) (ci := 2) (av := []) (st := []) dX3_wantVertical_41 q3661 mX3_endParagraph rfl (k_ok_some b11).1 (k_ok_some b11).2) mX3_endParagraph.2.2.1 mX3_endParagraph.2.2.2.2.1 (Nat.le_of_ble_eq_true rfl) (Nat.le_of_ble_eq_true rfl) rfl (fun q hq => pX3_endParagraph (by omega) hq) (fun x12 h13 hf => ?_)
    exact (pX3_wantVertical_b44 hd hf).to trivial
def fX3_wantVertical (N : Nat) (this : Nat) (h : eH) : Option ((Unit ⊕ Nat) × eH) :=
  (g_A 2 h this 0).bind fun a1 =>
  (g_A 2 h this 19).bind fun a3 =>
  (g_I 2 h this 27).bind fun x5 =>
  (r_I 100 h a3 x5).bind fun x7 =>
  if x7 = (3 : Int32) then
    fX3_wantVertical_b22 N this a1 (0 : Int32) h
  else
    fX3_wantVertical_b22 N this a1 (1 : Int32) h
theorem pX3_wantVertical {w : eW} {d : Nat} (hd : 17 ≤ d) {N : Nat} {this : Nat} {h : eH} {q} (hf : fX3_wantVertical N this h = some q) : wm w d YX3_wantVertical [.ref this] h (e_is (e_rt c_V q)) := by
  obtain ⟨d, rfl⟩ : ∃ e, d = e + 1 := ⟨d - 1, by omega⟩
  show wp w (d + 1) YX3_wantVertical 0 [some (.ref this)] [] h _
  unfold fX3_wantVertical at hf
  refine w_aload_n dX3_wantVertical_0 rfl rfl ?_
  obtain ⟨a1, b2, hf⟩ := Option.bind_eq_some_iff.mp hf
  refine GX3_14 b2 dX3_wantVertical_1 rfl ?_
  refine w_aload_n dX3_wantVertical_4 rfl rfl ?_
  obtain ⟨a3, b4, hf⟩ := Option.bind_eq_some_iff.mp hf
  refine GX3_136 b4 dX3_wantVertical_5 rfl ?_
  refine w_aload_n dX3_wantVertical_8 rfl rfl ?_
  obtain ⟨x5, b6, hf⟩ := Option.bind_eq_some_iff.mp hf
  refine GX3_211 b6 dX3_wantVertical_9 rfl ?_
  obtain ⟨x7, b8, hf⟩ := Option.bind_eq_some_iff.mp hf
  refine x_rI b8 dX3_wantVertical_12 ?_
  refine w_iconst dX3_wantVertical_13 (v := 3) (by decide) ?_
  refine w_icmp_eq 21 dX3_wantVertical_14 (by decide) (fun c9 => ?_) (fun c9 => ?_)
  · replace hf := (if_pos (show x7 = (3 : Int32) from c9)).symm.trans hf
    refine w_iconst dX3_wantVertical_21 (v := 0) (by decide) ?_
    exact (pX3_wantVertical_b22 hd hf).to ⟨rfl, trivial⟩
  · replace hf := (if_neg (show ¬ (x7 = (3 : Int32)) from c9)).symm.trans hf
    refine w_iconst dX3_wantVertical_17 (v := 1) (by decide) ?_
    refine w_goto 22 dX3_wantVertical_18 (by decide) ?_
    exact (pX3_wantVertical_b22 hd hf).to ⟨rfl, trivial⟩
abbrev cX3_rule : ByteArray := prog_26_method_52_code
def yX3_rule : MethodName := ⟨RX3, "rule", "(III)V"⟩
def YX3_rule : eY := (yX3_rule, cX3_rule, 8, none, [])
theorem mX3_rule : e_mv YX3_rule RX3 3 := ⟨q4050, qs212, q4051, by decide, by decide +kernel, (e_sig (by decide +kernel))⟩
theorem dX3_rule_0 : decode cX3_rule 0 = .ok (.iload_n 1, 1) := dc_27 (by decide +kernel)
theorem dX3_rule_1 : decode cX3_rule 1 = .ok (.istore 4, 2) := dc_54 (a := 4) (by decide +kernel)
theorem dX3_rule_3 : decode cX3_rule 3 = .ok (.iload_n 2, 1) := dc_28 (by decide +kernel)
theorem dX3_rule_4 : decode cX3_rule 4 = .ok (.istore 5, 2) := dc_54 (a := 5) (by decide +kernel)
theorem dX3_rule_6 : decode cX3_rule 6 = .ok (.iload_n 3, 1) := dc_29 (by decide +kernel)
theorem dX3_rule_7 : decode cX3_rule 7 = .ok (.istore 6, 2) := dc_54 (a := 6) (by decide +kernel)
theorem dX3_rule_9 : decode cX3_rule 9 = .ok (.iconst 1, 1) := dc_4 (by decide +kernel)
theorem dX3_rule_10 : decode cX3_rule 10 = .ok (.istore 7, 2) := dc_54 (a := 7) (by decide +kernel)
theorem dX3_rule_12 : decode cX3_rule 12 = .ok (.iload 7, 2) := dc_21 (a := 7) (by decide +kernel)
theorem dX3_rule_14 : decode cX3_rule 14 = .ok (.ifCond .eq 84, 3) := dc_153 (a := 0) (b := 84) (v := 84) (by decide +kernel)
theorem dX3_rule_17 : decode cX3_rule 17 = .ok (.aload_n 0, 1) := dc_42 (by decide +kernel)
theorem dX3_rule_18 : decode cX3_rule 18 = .ok (.getfield 45, 3) := dc_180 (a := 0) (b := 45) (n := 45) (by decide +kernel)
theorem dX3_rule_21 : decode cX3_rule 21 = .ok (.ldc_w 734, 3) := dc_19 (a := 2) (b := 222) (n := 734) (by decide +kernel)
theorem dX3_rule_24 : decode cX3_rule 24 = .ok (.invokevirtual 412, 3) := dc_182 (a := 1) (b := 156) (n := 412) (by decide +kernel)
theorem dX3_rule_27 : decode cX3_rule 27 = .ok (.ifCond .eq 15, 3) := dc_153 (a := 0) (b := 15) (v := 15) (by decide +kernel)
theorem dX3_rule_30 : decode cX3_rule 30 = .ok (.aload_n 0, 1) := dc_42 (by decide +kernel)
theorem dX3_rule_31 : decode cX3_rule 31 = .ok (.getfield 45, 3) := dc_180 (a := 0) (b := 45) (n := 45) (by decide +kernel)
theorem dX3_rule_34 : decode cX3_rule 34 = .ok (.invokevirtual 418, 3) := dc_182 (a := 1) (b := 162) (n := 418) (by decide +kernel)
theorem dX3_rule_37 : decode cX3_rule 37 = .ok (.istore 4, 2) := dc_54 (a := 4) (by decide +kernel)
theorem dX3_rule_39 : decode cX3_rule 39 = .ok (.goto (-27), 3) := dc_167 (a := 255) (b := 229) (v := -27) (by decide +kernel)
theorem dX3_rule_42 : decode cX3_rule 42 = .ok (.aload_n 0, 1) := dc_42 (by decide +kernel)
theorem dX3_rule_43 : decode cX3_rule 43 = .ok (.getfield 45, 3) := dc_180 (a := 0) (b := 45) (n := 45) (by decide +kernel)
theorem dX3_rule_46 : decode cX3_rule 46 = .ok (.ldc_w 735, 3) := dc_19 (a := 2) (b := 223) (n := 735) (by decide +kernel)
theorem dX3_rule_49 : decode cX3_rule 49 = .ok (.invokevirtual 412, 3) := dc_182 (a := 1) (b := 156) (n := 412) (by decide +kernel)
theorem dX3_rule_52 : decode cX3_rule 52 = .ok (.ifCond .eq 15, 3) := dc_153 (a := 0) (b := 15) (v := 15) (by decide +kernel)
theorem dX3_rule_55 : decode cX3_rule 55 = .ok (.aload_n 0, 1) := dc_42 (by decide +kernel)
theorem dX3_rule_56 : decode cX3_rule 56 = .ok (.getfield 45, 3) := dc_180 (a := 0) (b := 45) (n := 45) (by decide +kernel)
theorem dX3_rule_59 : decode cX3_rule 59 = .ok (.invokevirtual 418, 3) := dc_182 (a := 1) (b := 162) (n := 418) (by decide +kernel)
theorem dX3_rule_62 : decode cX3_rule 62 = .ok (.istore 5, 2) := dc_54 (a := 5) (by decide +kernel)
theorem dX3_rule_64 : decode cX3_rule 64 = .ok (.goto (-52), 3) := dc_167 (a := 255) (b := 204) (v := -52) (by decide +kernel)
theorem dX3_rule_67 : decode cX3_rule 67 = .ok (.aload_n 0, 1) := dc_42 (by decide +kernel)
theorem dX3_rule_68 : decode cX3_rule 68 = .ok (.getfield 45, 3) := dc_180 (a := 0) (b := 45) (n := 45) (by decide +kernel)
theorem dX3_rule_71 : decode cX3_rule 71 = .ok (.ldc_w 736, 3) := dc_19 (a := 2) (b := 224) (n := 736) (by decide +kernel)
theorem dX3_rule_74 : decode cX3_rule 74 = .ok (.invokevirtual 412, 3) := dc_182 (a := 1) (b := 156) (n := 412) (by decide +kernel)
theorem dX3_rule_77 : decode cX3_rule 77 = .ok (.ifCond .eq 15, 3) := dc_153 (a := 0) (b := 15) (v := 15) (by decide +kernel)
theorem dX3_rule_80 : decode cX3_rule 80 = .ok (.aload_n 0, 1) := dc_42 (by decide +kernel)
theorem dX3_rule_81 : decode cX3_rule 81 = .ok (.getfield 45, 3) := dc_180 (a := 0) (b := 45) (n := 45) (by decide +kernel)
theorem dX3_rule_84 : decode cX3_rule 84 = .ok (.invokevirtual 418, 3) := dc_182 (a := 1) (b := 162) (n := 418) (by decide +kernel)
theorem dX3_rule_87 : decode cX3_rule 87 = .ok (.istore 6, 2) := dc_54 (a := 6) (by decide +kernel)
theorem dX3_rule_89 : decode cX3_rule 89 = .ok (.goto (-77), 3) := dc_167 (a := 255) (b := 179) (v := -77) (by decide +kernel)
theorem dX3_rule_92 : decode cX3_rule 92 = .ok (.iconst 0, 1) := dc_3 (by decide +kernel)
theorem dX3_rule_93 : decode cX3_rule 93 = .ok (.istore 7, 2) := dc_54 (a := 7) (by decide +kernel)
theorem dX3_rule_95 : decode cX3_rule 95 = .ok (.goto (-83), 3) := dc_167 (a := 255) (b := 173) (v := -83) (by decide +kernel)
theorem dX3_rule_98 : decode cX3_rule 98 = .ok (.aload_n 0, 1) := dc_42 (by decide +kernel)
theorem dX3_rule_99 : decode cX3_rule 99 = .ok (.iconst 1, 1) := dc_4 (by decide +kernel)
theorem dX3_rule_100 : decode cX3_rule 100 = .ok (.iload 4, 2) := dc_21 (a := 4) (by decide +kernel)
theorem dX3_rule_102 : decode cX3_rule 102 = .ok (.iload 5, 2) := dc_21 (a := 5) (by decide +kernel)
theorem dX3_rule_104 : decode cX3_rule 104 = .ok (.iload 6, 2) := dc_21 (a := 6) (by decide +kernel)
theorem dX3_rule_106 : decode cX3_rule 106 = .ok (.iconst 0, 1) := dc_3 (by decide +kernel)
theorem dX3_rule_107 : decode cX3_rule 107 = .ok (.invokevirtual 353, 3) := dc_182 (a := 1) (b := 97) (n := 353) (by decide +kernel)
theorem dX3_rule_110 : decode cX3_rule 110 = .ok (.return_, 1) := dc_177 (by decide +kernel)
def fX3_rule_b12 (N : Nat) (rE : Nat → Int32 → eH → Option ((Unit ⊕ Nat) × eH)) (rN : Nat → eH → Option ((Int32 ⊕ Nat) × eH)) : Nat → Nat → Int32 → Int32 → Int32 → Int32 → eH → Option ((Unit ⊕ Nat) × eH)
  | 0, _, _, _, _, _, _ => none
  | n + 1, l0, l4, l5, l6, l7, h =>
    if l7 = 0 then
      (k_ok 2 h l0).bind fun _ =>
      t_B (fX3_add N l0 (1 : Int32) l4 l5 l6 (0 : Int32) h) fun x3 h4 =>
      some (.inl (), h4)
    else
      (g_A 2 h l0 5).bind fun a5 =>
      (k_ok 7 h a5).bind fun _ =>
      t_B (fX8_keyword N rE a5 1000000119 h) fun x8 h9 =>
      if x8 = 0 then
        (g_A 2 h9 l0 5).bind fun a11 =>
        (k_ok 7 h9 a11).bind fun _ =>
        t_B (fX8_keyword N rE a11 1000000120 h9) fun x14 h15 =>
        if x14 = 0 then
          (g_A 2 h15 l0 5).bind fun a17 =>
          (k_ok 7 h15 a17).bind fun _ =>
          t_B (fX8_keyword N rE a17 1000000121 h15) fun x20 h21 =>
          if x20 = 0 then
            fX3_rule_b12 N rE rN n l0 l4 l5 l6 (0 : Int32) h21
          else
            (g_A 2 h21 l0 5).bind fun a23 =>
            (k_ok 7 h21 a23).bind fun _ =>
            t_B (fX8_dimension N rE rN a23 h21) fun x26 h27 =>
            fX3_rule_b12 N rE rN n l0 l4 l5 x26 l7 h27
        else
          (g_A 2 h15 l0 5).bind fun a28 =>
          (k_ok 7 h15 a28).bind fun _ =>
          t_B (fX8_dimension N rE rN a28 h15) fun x31 h32 =>
          fX3_rule_b12 N rE rN n l0 l4 x31 l6 l7 h32
      else
        (g_A 2 h9 l0 5).bind fun a33 =>
        (k_ok 7 h9 a33).bind fun _ =>
        t_B (fX8_dimension N rE rN a33 h9) fun x36 h37 =>
        fX3_rule_b12 N rE rN n l0 x36 l5 l6 l7 h37
theorem pX3_rule_b12 {w : eW} {d : Nat} {dr : Nat} (hd : dr + 18 ≤ d + 1) (hdr : 12 ≤ dr) {N : Nat} {rE : Nat → Int32 → eH → Option ((Unit ⊕ Nat) × eH)} {rN : Nat → eH → Option ((Int32 ⊕ Nat) × eH)} (hrE : ∀ a t0 h q, rE a t0 h = some q → wm w dr YX8_expand [.ref a, .int t0] h (e_is (e_rt c_V q))) (hrN : ∀ a h q, rN a h = some q → wm w dr YX8_number [.ref a] h (e_is (e_rt c_I q))) : ∀ (n : Nat) l0 l4 l5 l6 l7 h q, fX3_rule_b12 N rE rN n l0 l4 l5 l6 l7 h = some q → wp w (d + 1) YX3_rule 12 [some (.ref l0), none, none, none, some (.int l4), some (.int l5), some (.int l6), some (.int l7)] [] h (e_is (e_rt c_V q)) := by
  intro n
  induction n with
  | zero => intro l0 l4 l5 l6 l7 h q hf; simp [fX3_rule_b12] at hf
  | succ n ih =>
    intro l0 l4 l5 l6 l7 h q hf
    rw [fX3_rule_b12] at hf
    refine w_iload dX3_rule_12 rfl ?_
    refine w_if_eq 98 dX3_rule_14 (by decide) (fun c1 => ?_) (fun c1 => ?_)
    · replace hf := (if_pos (show l7 = 0 from c1)).symm.trans hf
      refine w_aload_n dX3_rule_98 rfl rfl ?_
      refine w_iconst dX3_rule_99 (v := 1) (by decide) ?_
      refine w_iload dX3_rule_100 rfl ?_
      refine w_iload dX3_rule_102 rfl ?_
      refine w_iload dX3_rule_104 rfl ?_
      refine w_iconst dX3_rule_106 (v := 0) (by decide) ?_
      obtain ⟨_, b2, hf⟩ := Option.bind_eq_some_iff.mp hf
      refine x_ctV hf (e_stV (Yc := YX3_add) (ci := 2) (av := [.int (1 : Int32), .int l4, .int l5, .int l6, .int (0 : Int32)]) (st := []) dX3_rule_107 q3858 mX3_add rfl (k_ok_some b2).1 (k_ok_some b2).2) mX3_add.2.2.1 mX3_add.2.2.2.2.1 (Nat.le_of_ble_eq_true rfl) (Nat.le_of_ble_eq_true rfl) rfl (fun q hq => pX3_add (by omega) hq) (fun x3 h4 hf => ?_)
      cases hf
      exact w_vret dX3_rule_110 rfl rfl
    · replace hf := (if_neg (show ¬ (l7 = 0) from c1)).symm.trans hf
      refine w_aload_n dX3_rule_17 rfl rfl ?_
      obtain ⟨a5, b6, hf⟩ := Option.bind_eq_some_iff.mp hf
      refine GX3_45 b6 dX3_rule_18 rfl ?_
      refine x_ldcSw (k := 19) dX3_rule_21 rfl ?_
      obtain ⟨_, b7, hf⟩ := Option.bind_eq_some_iff.mp hf
      refine x_ctI hf (e_stVN (Yc := YX8_keyword) (ci := 7) (av := [.ref 1000000119]) (st := []) dX3_rule_24 q3927 mX8_keyword rfl (k_ok_some b7).1 (k_ok_some b7).2) mX8_keyword.2.2.1 mX8_keyword.2.2.2.2.1 (Nat.le_of_ble_eq_true rfl) (Nat.le_of_ble_eq_true rfl) rfl (fun q hq => pX8_keyword (by omega) hdr hrE hq) (fun x8 h9 hf => ?_)
      refine w_if_eq 42 dX3_rule_27 (by decide) (fun c10 => ?_) (fun c10 => ?_)
      · replace hf := (if_pos (show x8 = 0 from c10)).symm.trans hf
        refine w_aload_n dX3_rule_42 rfl rfl ?_
        obtain ⟨a11, b12, hf⟩ := Option.bind_eq_some_iff.mp hf
        refine GX3_45 b12 dX3_rule_43 rfl ?_
        refine x_ldcSw (k := 20) dX3_rule_46 rfl ?_
        obtain ⟨_, b13, hf⟩ := Option.bind_eq_some_iff.mp hf
        refine x_ctI hf (e_stVN (Yc := YX8_keyword) (ci := 7) (av := [.ref 1000000120]) (st := []) dX3_rule_49 q3927 mX8_keyword rfl (k_ok_some b13).1 (k_ok_some b13).2) mX8_keyword.2.2.1 mX8_keyword.2.2.2.2.1 (Nat.le_of_ble_eq_true rfl) (Nat.le_of_ble_eq_true rfl) rfl (fun q hq => pX8_keyword (by omega) hdr hrE hq) (fun x14 h15 hf => ?_)
        refine w_if_eq 67 dX3_rule_52 (by decide) (fun c16 => ?_) (fun c16 => ?_)
        · replace hf := (if_pos (show x14 = 0 from c16)).symm.trans hf
          refine w_aload_n dX3_rule_67 rfl rfl ?_
          obtain ⟨a17, b18, hf⟩ := Option.bind_eq_some_iff.mp hf
          refine GX3_45 b18 dX3_rule_68 rfl ?_
          refine x_ldcSw (k := 21) dX3_rule_71 rfl ?_
          obtain ⟨_, b19, hf⟩ := Option.bind_eq_some_iff.mp hf
          refine x_ctI hf (e_stVN (Yc := YX8_keyword) (ci := 7) (av := [.ref 1000000121]) (st := []) dX3_rule_74 q3927 mX8_keyword rfl (k_ok_some b19).1 (k_ok_some b19).2) mX8_keyword.2.2.1 mX8_keyword.2.2.2.2.1 (Nat.le_of_ble_eq_true rfl) (Nat.le_of_ble_eq_true rfl) rfl (fun q hq => pX8_keyword (by omega) hdr hrE hq) (fun x20 h21 hf => ?_)
          refine w_if_eq 92 dX3_rule_77 (by decide) (fun c22 => ?_) (fun c22 => ?_)
          · replace hf := (if_pos (show x20 = 0 from c22)).symm.trans hf
            refine w_iconst dX3_rule_92 (v := 0) (by decide) ?_
            refine w_istore dX3_rule_93 (by decide) (ls' := [some (.ref l0), none, none, none, some (.int l4), some (.int l5), some (.int l6), some (.int (0 : Int32))]) rfl ?_
            refine w_goto 12 dX3_rule_95 (by decide) ?_
            exact (ih _ _ _ _ _ _ _ hf).to ⟨rfl, rfl, rfl, rfl, rfl, trivial⟩
          · replace hf := (if_neg (show ¬ (x20 = 0) from c22)).symm.trans hf
            refine w_aload_n dX3_rule_80 rfl rfl ?_
            obtain ⟨a23, b24, hf⟩ := Option.bind_eq_some_iff.mp hf
            refine GX3_45 b24 dX3_rule_81 rfl ?_
            obtain ⟨_, b25, hf⟩ := Option.bind_eq_some_iff.mp hf
            refine x_ctI hf (e_stVN (Yc := YX8_dimension) (ci := 7) (av := []) (st := []) dX3_rule_84 q3928 mX8_dimension rfl (k_ok_some b25).1 (k_ok_some b25).2) mX8_dimension.2.2.1 mX8_dimension.2.2.2.2.1 (Nat.le_of_ble_eq_true rfl) (Nat.le_of_ble_eq_true rfl) rfl (fun q hq => pX8_dimension (by omega) hdr hrE hrN hq) (fun x26 h27 hf => ?_)
            refine w_istore dX3_rule_87 (by decide) (ls' := [some (.ref l0), none, none, none, some (.int l4), some (.int l5), some (.int x26), some (.int l7)]) rfl ?_
            refine w_goto 12 dX3_rule_89 (by decide) ?_
            exact (ih _ _ _ _ _ _ _ hf).to ⟨rfl, rfl, rfl, rfl, rfl, trivial⟩
        · replace hf := (if_neg (show ¬ (x14 = 0) from c16)).symm.trans hf
          refine w_aload_n dX3_rule_55 rfl rfl ?_
          obtain ⟨a28, b29, hf⟩ := Option.bind_eq_some_iff.mp hf
          refine GX3_45 b29 dX3_rule_56 rfl ?_
          obtain ⟨_, b30, hf⟩ := Option.bind_eq_some_iff.mp hf
          refine x_ctI hf (e_stVN (Yc := YX8_dimension) (ci := 7) (av := []) (st := []) dX3_rule_59 q3928 mX8_dimension rfl (k_ok_some b30).1 (k_ok_some b30).2) mX8_dimension.2.2.1 mX8_dimension.2.2.2.2.1 (Nat.le_of_ble_eq_true rfl) (Nat.le_of_ble_eq_true rfl) rfl (fun q hq => pX8_dimension (by omega) hdr hrE hrN hq) (fun x31 h32 hf => ?_)
          refine w_istore dX3_rule_62 (by decide) (ls' := [some (.ref l0), none, none, none, some (.int l4), some (.int x31), some (.int l6), some (.int l7)]) rfl ?_
          refine w_goto 12 dX3_rule_64 (by decide) ?_
          exact (ih _ _ _ _ _ _ _ hf).to ⟨rfl, rfl, rfl, rfl, rfl, trivial⟩
      · replace hf := (if_neg (show ¬ (x8 = 0) from c10)).symm.trans hf
        refine w_aload_n dX3_rule_30 rfl rfl ?_
        obtain ⟨a33, b34, hf⟩ := Option.bind_eq_some_iff.mp hf
        refine GX3_45 b34 dX3_rule_31 rfl ?_
        obtain ⟨_, b35, hf⟩ := Option.bind_eq_some_iff.mp hf
        refine x_ctI hf (e_stVN (Yc := YX8_dimension) (ci := 7) (av := []) (st := []) dX3_rule_34 q3928 mX8_dimension rfl (k_ok_some b35).1 (k_ok_some b35).2) mX8_dimension.2.2.1 mX8_dimension.2.2.2.2.1 (Nat.le_of_ble_eq_true rfl) (Nat.le_of_ble_eq_true rfl) rfl (fun q hq => pX8_dimension (by omega) hdr hrE hrN hq) (fun x36 h37 hf => ?_)
        refine w_istore dX3_rule_37 (by decide) (ls' := [some (.ref l0), none, none, none, some (.int x36), some (.int l5), some (.int l6), some (.int l7)]) rfl ?_
        refine w_goto 12 dX3_rule_39 (by decide) ?_
        exact (ih _ _ _ _ _ _ _ hf).to ⟨rfl, rfl, rfl, rfl, rfl, trivial⟩
def fX3_rule (N : Nat) (rE : Nat → Int32 → eH → Option ((Unit ⊕ Nat) × eH)) (rN : Nat → eH → Option ((Int32 ⊕ Nat) × eH)) (this : Nat) (p0 : Int32) (p1 : Int32) (p2 : Int32) (h : eH) : Option ((Unit ⊕ Nat) × eH) :=
  fX3_rule_b12 N rE rN N this p0 p1 p2 (1 : Int32) h
theorem pX3_rule {w : eW} {d : Nat} {dr : Nat} (hd : dr + 18 ≤ d) (hdr : 12 ≤ dr) {N : Nat} {rE : Nat → Int32 → eH → Option ((Unit ⊕ Nat) × eH)} {rN : Nat → eH → Option ((Int32 ⊕ Nat) × eH)} (hrE : ∀ a t0 h q, rE a t0 h = some q → wm w dr YX8_expand [.ref a, .int t0] h (e_is (e_rt c_V q))) (hrN : ∀ a h q, rN a h = some q → wm w dr YX8_number [.ref a] h (e_is (e_rt c_I q))) {this : Nat} {p0 : Int32} {p1 : Int32} {p2 : Int32} {h : eH} {q} (hf : fX3_rule N rE rN this p0 p1 p2 h = some q) : wm w d YX3_rule [.ref this, .int p0, .int p1, .int p2] h (e_is (e_rt c_V q)) := by
  obtain ⟨d, rfl⟩ : ∃ e, d = e + 1 := ⟨d - 1, by omega⟩
  show wp w (d + 1) YX3_rule 0 [some (.ref this), some (.int p0), some (.int p1), some (.int p2), none, none, none, none] [] h _
  unfold fX3_rule at hf
  refine w_iload_n dX3_rule_0 rfl rfl ?_
  refine w_istore dX3_rule_1 (by decide) (ls' := [some (.ref this), some (.int p0), some (.int p1), some (.int p2), some (.int p0), none, none, none]) rfl ?_
  refine w_iload_n dX3_rule_3 rfl rfl ?_
  refine w_istore dX3_rule_4 (by decide) (ls' := [some (.ref this), some (.int p0), some (.int p1), some (.int p2), some (.int p0), some (.int p1), none, none]) rfl ?_
  refine w_iload_n dX3_rule_6 rfl rfl ?_
  refine w_istore dX3_rule_7 (by decide) (ls' := [some (.ref this), some (.int p0), some (.int p1), some (.int p2), some (.int p0), some (.int p1), some (.int p2), none]) rfl ?_
  refine w_iconst dX3_rule_9 (v := 1) (by decide) ?_
  refine w_istore dX3_rule_10 (by decide) (ls' := [some (.ref this), some (.int p0), some (.int p1), some (.int p2), some (.int p0), some (.int p1), some (.int p2), some (.int (1 : Int32))]) rfl ?_
  exact (pX3_rule_b12 hd hdr hrE hrN N _ _ _ _ _ _ _ hf).to ⟨rfl, rfl, rfl, rfl, rfl, trivial⟩
abbrev cX3_dash : ByteArray := prog_26_method_51_code
def yX3_dash : MethodName := ⟨RX3, "dash", "()V"⟩
def YX3_dash : eY := (yX3_dash, cX3_dash, 2, none, [])
theorem mX3_dash : e_mv YX3_dash RX3 0 := ⟨q4057, qs213, q4058, by decide, by decide +kernel, (e_sig (by decide +kernel))⟩
theorem dX3_dash_0 : decode cX3_dash 0 = .ok (.aload_n 0, 1) := dc_42 (by decide +kernel)
theorem dX3_dash_1 : decode cX3_dash 1 = .ok (.getfield 136, 3) := dc_180 (a := 0) (b := 136) (n := 136) (by decide +kernel)
theorem dX3_dash_4 : decode cX3_dash 4 = .ok (.aload_n 0, 1) := dc_42 (by decide +kernel)
theorem dX3_dash_5 : decode cX3_dash 5 = .ok (.getfield 211, 3) := dc_180 (a := 0) (b := 211) (n := 211) (by decide +kernel)
theorem dX3_dash_8 : decode cX3_dash 8 = .ok (.iaload, 1) := dc_46 (by decide +kernel)
theorem dX3_dash_9 : decode cX3_dash 9 = .ok (.iconst 2, 1) := dc_5 (by decide +kernel)
theorem dX3_dash_10 : decode cX3_dash 10 = .ok (.if_icmp .eq 4, 3) := dc_159 (a := 0) (b := 4) (v := 4) (by decide +kernel)
theorem dX3_dash_13 : decode cX3_dash 13 = .ok (.return_, 1) := dc_177 (by decide +kernel)
theorem dX3_dash_14 : decode cX3_dash 14 = .ok (.aload_n 0, 1) := dc_42 (by decide +kernel)
theorem dX3_dash_15 : decode cX3_dash 15 = .ok (.getfield 53, 3) := dc_180 (a := 0) (b := 53) (n := 53) (by decide +kernel)
theorem dX3_dash_18 : decode cX3_dash 18 = .ok (.getfield 311, 3) := dc_180 (a := 1) (b := 55) (n := 311) (by decide +kernel)
theorem dX3_dash_21 : decode cX3_dash 21 = .ok (.sipush 2095, 3) := dc_17 (a := 8) (b := 47) (v := 2095) (by decide +kernel)
theorem dX3_dash_24 : decode cX3_dash 24 = .ok (.iaload, 1) := dc_46 (by decide +kernel)
theorem dX3_dash_25 : decode cX3_dash 25 = .ok (.istore_n 1, 1) := dc_60 (by decide +kernel)
theorem dX3_dash_26 : decode cX3_dash 26 = .ok (.iload_n 1, 1) := dc_27 (by decide +kernel)
theorem dX3_dash_27 : decode cX3_dash 27 = .ok (.iconst (-1), 1) := dc_2 (by decide +kernel)
theorem dX3_dash_28 : decode cX3_dash 28 = .ok (.if_icmp .eq 29, 3) := dc_159 (a := 0) (b := 29) (v := 29) (by decide +kernel)
theorem dX3_dash_31 : decode cX3_dash 31 = .ok (.aload_n 0, 1) := dc_42 (by decide +kernel)
theorem dX3_dash_32 : decode cX3_dash 32 = .ok (.getfield 23, 3) := dc_180 (a := 0) (b := 23) (n := 23) (by decide +kernel)
theorem dX3_dash_35 : decode cX3_dash 35 = .ok (.getfield 448, 3) := dc_180 (a := 1) (b := 192) (n := 448) (by decide +kernel)
theorem dX3_dash_38 : decode cX3_dash 38 = .ok (.iload_n 1, 1) := dc_27 (by decide +kernel)
theorem dX3_dash_39 : decode cX3_dash 39 = .ok (.aaload, 1) := dc_50 (by decide +kernel)
theorem dX3_dash_40 : decode cX3_dash 40 = .ok (.bipush 45, 2) := dc_16 (a := 45) (v := 45) (by decide +kernel)
theorem dX3_dash_42 : decode cX3_dash 42 = .ok (.invokevirtual 451, 3) := dc_182 (a := 1) (b := 195) (n := 451) (by decide +kernel)
theorem dX3_dash_45 : decode cX3_dash 45 = .ok (.ifCond .eq 12, 3) := dc_153 (a := 0) (b := 12) (v := 12) (by decide +kernel)
theorem dX3_dash_48 : decode cX3_dash 48 = .ok (.aload_n 0, 1) := dc_42 (by decide +kernel)
theorem dX3_dash_49 : decode cX3_dash 49 = .ok (.iload_n 1, 1) := dc_27 (by decide +kernel)
theorem dX3_dash_50 : decode cX3_dash 50 = .ok (.iconst 0, 1) := dc_3 (by decide +kernel)
theorem dX3_dash_51 : decode cX3_dash 51 = .ok (.invokevirtual 504, 3) := dc_182 (a := 1) (b := 248) (n := 504) (by decide +kernel)
theorem dX3_dash_54 : decode cX3_dash 54 = .ok (.goto 14, 3) := dc_167 (a := 0) (b := 14) (v := 14) (by decide +kernel)
theorem dX3_dash_57 : decode cX3_dash 57 = .ok (.aload_n 0, 1) := dc_42 (by decide +kernel)
theorem dX3_dash_58 : decode cX3_dash 58 = .ok (.bipush 6, 2) := dc_16 (a := 6) (v := 6) (by decide +kernel)
theorem dX3_dash_60 : decode cX3_dash 60 = .ok (.iconst 0, 1) := dc_3 (by decide +kernel)
theorem dX3_dash_61 : decode cX3_dash 61 = .ok (.iconst 0, 1) := dc_3 (by decide +kernel)
theorem dX3_dash_62 : decode cX3_dash 62 = .ok (.iconst 0, 1) := dc_3 (by decide +kernel)
theorem dX3_dash_63 : decode cX3_dash 63 = .ok (.iconst 0, 1) := dc_3 (by decide +kernel)
theorem dX3_dash_64 : decode cX3_dash 64 = .ok (.iconst 0, 1) := dc_3 (by decide +kernel)
theorem dX3_dash_65 : decode cX3_dash 65 = .ok (.invokevirtual 318, 3) := dc_182 (a := 1) (b := 62) (n := 318) (by decide +kernel)
theorem dX3_dash_68 : decode cX3_dash 68 = .ok (.return_, 1) := dc_177 (by decide +kernel)
def fX3_dash_b68  (h : eH) : Option ((Unit ⊕ Nat) × eH) :=
  some (.inl (), h)
theorem pX3_dash_b68 {w : eW} {d : Nat} (hd : 10 ≤ d + 1)  {h : eH} {q} (hf : fX3_dash_b68  h = some q) : wp w (d + 1) YX3_dash 68 [none, none] [] h (e_is (e_rt c_V q)) := by
  unfold fX3_dash_b68 at hf
  cases hf
  exact w_vret dX3_dash_68 rfl rfl
def fX3_dash_b57 (l0 : Nat) (h : eH) : Option ((Unit ⊕ Nat) × eH) :=
  (k_ok 2 h l0).bind fun _ =>
  t_B (fX3_put l0 (6 : Int32) (0 : Int32) (0 : Int32) (0 : Int32) (0 : Int32) (0 : Int32) h) fun x2 h3 =>
  fX3_dash_b68 h3
theorem pX3_dash_b57 {w : eW} {d : Nat} (hd : 10 ≤ d + 1) {l0 : Nat} {h : eH} {q} (hf : fX3_dash_b57 l0 h = some q) : wp w (d + 1) YX3_dash 57 [some (.ref l0), none] [] h (e_is (e_rt c_V q)) := by
  unfold fX3_dash_b57 at hf
  refine w_aload_n dX3_dash_57 rfl rfl ?_
  refine w_bipush dX3_dash_58 (v := 6) (by decide) ?_
  refine w_iconst dX3_dash_60 (v := 0) (by decide) ?_
  refine w_iconst dX3_dash_61 (v := 0) (by decide) ?_
  refine w_iconst dX3_dash_62 (v := 0) (by decide) ?_
  refine w_iconst dX3_dash_63 (v := 0) (by decide) ?_
  refine w_iconst dX3_dash_64 (v := 0) (by decide) ?_
  obtain ⟨_, b1, hf⟩ := Option.bind_eq_some_iff.mp hf
  refine x_ctV hf (e_stV (Yc := YX3_put) (ci := 2) (av := [.int (6 : Int32), .int (0 : Int32), .int (0 : Int32), .int (0 : Int32), .int (0 : Int32), .int (0 : Int32)]) (st := []) dX3_dash_65 q3177 mX3_put rfl (k_ok_some b1).1 (k_ok_some b1).2) mX3_put.2.2.1 mX3_put.2.2.2.2.1 (Nat.le_of_ble_eq_true rfl) (Nat.le_of_ble_eq_true rfl) rfl (fun q hq => pX3_put (by omega) hq) (fun x2 h3 hf => ?_)
  exact (pX3_dash_b68 hd hf).to trivial
def fX3_dash (this : Nat) (h : eH) : Option ((Unit ⊕ Nat) × eH) :=
  (g_A 2 h this 19).bind fun a1 =>
  (g_I 2 h this 27).bind fun x3 =>
  (r_I 100 h a1 x3).bind fun x5 =>
  if x5 = (2 : Int32) then
    (g_A 2 h this 6).bind fun a8 =>
    (g_A 8 h a8 3).bind fun a10 =>
    (r_I 100 h a10 (2095 : Int32)).bind fun x12 =>
    if x12 = (-1 : Int32) then
      fX3_dash_b57 this h
    else
      (g_A 2 h this 1).bind fun a15 =>
      (g_A 4 h a15 1).bind fun a17 =>
      (r_A 105 h a17 x12).bind fun a19 =>
      (k_ok 5 h a19).bind fun _ =>
      (fX6_has a19 (45 : Int32) h).bind fun q22 =>
      if q22.1 = 0 then
        fX3_dash_b57 this q22.2
      else
        (k_ok 2 q22.2 this).bind fun _ =>
        t_B (fX3_addHyphen this x12 (0 : Int32) q22.2) fun x25 h26 =>
        fX3_dash_b68 h26
  else
    some (.inl (), h)
theorem pX3_dash {w : eW} {d : Nat} (hd : 10 ≤ d) {this : Nat} {h : eH} {q} (hf : fX3_dash this h = some q) : wm w d YX3_dash [.ref this] h (e_is (e_rt c_V q)) := by
  obtain ⟨d, rfl⟩ : ∃ e, d = e + 1 := ⟨d - 1, by omega⟩
  show wp w (d + 1) YX3_dash 0 [some (.ref this), none] [] h _
  unfold fX3_dash at hf
  refine w_aload_n dX3_dash_0 rfl rfl ?_
  obtain ⟨a1, b2, hf⟩ := Option.bind_eq_some_iff.mp hf
  refine GX3_136 b2 dX3_dash_1 rfl ?_
  refine w_aload_n dX3_dash_4 rfl rfl ?_
  obtain ⟨x3, b4, hf⟩ := Option.bind_eq_some_iff.mp hf
  refine GX3_211 b4 dX3_dash_5 rfl ?_
  obtain ⟨x5, b6, hf⟩ := Option.bind_eq_some_iff.mp hf
  refine x_rI b6 dX3_dash_8 ?_
  refine w_iconst dX3_dash_9 (v := 2) (by decide) ?_
  refine w_icmp_eq 14 dX3_dash_10 (by decide) (fun c7 => ?_) (fun c7 => ?_)
  · replace hf := (if_pos (show x5 = (2 : Int32) from c7)).symm.trans hf
    refine w_aload_n dX3_dash_14 rfl rfl ?_
    obtain ⟨a8, b9, hf⟩ := Option.bind_eq_some_iff.mp hf
    refine GX3_53 b9 dX3_dash_15 rfl ?_
    obtain ⟨a10, b11, hf⟩ := Option.bind_eq_some_iff.mp hf
    refine GX3_311 b11 dX3_dash_18 rfl ?_
    refine w_sipush dX3_dash_21 (v := 2095) (by decide) ?_
    obtain ⟨x12, b13, hf⟩ := Option.bind_eq_some_iff.mp hf
    refine x_rI b13 dX3_dash_24 ?_
    refine w_istore_n dX3_dash_25 rfl (by decide) (ls' := [some (.ref this), some (.int x12)]) rfl ?_
    refine w_iload_n dX3_dash_26 rfl rfl ?_
    refine w_iconst dX3_dash_27 (v := -1) (by decide) ?_
    refine w_icmp_eq 57 dX3_dash_28 (by decide) (fun c14 => ?_) (fun c14 => ?_)
    · replace hf := (if_pos (show x12 = (-1 : Int32) from c14)).symm.trans hf
      exact (pX3_dash_b57 hd hf).to ⟨rfl, trivial⟩
    · replace hf := (if_neg (show ¬ (x12 = (-1 : Int32)) from c14)).symm.trans hf
      refine w_aload_n dX3_dash_31 rfl rfl ?_
      obtain ⟨a15, b16, hf⟩ := Option.bind_eq_some_iff.mp hf
      refine GX3_23 b16 dX3_dash_32 rfl ?_
      obtain ⟨a17, b18, hf⟩ := Option.bind_eq_some_iff.mp hf
      refine GX3_448 b18 dX3_dash_35 rfl ?_
      refine w_iload_n dX3_dash_38 rfl rfl ?_
      obtain ⟨a19, b20, hf⟩ := Option.bind_eq_some_iff.mp hf
      refine x_rA (c := 105) (by decide) b20 dX3_dash_39 ?_
      refine w_bipush dX3_dash_40 (v := 45) (by decide) ?_
      obtain ⟨_, b21, hf⟩ := Option.bind_eq_some_iff.mp hf
      refine x_cnI hf (e_stV (Yc := YX6_has) (ci := 5) (av := [.int (45 : Int32)]) (st := []) dX3_dash_42 q3111 mX6_has rfl (k_ok_some b21).1 (k_ok_some b21).2) mX6_has.2.2.1 mX6_has.2.2.2.2.1 (Nat.le_of_ble_eq_true rfl) (Nat.le_of_ble_eq_true rfl) (fun q hq => pX6_has (by omega) hq) (fun q22 hf => ?_)
      refine w_if_eq 57 dX3_dash_45 (by decide) (fun c23 => ?_) (fun c23 => ?_)
      · replace hf := (if_pos (show q22.1 = 0 from c23)).symm.trans hf
        exact (pX3_dash_b57 hd hf).to ⟨rfl, trivial⟩
      · replace hf := (if_neg (show ¬ (q22.1 = 0) from c23)).symm.trans hf
        refine w_aload_n dX3_dash_48 rfl rfl ?_
        refine w_iload_n dX3_dash_49 rfl rfl ?_
        refine w_iconst dX3_dash_50 (v := 0) (by decide) ?_
        obtain ⟨_, b24, hf⟩ := Option.bind_eq_some_iff.mp hf
        refine x_ctV hf (e_stV (Yc := YX3_addHyphen) (ci := 2) (av := [.int x12, .int (0 : Int32)]) (st := []) dX3_dash_51 q3168 mX3_addHyphen rfl (k_ok_some b24).1 (k_ok_some b24).2) mX3_addHyphen.2.2.1 mX3_addHyphen.2.2.2.2.1 (Nat.le_of_ble_eq_true rfl) (Nat.le_of_ble_eq_true rfl) rfl (fun q hq => pX3_addHyphen (by omega) hq) (fun x25 h26 hf => ?_)
        refine w_goto 68 dX3_dash_54 (by decide) ?_
        exact (pX3_dash_b68 hd hf).to trivial
  · replace hf := (if_neg (show ¬ (x5 = (2 : Int32)) from c7)).symm.trans hf
    cases hf
    exact w_vret dX3_dash_13 rfl rfl
abbrev cX3_actBox : ByteArray := prog_26_method_53_code
def yX3_actBox : MethodName := ⟨RX3, "actBox", "(I)V"⟩
def YX3_actBox : eY := (yX3_actBox, cX3_actBox, 3, none, [])
theorem mX3_actBox : e_mv YX3_actBox RX3 1 := ⟨q4061, qs214, q4062, by decide, by decide +kernel, (e_sig (by decide +kernel))⟩
theorem dX3_actBox_0 : decode cX3_actBox 0 = .ok (.iload_n 1, 1) := dc_27 (by decide +kernel)
theorem dX3_actBox_1 : decode cX3_actBox 1 = .ok (.bipush 41, 2) := dc_16 (a := 41) (v := 41) (by decide +kernel)
theorem dX3_actBox_3 : decode cX3_actBox 3 = .ok (.if_icmp .lt 18, 3) := dc_161 (a := 0) (b := 18) (v := 18) (by decide +kernel)
theorem dX3_actBox_6 : decode cX3_actBox 6 = .ok (.iload_n 1, 1) := dc_27 (by decide +kernel)
theorem dX3_actBox_7 : decode cX3_actBox 7 = .ok (.bipush 44, 2) := dc_16 (a := 44) (v := 44) (by decide +kernel)
theorem dX3_actBox_9 : decode cX3_actBox 9 = .ok (.if_icmp .gt 12, 3) := dc_163 (a := 0) (b := 12) (v := 12) (by decide +kernel)
theorem dX3_actBox_12 : decode cX3_actBox 12 = .ok (.aload_n 0, 1) := dc_42 (by decide +kernel)
theorem dX3_actBox_13 : decode cX3_actBox 13 = .ok (.iload_n 1, 1) := dc_27 (by decide +kernel)
theorem dX3_actBox_14 : decode cX3_actBox 14 = .ok (.iconst (-1), 1) := dc_2 (by decide +kernel)
theorem dX3_actBox_15 : decode cX3_actBox 15 = .ok (.iconst 0, 1) := dc_3 (by decide +kernel)
theorem dX3_actBox_16 : decode cX3_actBox 16 = .ok (.iconst 0, 1) := dc_3 (by decide +kernel)
theorem dX3_actBox_17 : decode cX3_actBox 17 = .ok (.invokevirtual 737, 3) := dc_182 (a := 2) (b := 225) (n := 737) (by decide +kernel)
theorem dX3_actBox_20 : decode cX3_actBox 20 = .ok (.return_, 1) := dc_177 (by decide +kernel)
theorem dX3_actBox_21 : decode cX3_actBox 21 = .ok (.aload_n 0, 1) := dc_42 (by decide +kernel)
theorem dX3_actBox_22 : decode cX3_actBox 22 = .ok (.getfield 14, 3) := dc_180 (a := 0) (b := 14) (n := 14) (by decide +kernel)
theorem dX3_actBox_25 : decode cX3_actBox 25 = .ok (.aload_n 0, 1) := dc_42 (by decide +kernel)
theorem dX3_actBox_26 : decode cX3_actBox 26 = .ok (.invokevirtual 298, 3) := dc_182 (a := 1) (b := 42) (n := 298) (by decide +kernel)
theorem dX3_actBox_29 : decode cX3_actBox 29 = .ok (.iload_n 1, 1) := dc_27 (by decide +kernel)
theorem dX3_actBox_30 : decode cX3_actBox 30 = .ok (.bipush 47, 2) := dc_16 (a := 47) (v := 47) (by decide +kernel)
theorem dX3_actBox_32 : decode cX3_actBox 32 = .ok (.if_icmp .eq 9, 3) := dc_159 (a := 0) (b := 9) (v := 9) (by decide +kernel)
theorem dX3_actBox_35 : decode cX3_actBox 35 = .ok (.iload_n 1, 1) := dc_27 (by decide +kernel)
theorem dX3_actBox_36 : decode cX3_actBox 36 = .ok (.bipush 48, 2) := dc_16 (a := 48) (v := 48) (by decide +kernel)
theorem dX3_actBox_38 : decode cX3_actBox 38 = .ok (.if_icmp .ne 7, 3) := dc_160 (a := 0) (b := 7) (v := 7) (by decide +kernel)
theorem dX3_actBox_41 : decode cX3_actBox 41 = .ok (.iconst 1, 1) := dc_4 (by decide +kernel)
theorem dX3_actBox_42 : decode cX3_actBox 42 = .ok (.goto 4, 3) := dc_167 (a := 0) (b := 4) (v := 4) (by decide +kernel)
theorem dX3_actBox_45 : decode cX3_actBox 45 = .ok (.iconst 0, 1) := dc_3 (by decide +kernel)
theorem dX3_actBox_46 : decode cX3_actBox 46 = .ok (.if_icmp .ne 7, 3) := dc_160 (a := 0) (b := 7) (v := 7) (by decide +kernel)
theorem dX3_actBox_49 : decode cX3_actBox 49 = .ok (.iconst 1, 1) := dc_4 (by decide +kernel)
theorem dX3_actBox_50 : decode cX3_actBox 50 = .ok (.goto 4, 3) := dc_167 (a := 0) (b := 4) (v := 4) (by decide +kernel)
theorem dX3_actBox_53 : decode cX3_actBox 53 = .ok (.iconst 0, 1) := dc_3 (by decide +kernel)
theorem dX3_actBox_54 : decode cX3_actBox 54 = .ok (.bipush 15, 2) := dc_16 (a := 15) (v := 15) (by decide +kernel)
theorem dX3_actBox_56 : decode cX3_actBox 56 = .ok (.invokevirtual 289, 3) := dc_182 (a := 1) (b := 33) (n := 289) (by decide +kernel)
theorem dX3_actBox_59 : decode cX3_actBox 59 = .ok (.aload_n 0, 1) := dc_42 (by decide +kernel)
theorem dX3_actBox_60 : decode cX3_actBox 60 = .ok (.getfield 45, 3) := dc_180 (a := 0) (b := 45) (n := 45) (by decide +kernel)
theorem dX3_actBox_63 : decode cX3_actBox 63 = .ok (.invokevirtual 418, 3) := dc_182 (a := 1) (b := 162) (n := 418) (by decide +kernel)
theorem dX3_actBox_66 : decode cX3_actBox 66 = .ok (.istore_n 2, 1) := dc_61 (by decide +kernel)
theorem dX3_actBox_67 : decode cX3_actBox 67 = .ok (.iload_n 1, 1) := dc_27 (by decide +kernel)
theorem dX3_actBox_68 : decode cX3_actBox 68 = .ok (.bipush 45, 2) := dc_16 (a := 45) (v := 45) (by decide +kernel)
theorem dX3_actBox_70 : decode cX3_actBox 70 = .ok (.if_icmp .eq 9, 3) := dc_159 (a := 0) (b := 9) (v := 9) (by decide +kernel)
theorem dX3_actBox_73 : decode cX3_actBox 73 = .ok (.iload_n 1, 1) := dc_27 (by decide +kernel)
theorem dX3_actBox_74 : decode cX3_actBox 74 = .ok (.bipush 47, 2) := dc_16 (a := 47) (v := 47) (by decide +kernel)
theorem dX3_actBox_76 : decode cX3_actBox 76 = .ok (.if_icmp .ne 8, 3) := dc_160 (a := 0) (b := 8) (v := 8) (by decide +kernel)
theorem dX3_actBox_79 : decode cX3_actBox 79 = .ok (.iload_n 2, 1) := dc_28 (by decide +kernel)
theorem dX3_actBox_80 : decode cX3_actBox 80 = .ok (.ineg, 1) := dc_116 (by decide +kernel)
theorem dX3_actBox_81 : decode cX3_actBox 81 = .ok (.goto 4, 3) := dc_167 (a := 0) (b := 4) (v := 4) (by decide +kernel)
theorem dX3_actBox_84 : decode cX3_actBox 84 = .ok (.iload_n 2, 1) := dc_28 (by decide +kernel)
theorem dX3_actBox_85 : decode cX3_actBox 85 = .ok (.istore_n 2, 1) := dc_61 (by decide +kernel)
theorem dX3_actBox_86 : decode cX3_actBox 86 = .ok (.aload_n 0, 1) := dc_42 (by decide +kernel)
theorem dX3_actBox_87 : decode cX3_actBox 87 = .ok (.aload_n 0, 1) := dc_42 (by decide +kernel)
theorem dX3_actBox_88 : decode cX3_actBox 88 = .ok (.getfield 45, 3) := dc_180 (a := 0) (b := 45) (n := 45) (by decide +kernel)
theorem dX3_actBox_91 : decode cX3_actBox 91 = .ok (.aload_n 0, 1) := dc_42 (by decide +kernel)
theorem dX3_actBox_92 : decode cX3_actBox 92 = .ok (.invokevirtual 421, 3) := dc_182 (a := 1) (b := 165) (n := 421) (by decide +kernel)
theorem dX3_actBox_95 : decode cX3_actBox 95 = .ok (.invokevirtual 401, 3) := dc_182 (a := 1) (b := 145) (n := 401) (by decide +kernel)
theorem dX3_actBox_98 : decode cX3_actBox 98 = .ok (.iconst (-1), 1) := dc_2 (by decide +kernel)
theorem dX3_actBox_99 : decode cX3_actBox 99 = .ok (.iload_n 2, 1) := dc_28 (by decide +kernel)
theorem dX3_actBox_100 : decode cX3_actBox 100 = .ok (.iconst 0, 1) := dc_3 (by decide +kernel)
theorem dX3_actBox_101 : decode cX3_actBox 101 = .ok (.invokevirtual 737, 3) := dc_182 (a := 2) (b := 225) (n := 737) (by decide +kernel)
theorem dX3_actBox_104 : decode cX3_actBox 104 = .ok (.return_, 1) := dc_177 (by decide +kernel)
def fX3_actBox_b85 (N : Nat) (rE : Nat → Int32 → eH → Option ((Unit ⊕ Nat) × eH)) (rN : Nat → eH → Option ((Int32 ⊕ Nat) × eH)) (l0 : Nat) (s0 : Int32) (h : eH) : Option ((Unit ⊕ Nat) × eH) :=
  (g_A 2 h l0 5).bind fun a1 =>
  (k_ok 2 h l0).bind fun _ =>
  t_B (fX3_solid N rE l0 h) fun x4 h5 =>
  (k_ok 7 h5 a1).bind fun _ =>
  (fX8_primitive a1 x4 h5).bind fun q7 =>
  (k_ok 2 q7.2 l0).bind fun _ =>
  t_B (fX3_readBox N rE rN l0 q7.1 (-1 : Int32) s0 (0 : Int32) q7.2) fun x9 h10 =>
  some (.inl (), h10)
theorem pX3_actBox_b85 {w : eW} {d : Nat} {dr : Nat} (hd : dr + 19 ≤ d + 1) (hdr : 12 ≤ dr) {N : Nat} {rE : Nat → Int32 → eH → Option ((Unit ⊕ Nat) × eH)} {rN : Nat → eH → Option ((Int32 ⊕ Nat) × eH)} (hrE : ∀ a t0 h q, rE a t0 h = some q → wm w dr YX8_expand [.ref a, .int t0] h (e_is (e_rt c_V q))) (hrN : ∀ a h q, rN a h = some q → wm w dr YX8_number [.ref a] h (e_is (e_rt c_I q))) {l0 : Nat} {s0 : Int32} {h : eH} {q} (hf : fX3_actBox_b85 N rE rN l0 s0 h = some q) : wp w (d + 1) YX3_actBox 85 [some (.ref l0), none, none] [.int s0] h (e_is (e_rt c_V q)) := by
  unfold fX3_actBox_b85 at hf
  refine w_istore_n dX3_actBox_85 rfl (by decide) (ls' := [some (.ref l0), none, some (.int s0)]) rfl ?_
  refine w_aload_n dX3_actBox_86 rfl rfl ?_
  refine w_aload_n dX3_actBox_87 rfl rfl ?_
  obtain ⟨a1, b2, hf⟩ := Option.bind_eq_some_iff.mp hf
  refine GX3_45 b2 dX3_actBox_88 rfl ?_
  refine w_aload_n dX3_actBox_91 rfl rfl ?_
  obtain ⟨_, b3, hf⟩ := Option.bind_eq_some_iff.mp hf
  refine x_ctI hf (e_stV (Yc := YX3_solid) (ci := 2) (av := []) (st := [.ref a1, .ref l0]) dX3_actBox_92 q3897 mX3_solid rfl (k_ok_some b3).1 (k_ok_some b3).2) mX3_solid.2.2.1 mX3_solid.2.2.2.2.1 (Nat.le_of_ble_eq_true rfl) (Nat.le_of_ble_eq_true rfl) rfl (fun q hq => pX3_solid (by omega) hdr hrE hq) (fun x4 h5 hf => ?_)
  obtain ⟨_, b6, hf⟩ := Option.bind_eq_some_iff.mp hf
  refine x_cnI hf (e_stVN (Yc := YX8_primitive) (ci := 7) (av := [.int x4]) (st := [.ref l0]) dX3_actBox_95 q3903 mX8_primitive rfl (k_ok_some b6).1 (k_ok_some b6).2) mX8_primitive.2.2.1 mX8_primitive.2.2.2.2.1 (Nat.le_of_ble_eq_true rfl) (Nat.le_of_ble_eq_true rfl) (fun q hq => pX8_primitive (by omega) hq) (fun q7 hf => ?_)
  refine w_iconst dX3_actBox_98 (v := -1) (by decide) ?_
  refine w_iload_n dX3_actBox_99 rfl rfl ?_
  refine w_iconst dX3_actBox_100 (v := 0) (by decide) ?_
  obtain ⟨_, b8, hf⟩ := Option.bind_eq_some_iff.mp hf
  refine x_ctV hf (e_stV (Yc := YX3_readBox) (ci := 2) (av := [.int q7.1, .int (-1 : Int32), .int s0, .int (0 : Int32)]) (st := []) dX3_actBox_101 q3992 mX3_readBox rfl (k_ok_some b8).1 (k_ok_some b8).2) mX3_readBox.2.2.1 mX3_readBox.2.2.2.2.1 (Nat.le_of_ble_eq_true rfl) (Nat.le_of_ble_eq_true rfl) rfl (fun q hq => pX3_readBox (by omega) hdr hrE hrN hq) (fun x9 h10 hf => ?_)
  cases hf
  exact w_vret dX3_actBox_104 rfl rfl
def fX3_actBox_b79 (N : Nat) (rE : Nat → Int32 → eH → Option ((Unit ⊕ Nat) × eH)) (rN : Nat → eH → Option ((Int32 ⊕ Nat) × eH)) (l0 : Nat) (l2 : Int32) (h : eH) : Option ((Unit ⊕ Nat) × eH) :=
  fX3_actBox_b85 N rE rN l0 (-l2) h
theorem pX3_actBox_b79 {w : eW} {d : Nat} {dr : Nat} (hd : dr + 19 ≤ d + 1) (hdr : 12 ≤ dr) {N : Nat} {rE : Nat → Int32 → eH → Option ((Unit ⊕ Nat) × eH)} {rN : Nat → eH → Option ((Int32 ⊕ Nat) × eH)} (hrE : ∀ a t0 h q, rE a t0 h = some q → wm w dr YX8_expand [.ref a, .int t0] h (e_is (e_rt c_V q))) (hrN : ∀ a h q, rN a h = some q → wm w dr YX8_number [.ref a] h (e_is (e_rt c_I q))) {l0 : Nat} {l2 : Int32} {h : eH} {q} (hf : fX3_actBox_b79 N rE rN l0 l2 h = some q) : wp w (d + 1) YX3_actBox 79 [some (.ref l0), none, some (.int l2)] [] h (e_is (e_rt c_V q)) := by
  unfold fX3_actBox_b79 at hf
  refine w_iload_n dX3_actBox_79 rfl rfl ?_
  refine w_ineg dX3_actBox_80 ?_
  refine w_goto 85 dX3_actBox_81 (by decide) ?_
  exact (pX3_actBox_b85 hd hdr hrE hrN hf).to ⟨rfl, trivial⟩
def fX3_actBox_b54 (N : Nat) (rE : Nat → Int32 → eH → Option ((Unit ⊕ Nat) × eH)) (rN : Nat → eH → Option ((Int32 ⊕ Nat) × eH)) (l0 : Nat) (l1 : Int32) (s0 : Nat) (s1 : Int32) (h : eH) : Option ((Unit ⊕ Nat) × eH) :=
  (k_ok 3 h s0).bind fun _ =>
  t_B (fX4_want s0 s1 (15 : Int32) h) fun x2 h3 =>
  (g_A 2 h3 l0 5).bind fun a4 =>
  (k_ok 7 h3 a4).bind fun _ =>
  t_B (fX8_dimension N rE rN a4 h3) fun x7 h8 =>
  if l1 = (45 : Int32) then
    fX3_actBox_b79 N rE rN l0 x7 h8
  else
    if ¬ l1 = (47 : Int32) then
      fX3_actBox_b85 N rE rN l0 x7 h8
    else
      fX3_actBox_b79 N rE rN l0 x7 h8
theorem pX3_actBox_b54 {w : eW} {d : Nat} {dr : Nat} (hd : dr + 19 ≤ d + 1) (hdr : 12 ≤ dr) {N : Nat} {rE : Nat → Int32 → eH → Option ((Unit ⊕ Nat) × eH)} {rN : Nat → eH → Option ((Int32 ⊕ Nat) × eH)} (hrE : ∀ a t0 h q, rE a t0 h = some q → wm w dr YX8_expand [.ref a, .int t0] h (e_is (e_rt c_V q))) (hrN : ∀ a h q, rN a h = some q → wm w dr YX8_number [.ref a] h (e_is (e_rt c_I q))) {l0 : Nat} {l1 : Int32} {s0 : Nat} {s1 : Int32} {h : eH} {q} (hf : fX3_actBox_b54 N rE rN l0 l1 s0 s1 h = some q) : wp w (d + 1) YX3_actBox 54 [some (.ref l0), some (.int l1), none] [.int s1, .ref s0] h (e_is (e_rt c_V q)) := by
  unfold fX3_actBox_b54 at hf
  refine w_bipush dX3_actBox_54 (v := 15) (by decide) ?_
  obtain ⟨_, b1, hf⟩ := Option.bind_eq_some_iff.mp hf
  refine x_ctV hf (e_stV (Yc := YX4_want) (ci := 3) (av := [.int s1, .int (15 : Int32)]) (st := []) dX3_actBox_56 q2846 mX4_want rfl (k_ok_some b1).1 (k_ok_some b1).2) mX4_want.2.2.1 mX4_want.2.2.2.2.1 (Nat.le_of_ble_eq_true rfl) (Nat.le_of_ble_eq_true rfl) rfl (fun q hq => pX4_want (by omega) hq) (fun x2 h3 hf => ?_)
  refine w_aload_n dX3_actBox_59 rfl rfl ?_
  obtain ⟨a4, b5, hf⟩ := Option.bind_eq_some_iff.mp hf
  refine GX3_45 b5 dX3_actBox_60 rfl ?_
  obtain ⟨_, b6, hf⟩ := Option.bind_eq_some_iff.mp hf
  refine x_ctI hf (e_stVN (Yc := YX8_dimension) (ci := 7) (av := []) (st := []) dX3_actBox_63 q3928 mX8_dimension rfl (k_ok_some b6).1 (k_ok_some b6).2) mX8_dimension.2.2.1 mX8_dimension.2.2.2.2.1 (Nat.le_of_ble_eq_true rfl) (Nat.le_of_ble_eq_true rfl) rfl (fun q hq => pX8_dimension (by omega) hdr hrE hrN hq) (fun x7 h8 hf => ?_)
  refine w_istore_n dX3_actBox_66 rfl (by decide) (ls' := [some (.ref l0), some (.int l1), some (.int x7)]) rfl ?_
  refine w_iload_n dX3_actBox_67 rfl rfl ?_
  refine w_bipush dX3_actBox_68 (v := 45) (by decide) ?_
  refine w_icmp_eq 79 dX3_actBox_70 (by decide) (fun c9 => ?_) (fun c9 => ?_)
  · replace hf := (if_pos (show l1 = (45 : Int32) from c9)).symm.trans hf
    exact (pX3_actBox_b79 hd hdr hrE hrN hf).to ⟨rfl, rfl, trivial⟩
  · replace hf := (if_neg (show ¬ (l1 = (45 : Int32)) from c9)).symm.trans hf
    refine w_iload_n dX3_actBox_73 rfl rfl ?_
    refine w_bipush dX3_actBox_74 (v := 47) (by decide) ?_
    refine w_icmp_ne 84 dX3_actBox_76 (by decide) (fun c10 => ?_) (fun c10 => ?_)
    · replace hf := (if_pos (show ¬ l1 = (47 : Int32) from c10)).symm.trans hf
      refine w_iload_n dX3_actBox_84 rfl rfl ?_
      exact (pX3_actBox_b85 hd hdr hrE hrN hf).to ⟨rfl, trivial⟩
    · replace hf := (if_neg (show ¬ (¬ l1 = (47 : Int32)) from (fun z => z c10))).symm.trans hf
      exact (pX3_actBox_b79 hd hdr hrE hrN hf).to ⟨rfl, rfl, trivial⟩
def fX3_actBox_b46 (N : Nat) (rE : Nat → Int32 → eH → Option ((Unit ⊕ Nat) × eH)) (rN : Nat → eH → Option ((Int32 ⊕ Nat) × eH)) (l0 : Nat) (l1 : Int32) (s0 : Nat) (s1 : Int32) (s2 : Int32) (h : eH) : Option ((Unit ⊕ Nat) × eH) :=
  if ¬ s1 = s2 then
    fX3_actBox_b54 N rE rN l0 l1 s0 (0 : Int32) h
  else
    fX3_actBox_b54 N rE rN l0 l1 s0 (1 : Int32) h
theorem pX3_actBox_b46 {w : eW} {d : Nat} {dr : Nat} (hd : dr + 19 ≤ d + 1) (hdr : 12 ≤ dr) {N : Nat} {rE : Nat → Int32 → eH → Option ((Unit ⊕ Nat) × eH)} {rN : Nat → eH → Option ((Int32 ⊕ Nat) × eH)} (hrE : ∀ a t0 h q, rE a t0 h = some q → wm w dr YX8_expand [.ref a, .int t0] h (e_is (e_rt c_V q))) (hrN : ∀ a h q, rN a h = some q → wm w dr YX8_number [.ref a] h (e_is (e_rt c_I q))) {l0 : Nat} {l1 : Int32} {s0 : Nat} {s1 : Int32} {s2 : Int32} {h : eH} {q} (hf : fX3_actBox_b46 N rE rN l0 l1 s0 s1 s2 h = some q) : wp w (d + 1) YX3_actBox 46 [some (.ref l0), some (.int l1), none] [.int s2, .int s1, .ref s0] h (e_is (e_rt c_V q)) := by
  unfold fX3_actBox_b46 at hf
  refine w_icmp_ne 53 dX3_actBox_46 (by decide) (fun c1 => ?_) (fun c1 => ?_)
  · replace hf := (if_pos (show ¬ s1 = s2 from c1)).symm.trans hf
    refine w_iconst dX3_actBox_53 (v := 0) (by decide) ?_
    exact (pX3_actBox_b54 hd hdr hrE hrN hf).to ⟨rfl, rfl, trivial⟩
  · replace hf := (if_neg (show ¬ (¬ s1 = s2) from (fun z => z c1))).symm.trans hf
    refine w_iconst dX3_actBox_49 (v := 1) (by decide) ?_
    refine w_goto 54 dX3_actBox_50 (by decide) ?_
    exact (pX3_actBox_b54 hd hdr hrE hrN hf).to ⟨rfl, rfl, trivial⟩
def fX3_actBox_b41 (N : Nat) (rE : Nat → Int32 → eH → Option ((Unit ⊕ Nat) × eH)) (rN : Nat → eH → Option ((Int32 ⊕ Nat) × eH)) (l0 : Nat) (l1 : Int32) (s0 : Nat) (s1 : Int32) (h : eH) : Option ((Unit ⊕ Nat) × eH) :=
  fX3_actBox_b46 N rE rN l0 l1 s0 s1 (1 : Int32) h
theorem pX3_actBox_b41 {w : eW} {d : Nat} {dr : Nat} (hd : dr + 19 ≤ d + 1) (hdr : 12 ≤ dr) {N : Nat} {rE : Nat → Int32 → eH → Option ((Unit ⊕ Nat) × eH)} {rN : Nat → eH → Option ((Int32 ⊕ Nat) × eH)} (hrE : ∀ a t0 h q, rE a t0 h = some q → wm w dr YX8_expand [.ref a, .int t0] h (e_is (e_rt c_V q))) (hrN : ∀ a h q, rN a h = some q → wm w dr YX8_number [.ref a] h (e_is (e_rt c_I q))) {l0 : Nat} {l1 : Int32} {s0 : Nat} {s1 : Int32} {h : eH} {q} (hf : fX3_actBox_b41 N rE rN l0 l1 s0 s1 h = some q) : wp w (d + 1) YX3_actBox 41 [some (.ref l0), some (.int l1), none] [.int s1, .ref s0] h (e_is (e_rt c_V q)) := by
  unfold fX3_actBox_b41 at hf
  refine w_iconst dX3_actBox_41 (v := 1) (by decide) ?_
  refine w_goto 46 dX3_actBox_42 (by decide) ?_
  exact (pX3_actBox_b46 hd hdr hrE hrN hf).to ⟨rfl, rfl, trivial⟩
def fX3_actBox_b21 (N : Nat) (rE : Nat → Int32 → eH → Option ((Unit ⊕ Nat) × eH)) (rN : Nat → eH → Option ((Int32 ⊕ Nat) × eH)) (l0 : Nat) (l1 : Int32) (h : eH) : Option ((Unit ⊕ Nat) × eH) :=
  (g_A 2 h l0 0).bind fun a1 =>
  (k_ok 2 h l0).bind fun _ =>
  (fX3_isVertical l0 h).bind fun q4 =>
  if l1 = (47 : Int32) then
    fX3_actBox_b41 N rE rN l0 l1 a1 q4.1 q4.2
  else
    if ¬ l1 = (48 : Int32) then
      fX3_actBox_b46 N rE rN l0 l1 a1 q4.1 (0 : Int32) q4.2
    else
      fX3_actBox_b41 N rE rN l0 l1 a1 q4.1 q4.2
theorem pX3_actBox_b21 {w : eW} {d : Nat} {dr : Nat} (hd : dr + 19 ≤ d + 1) (hdr : 12 ≤ dr) {N : Nat} {rE : Nat → Int32 → eH → Option ((Unit ⊕ Nat) × eH)} {rN : Nat → eH → Option ((Int32 ⊕ Nat) × eH)} (hrE : ∀ a t0 h q, rE a t0 h = some q → wm w dr YX8_expand [.ref a, .int t0] h (e_is (e_rt c_V q))) (hrN : ∀ a h q, rN a h = some q → wm w dr YX8_number [.ref a] h (e_is (e_rt c_I q))) {l0 : Nat} {l1 : Int32} {h : eH} {q} (hf : fX3_actBox_b21 N rE rN l0 l1 h = some q) : wp w (d + 1) YX3_actBox 21 [some (.ref l0), some (.int l1), none] [] h (e_is (e_rt c_V q)) := by
  unfold fX3_actBox_b21 at hf
  refine w_aload_n dX3_actBox_21 rfl rfl ?_
  obtain ⟨a1, b2, hf⟩ := Option.bind_eq_some_iff.mp hf
  refine GX3_14 b2 dX3_actBox_22 rfl ?_
  refine w_aload_n dX3_actBox_25 rfl rfl ?_
  obtain ⟨_, b3, hf⟩ := Option.bind_eq_some_iff.mp hf
  refine x_cnI hf (e_stV (Yc := YX3_isVertical) (ci := 2) (av := []) (st := [.ref a1]) dX3_actBox_26 q3190 mX3_isVertical rfl (k_ok_some b3).1 (k_ok_some b3).2) mX3_isVertical.2.2.1 mX3_isVertical.2.2.2.2.1 (Nat.le_of_ble_eq_true rfl) (Nat.le_of_ble_eq_true rfl) (fun q hq => pX3_isVertical (by omega) hq) (fun q4 hf => ?_)
  refine w_iload_n dX3_actBox_29 rfl rfl ?_
  refine w_bipush dX3_actBox_30 (v := 47) (by decide) ?_
  refine w_icmp_eq 41 dX3_actBox_32 (by decide) (fun c5 => ?_) (fun c5 => ?_)
  · replace hf := (if_pos (show l1 = (47 : Int32) from c5)).symm.trans hf
    exact (pX3_actBox_b41 hd hdr hrE hrN hf).to ⟨rfl, rfl, trivial⟩
  · replace hf := (if_neg (show ¬ (l1 = (47 : Int32)) from c5)).symm.trans hf
    refine w_iload_n dX3_actBox_35 rfl rfl ?_
    refine w_bipush dX3_actBox_36 (v := 48) (by decide) ?_
    refine w_icmp_ne 45 dX3_actBox_38 (by decide) (fun c6 => ?_) (fun c6 => ?_)
    · replace hf := (if_pos (show ¬ l1 = (48 : Int32) from c6)).symm.trans hf
      refine w_iconst dX3_actBox_45 (v := 0) (by decide) ?_
      exact (pX3_actBox_b46 hd hdr hrE hrN hf).to ⟨rfl, rfl, trivial⟩
    · replace hf := (if_neg (show ¬ (¬ l1 = (48 : Int32)) from (fun z => z c6))).symm.trans hf
      exact (pX3_actBox_b41 hd hdr hrE hrN hf).to ⟨rfl, rfl, trivial⟩
def fX3_actBox (N : Nat) (rE : Nat → Int32 → eH → Option ((Unit ⊕ Nat) × eH)) (rN : Nat → eH → Option ((Int32 ⊕ Nat) × eH)) (this : Nat) (p0 : Int32) (h : eH) : Option ((Unit ⊕ Nat) × eH) :=
  if p0 < (41 : Int32) then
    fX3_actBox_b21 N rE rN this p0 h
  else
    if (44 : Int32) < p0 then
      fX3_actBox_b21 N rE rN this p0 h
    else
      (k_ok 2 h this).bind fun _ =>
      t_B (fX3_readBox N rE rN this p0 (-1 : Int32) (0 : Int32) (0 : Int32) h) fun x4 h5 =>
      some (.inl (), h5)
theorem pX3_actBox {w : eW} {d : Nat} {dr : Nat} (hd : dr + 19 ≤ d) (hdr : 12 ≤ dr) {N : Nat} {rE : Nat → Int32 → eH → Option ((Unit ⊕ Nat) × eH)} {rN : Nat → eH → Option ((Int32 ⊕ Nat) × eH)} (hrE : ∀ a t0 h q, rE a t0 h = some q → wm w dr YX8_expand [.ref a, .int t0] h (e_is (e_rt c_V q))) (hrN : ∀ a h q, rN a h = some q → wm w dr YX8_number [.ref a] h (e_is (e_rt c_I q))) {this : Nat} {p0 : Int32} {h : eH} {q} (hf : fX3_actBox N rE rN this p0 h = some q) : wm w d YX3_actBox [.ref this, .int p0] h (e_is (e_rt c_V q)) := by
  obtain ⟨d, rfl⟩ : ∃ e, d = e + 1 := ⟨d - 1, by omega⟩
  show wp w (d + 1) YX3_actBox 0 [some (.ref this), some (.int p0), none] [] h _
  unfold fX3_actBox at hf
  refine w_iload_n dX3_actBox_0 rfl rfl ?_
  refine w_bipush dX3_actBox_1 (v := 41) (by decide) ?_
  refine w_icmp_lt 21 dX3_actBox_3 (by decide) (fun c1 => ?_) (fun c1 => ?_)
  · replace hf := (if_pos (show p0 < (41 : Int32) from c1)).symm.trans hf
    exact (pX3_actBox_b21 hd hdr hrE hrN hf).to ⟨rfl, rfl, trivial⟩
  · replace hf := (if_neg (show ¬ (p0 < (41 : Int32)) from c1)).symm.trans hf
    refine w_iload_n dX3_actBox_6 rfl rfl ?_
    refine w_bipush dX3_actBox_7 (v := 44) (by decide) ?_
    refine w_icmp_gt 21 dX3_actBox_9 (by decide) (fun c2 => ?_) (fun c2 => ?_)
    · replace hf := (if_pos (show (44 : Int32) < p0 from c2)).symm.trans hf
      exact (pX3_actBox_b21 hd hdr hrE hrN hf).to ⟨rfl, rfl, trivial⟩
    · replace hf := (if_neg (show ¬ ((44 : Int32) < p0) from c2)).symm.trans hf
      refine w_aload_n dX3_actBox_12 rfl rfl ?_
      refine w_iload_n dX3_actBox_13 rfl rfl ?_
      refine w_iconst dX3_actBox_14 (v := -1) (by decide) ?_
      refine w_iconst dX3_actBox_15 (v := 0) (by decide) ?_
      refine w_iconst dX3_actBox_16 (v := 0) (by decide) ?_
      obtain ⟨_, b3, hf⟩ := Option.bind_eq_some_iff.mp hf
      refine x_ctV hf (e_stV (Yc := YX3_readBox) (ci := 2) (av := [.int p0, .int (-1 : Int32), .int (0 : Int32), .int (0 : Int32)]) (st := []) dX3_actBox_17 q3992 mX3_readBox rfl (k_ok_some b3).1 (k_ok_some b3).2) mX3_readBox.2.2.1 mX3_readBox.2.2.2.2.1 (Nat.le_of_ble_eq_true rfl) (Nat.le_of_ble_eq_true rfl) rfl (fun q hq => pX3_readBox (by omega) hdr hrE hrN hq) (fun x4 h5 hf => ?_)
      cases hf
      exact w_vret dX3_actBox_20 rfl rfl
abbrev cX3_actItem : ByteArray := prog_26_method_49_code
def yX3_actItem : MethodName := ⟨RX3, "actItem", "(I)V"⟩
def YX3_actItem : eY := (yX3_actItem, cX3_actItem, 7, none, [])
theorem mX3_actItem : e_mv YX3_actItem RX3 1 := ⟨q4035, qs209, q4036, by decide, by decide +kernel, (e_sig (by decide +kernel))⟩
theorem dX3_actItem_0 : decode cX3_actItem 0 = .ok (.iload_n 1, 1) := dc_27 (by decide +kernel)
theorem dX3_actItem_1 : decode cX3_actItem 1 = .ok (.tableswitch 324 29 50 #[103, 103, 136, 171, 136, 136, 171, 171, 204, 222, 244, 273, 324, 324, 324, 324, 324, 324, 324, 324, 296, 310], 103) := by decide +kernel
theorem dX3_actItem_104 : decode cX3_actItem 104 = .ok (.aload_n 0, 1) := dc_42 (by decide +kernel)
theorem dX3_actItem_105 : decode cX3_actItem 105 = .ok (.iload_n 1, 1) := dc_27 (by decide +kernel)
theorem dX3_actItem_106 : decode cX3_actItem 106 = .ok (.bipush 29, 2) := dc_16 (a := 29) (v := 29) (by decide +kernel)
theorem dX3_actItem_108 : decode cX3_actItem 108 = .ok (.if_icmp .ne 7, 3) := dc_160 (a := 0) (b := 7) (v := 7) (by decide +kernel)
theorem dX3_actItem_111 : decode cX3_actItem 111 = .ok (.iconst 1, 1) := dc_4 (by decide +kernel)
theorem dX3_actItem_112 : decode cX3_actItem 112 = .ok (.goto 4, 3) := dc_167 (a := 0) (b := 4) (v := 4) (by decide +kernel)
theorem dX3_actItem_115 : decode cX3_actItem 115 = .ok (.iconst 0, 1) := dc_3 (by decide +kernel)
theorem dX3_actItem_116 : decode cX3_actItem 116 = .ok (.invokevirtual 444, 3) := dc_182 (a := 1) (b := 188) (n := 444) (by decide +kernel)
theorem dX3_actItem_119 : decode cX3_actItem 119 = .ok (.istore_n 2, 1) := dc_61 (by decide +kernel)
theorem dX3_actItem_120 : decode cX3_actItem 120 = .ok (.iload_n 2, 1) := dc_28 (by decide +kernel)
theorem dX3_actItem_121 : decode cX3_actItem 121 = .ok (.ifCond .ne 209, 3) := dc_154 (a := 0) (b := 209) (v := 209) (by decide +kernel)
theorem dX3_actItem_124 : decode cX3_actItem 124 = .ok (.iload_n 1, 1) := dc_27 (by decide +kernel)
theorem dX3_actItem_125 : decode cX3_actItem 125 = .ok (.bipush 29, 2) := dc_16 (a := 29) (v := 29) (by decide +kernel)
theorem dX3_actItem_127 : decode cX3_actItem 127 = .ok (.if_icmp .ne 203, 3) := dc_160 (a := 0) (b := 203) (v := 203) (by decide +kernel)
theorem dX3_actItem_130 : decode cX3_actItem 130 = .ok (.aload_n 0, 1) := dc_42 (by decide +kernel)
theorem dX3_actItem_131 : decode cX3_actItem 131 = .ok (.invokevirtual 308, 3) := dc_182 (a := 1) (b := 52) (n := 308) (by decide +kernel)
theorem dX3_actItem_134 : decode cX3_actItem 134 = .ok (.goto 196, 3) := dc_167 (a := 0) (b := 196) (v := 196) (by decide +kernel)
theorem dX3_actItem_137 : decode cX3_actItem 137 = .ok (.aload_n 0, 1) := dc_42 (by decide +kernel)
theorem dX3_actItem_138 : decode cX3_actItem 138 = .ok (.iconst 1, 1) := dc_4 (by decide +kernel)
theorem dX3_actItem_139 : decode cX3_actItem 139 = .ok (.invokevirtual 444, 3) := dc_182 (a := 1) (b := 188) (n := 444) (by decide +kernel)
theorem dX3_actItem_142 : decode cX3_actItem 142 = .ok (.istore_n 3, 1) := dc_62 (by decide +kernel)
theorem dX3_actItem_143 : decode cX3_actItem 143 = .ok (.aload_n 0, 1) := dc_42 (by decide +kernel)
theorem dX3_actItem_144 : decode cX3_actItem 144 = .ok (.iload_n 1, 1) := dc_27 (by decide +kernel)
theorem dX3_actItem_145 : decode cX3_actItem 145 = .ok (.bipush 31, 2) := dc_16 (a := 31) (v := 31) (by decide +kernel)
theorem dX3_actItem_147 : decode cX3_actItem 147 = .ok (.if_icmp .ne 7, 3) := dc_160 (a := 0) (b := 7) (v := 7) (by decide +kernel)
theorem dX3_actItem_150 : decode cX3_actItem 150 = .ok (.iconst 1, 1) := dc_4 (by decide +kernel)
theorem dX3_actItem_151 : decode cX3_actItem 151 = .ok (.goto 4, 3) := dc_167 (a := 0) (b := 4) (v := 4) (by decide +kernel)
theorem dX3_actItem_154 : decode cX3_actItem 154 = .ok (.iconst 0, 1) := dc_3 (by decide +kernel)
theorem dX3_actItem_155 : decode cX3_actItem 155 = .ok (.iload_n 1, 1) := dc_27 (by decide +kernel)
theorem dX3_actItem_156 : decode cX3_actItem 156 = .ok (.bipush 33, 2) := dc_16 (a := 33) (v := 33) (by decide +kernel)
theorem dX3_actItem_158 : decode cX3_actItem 158 = .ok (.if_icmp .ne 7, 3) := dc_160 (a := 0) (b := 7) (v := 7) (by decide +kernel)
theorem dX3_actItem_161 : decode cX3_actItem 161 = .ok (.iconst 1, 1) := dc_4 (by decide +kernel)
theorem dX3_actItem_162 : decode cX3_actItem 162 = .ok (.goto 4, 3) := dc_167 (a := 0) (b := 4) (v := 4) (by decide +kernel)
theorem dX3_actItem_165 : decode cX3_actItem 165 = .ok (.iconst 2, 1) := dc_5 (by decide +kernel)
theorem dX3_actItem_166 : decode cX3_actItem 166 = .ok (.invokevirtual 709, 3) := dc_182 (a := 2) (b := 197) (n := 709) (by decide +kernel)
theorem dX3_actItem_169 : decode cX3_actItem 169 = .ok (.goto 161, 3) := dc_167 (a := 0) (b := 161) (v := 161) (by decide +kernel)
theorem dX3_actItem_172 : decode cX3_actItem 172 = .ok (.aload_n 0, 1) := dc_42 (by decide +kernel)
theorem dX3_actItem_173 : decode cX3_actItem 173 = .ok (.invokevirtual 712, 3) := dc_182 (a := 2) (b := 200) (n := 712) (by decide +kernel)
theorem dX3_actItem_176 : decode cX3_actItem 176 = .ok (.aload_n 0, 1) := dc_42 (by decide +kernel)
theorem dX3_actItem_177 : decode cX3_actItem 177 = .ok (.iload_n 1, 1) := dc_27 (by decide +kernel)
theorem dX3_actItem_178 : decode cX3_actItem 178 = .ok (.bipush 32, 2) := dc_16 (a := 32) (v := 32) (by decide +kernel)
theorem dX3_actItem_180 : decode cX3_actItem 180 = .ok (.if_icmp .ne 7, 3) := dc_160 (a := 0) (b := 7) (v := 7) (by decide +kernel)
theorem dX3_actItem_183 : decode cX3_actItem 183 = .ok (.iconst 1, 1) := dc_4 (by decide +kernel)
theorem dX3_actItem_184 : decode cX3_actItem 184 = .ok (.goto 4, 3) := dc_167 (a := 0) (b := 4) (v := 4) (by decide +kernel)
theorem dX3_actItem_187 : decode cX3_actItem 187 = .ok (.iconst 0, 1) := dc_3 (by decide +kernel)
theorem dX3_actItem_188 : decode cX3_actItem 188 = .ok (.iload_n 1, 1) := dc_27 (by decide +kernel)
theorem dX3_actItem_189 : decode cX3_actItem 189 = .ok (.bipush 35, 2) := dc_16 (a := 35) (v := 35) (by decide +kernel)
theorem dX3_actItem_191 : decode cX3_actItem 191 = .ok (.if_icmp .ne 7, 3) := dc_160 (a := 0) (b := 7) (v := 7) (by decide +kernel)
theorem dX3_actItem_194 : decode cX3_actItem 194 = .ok (.iconst 1, 1) := dc_4 (by decide +kernel)
theorem dX3_actItem_195 : decode cX3_actItem 195 = .ok (.goto 4, 3) := dc_167 (a := 0) (b := 4) (v := 4) (by decide +kernel)
theorem dX3_actItem_198 : decode cX3_actItem 198 = .ok (.iconst 2, 1) := dc_5 (by decide +kernel)
theorem dX3_actItem_199 : decode cX3_actItem 199 = .ok (.invokevirtual 709, 3) := dc_182 (a := 2) (b := 197) (n := 709) (by decide +kernel)
theorem dX3_actItem_202 : decode cX3_actItem 202 = .ok (.goto 128, 3) := dc_167 (a := 0) (b := 128) (v := 128) (by decide +kernel)
theorem dX3_actItem_205 : decode cX3_actItem 205 = .ok (.aload_n 0, 1) := dc_42 (by decide +kernel)
theorem dX3_actItem_206 : decode cX3_actItem 206 = .ok (.iconst 3, 1) := dc_6 (by decide +kernel)
theorem dX3_actItem_207 : decode cX3_actItem 207 = .ok (.aload_n 0, 1) := dc_42 (by decide +kernel)
theorem dX3_actItem_208 : decode cX3_actItem 208 = .ok (.getfield 45, 3) := dc_180 (a := 0) (b := 45) (n := 45) (by decide +kernel)
theorem dX3_actItem_211 : decode cX3_actItem 211 = .ok (.invokevirtual 418, 3) := dc_182 (a := 1) (b := 162) (n := 418) (by decide +kernel)
theorem dX3_actItem_214 : decode cX3_actItem 214 = .ok (.iconst 1, 1) := dc_4 (by decide +kernel)
theorem dX3_actItem_215 : decode cX3_actItem 215 = .ok (.iconst 0, 1) := dc_3 (by decide +kernel)
theorem dX3_actItem_216 : decode cX3_actItem 216 = .ok (.iconst 0, 1) := dc_3 (by decide +kernel)
theorem dX3_actItem_217 : decode cX3_actItem 217 = .ok (.invokevirtual 353, 3) := dc_182 (a := 1) (b := 97) (n := 353) (by decide +kernel)
theorem dX3_actItem_220 : decode cX3_actItem 220 = .ok (.goto 110, 3) := dc_167 (a := 0) (b := 110) (v := 110) (by decide +kernel)
theorem dX3_actItem_223 : decode cX3_actItem 223 = .ok (.aload_n 0, 1) := dc_42 (by decide +kernel)
theorem dX3_actItem_224 : decode cX3_actItem 224 = .ok (.iconst 5, 1) := dc_8 (by decide +kernel)
theorem dX3_actItem_225 : decode cX3_actItem 225 = .ok (.aload_n 0, 1) := dc_42 (by decide +kernel)
theorem dX3_actItem_226 : decode cX3_actItem 226 = .ok (.getfield 45, 3) := dc_180 (a := 0) (b := 45) (n := 45) (by decide +kernel)
theorem dX3_actItem_229 : decode cX3_actItem 229 = .ok (.invokevirtual 715, 3) := dc_182 (a := 2) (b := 203) (n := 715) (by decide +kernel)
theorem dX3_actItem_232 : decode cX3_actItem 232 = .ok (.i2l, 1) := dc_133 (by decide +kernel)
theorem dX3_actItem_233 : decode cX3_actItem 233 = .ok (.invokestatic 567, 3) := dc_184 (a := 2) (b := 55) (n := 567) (by decide +kernel)
theorem dX3_actItem_236 : decode cX3_actItem 236 = .ok (.iconst 0, 1) := dc_3 (by decide +kernel)
theorem dX3_actItem_237 : decode cX3_actItem 237 = .ok (.iconst 0, 1) := dc_3 (by decide +kernel)
theorem dX3_actItem_238 : decode cX3_actItem 238 = .ok (.iconst 0, 1) := dc_3 (by decide +kernel)
theorem dX3_actItem_239 : decode cX3_actItem 239 = .ok (.invokevirtual 353, 3) := dc_182 (a := 1) (b := 97) (n := 353) (by decide +kernel)
theorem dX3_actItem_242 : decode cX3_actItem 242 = .ok (.goto 88, 3) := dc_167 (a := 0) (b := 88) (v := 88) (by decide +kernel)
theorem dX3_actItem_245 : decode cX3_actItem 245 = .ok (.aload_n 0, 1) := dc_42 (by decide +kernel)
theorem dX3_actItem_246 : decode cX3_actItem 246 = .ok (.invokevirtual 712, 3) := dc_182 (a := 2) (b := 200) (n := 712) (by decide +kernel)
theorem dX3_actItem_249 : decode cX3_actItem 249 = .ok (.aload_n 0, 1) := dc_42 (by decide +kernel)
theorem dX3_actItem_250 : decode cX3_actItem 250 = .ok (.ldc_w 326, 3) := dc_19 (a := 1) (b := 70) (n := 326) (by decide +kernel)
theorem dX3_actItem_253 : decode cX3_actItem 253 = .ok (.sipush 26214, 3) := dc_17 (a := 102) (b := 102) (v := 26214) (by decide +kernel)
theorem dX3_actItem_256 : decode cX3_actItem 256 = .ok (.iconst 0, 1) := dc_3 (by decide +kernel)
theorem dX3_actItem_257 : decode cX3_actItem 257 = .ok (.invokevirtual 718, 3) := dc_182 (a := 2) (b := 206) (n := 718) (by decide +kernel)
theorem dX3_actItem_260 : decode cX3_actItem 260 = .ok (.aload_n 0, 1) := dc_42 (by decide +kernel)
theorem dX3_actItem_261 : decode cX3_actItem 261 = .ok (.getfield 143, 3) := dc_180 (a := 0) (b := 143) (n := 143) (by decide +kernel)
theorem dX3_actItem_264 : decode cX3_actItem 264 = .ok (.aload_n 0, 1) := dc_42 (by decide +kernel)
theorem dX3_actItem_265 : decode cX3_actItem 265 = .ok (.getfield 211, 3) := dc_180 (a := 0) (b := 211) (n := 211) (by decide +kernel)
theorem dX3_actItem_268 : decode cX3_actItem 268 = .ok (.ldc 214, 2) := dc_18 (a := 214) (by decide +kernel)
theorem dX3_actItem_270 : decode cX3_actItem 270 = .ok (.iastore, 1) := dc_79 (by decide +kernel)
theorem dX3_actItem_271 : decode cX3_actItem 271 = .ok (.goto 59, 3) := dc_167 (a := 0) (b := 59) (v := 59) (by decide +kernel)
theorem dX3_actItem_274 : decode cX3_actItem 274 = .ok (.aload_n 0, 1) := dc_42 (by decide +kernel)
theorem dX3_actItem_275 : decode cX3_actItem 275 = .ok (.iconst 1, 1) := dc_4 (by decide +kernel)
theorem dX3_actItem_276 : decode cX3_actItem 276 = .ok (.invokevirtual 444, 3) := dc_182 (a := 1) (b := 188) (n := 444) (by decide +kernel)
theorem dX3_actItem_279 : decode cX3_actItem 279 = .ok (.istore 4, 2) := dc_54 (a := 4) (by decide +kernel)
theorem dX3_actItem_281 : decode cX3_actItem 281 = .ok (.aload_n 0, 1) := dc_42 (by decide +kernel)
theorem dX3_actItem_282 : decode cX3_actItem 282 = .ok (.sipush 26214, 3) := dc_17 (a := 102) (b := 102) (v := 26214) (by decide +kernel)
theorem dX3_actItem_285 : decode cX3_actItem 285 = .ok (.ldc_w 326, 3) := dc_19 (a := 1) (b := 70) (n := 326) (by decide +kernel)
theorem dX3_actItem_288 : decode cX3_actItem 288 = .ok (.ldc_w 326, 3) := dc_19 (a := 1) (b := 70) (n := 326) (by decide +kernel)
theorem dX3_actItem_291 : decode cX3_actItem 291 = .ok (.invokevirtual 718, 3) := dc_182 (a := 2) (b := 206) (n := 718) (by decide +kernel)
theorem dX3_actItem_294 : decode cX3_actItem 294 = .ok (.goto 36, 3) := dc_167 (a := 0) (b := 36) (v := 36) (by decide +kernel)
theorem dX3_actItem_297 : decode cX3_actItem 297 = .ok (.aload_n 0, 1) := dc_42 (by decide +kernel)
theorem dX3_actItem_298 : decode cX3_actItem 298 = .ok (.iconst 1, 1) := dc_4 (by decide +kernel)
theorem dX3_actItem_299 : decode cX3_actItem 299 = .ok (.invokevirtual 444, 3) := dc_182 (a := 1) (b := 188) (n := 444) (by decide +kernel)
theorem dX3_actItem_302 : decode cX3_actItem 302 = .ok (.istore 5, 2) := dc_54 (a := 5) (by decide +kernel)
theorem dX3_actItem_304 : decode cX3_actItem 304 = .ok (.aload_n 0, 1) := dc_42 (by decide +kernel)
theorem dX3_actItem_305 : decode cX3_actItem 305 = .ok (.invokevirtual 722, 3) := dc_182 (a := 2) (b := 210) (n := 722) (by decide +kernel)
theorem dX3_actItem_308 : decode cX3_actItem 308 = .ok (.goto 22, 3) := dc_167 (a := 0) (b := 22) (v := 22) (by decide +kernel)
theorem dX3_actItem_311 : decode cX3_actItem 311 = .ok (.aload_n 0, 1) := dc_42 (by decide +kernel)
theorem dX3_actItem_312 : decode cX3_actItem 312 = .ok (.iconst 1, 1) := dc_4 (by decide +kernel)
theorem dX3_actItem_313 : decode cX3_actItem 313 = .ok (.invokevirtual 444, 3) := dc_182 (a := 1) (b := 188) (n := 444) (by decide +kernel)
theorem dX3_actItem_316 : decode cX3_actItem 316 = .ok (.istore 6, 2) := dc_54 (a := 6) (by decide +kernel)
theorem dX3_actItem_318 : decode cX3_actItem 318 = .ok (.aload_n 0, 1) := dc_42 (by decide +kernel)
theorem dX3_actItem_319 : decode cX3_actItem 319 = .ok (.invokevirtual 697, 3) := dc_182 (a := 2) (b := 185) (n := 697) (by decide +kernel)
theorem dX3_actItem_322 : decode cX3_actItem 322 = .ok (.goto 8, 3) := dc_167 (a := 0) (b := 8) (v := 8) (by decide +kernel)
theorem dX3_actItem_325 : decode cX3_actItem 325 = .ok (.aload_n 0, 1) := dc_42 (by decide +kernel)
theorem dX3_actItem_326 : decode cX3_actItem 326 = .ok (.iload_n 1, 1) := dc_27 (by decide +kernel)
theorem dX3_actItem_327 : decode cX3_actItem 327 = .ok (.invokevirtual 725, 3) := dc_182 (a := 2) (b := 213) (n := 725) (by decide +kernel)
theorem dX3_actItem_330 : decode cX3_actItem 330 = .ok (.return_, 1) := dc_177 (by decide +kernel)
def fX3_actItem_b330 (N : Nat) (rE : Nat → Int32 → eH → Option ((Unit ⊕ Nat) × eH)) (rN : Nat → eH → Option ((Int32 ⊕ Nat) × eH))  (h : eH) : Option ((Unit ⊕ Nat) × eH) :=
  some (.inl (), h)
theorem pX3_actItem_b330 {w : eW} {d : Nat} {dr : Nat} (hd : dr + 20 ≤ d + 1) (hdr : 12 ≤ dr) {N : Nat} {rE : Nat → Int32 → eH → Option ((Unit ⊕ Nat) × eH)} {rN : Nat → eH → Option ((Int32 ⊕ Nat) × eH)} (hrE : ∀ a t0 h q, rE a t0 h = some q → wm w dr YX8_expand [.ref a, .int t0] h (e_is (e_rt c_V q))) (hrN : ∀ a h q, rN a h = some q → wm w dr YX8_number [.ref a] h (e_is (e_rt c_I q)))  {h : eH} {q} (hf : fX3_actItem_b330 N rE rN h = some q) : wp w (d + 1) YX3_actItem 330 [none, none, none, none, none, none, none] [] h (e_is (e_rt c_V q)) := by
  unfold fX3_actItem_b330 at hf
  cases hf
  exact w_vret dX3_actItem_330 rfl rfl
def fX3_actItem_b116 (N : Nat) (rE : Nat → Int32 → eH → Option ((Unit ⊕ Nat) × eH)) (rN : Nat → eH → Option ((Int32 ⊕ Nat) × eH)) (l0 : Nat) (l1 : Int32) (s0 : Nat) (s1 : Int32) (h : eH) : Option ((Unit ⊕ Nat) × eH) :=
  (k_ok 2 h s0).bind fun _ =>
  t_B (fX3_wantHorizontal N s0 s1 h) fun x2 h3 =>
  if ¬ x2 = 0 then
    fX3_actItem_b330 N rE rN h3
  else
    if ¬ l1 = (29 : Int32) then
      fX3_actItem_b330 N rE rN h3
    else
      (k_ok 2 h3 l0).bind fun _ =>
      t_B (fX3_indent N l0 h3) fun x7 h8 =>
      fX3_actItem_b330 N rE rN h8
theorem pX3_actItem_b116 {w : eW} {d : Nat} {dr : Nat} (hd : dr + 20 ≤ d + 1) (hdr : 12 ≤ dr) {N : Nat} {rE : Nat → Int32 → eH → Option ((Unit ⊕ Nat) × eH)} {rN : Nat → eH → Option ((Int32 ⊕ Nat) × eH)} (hrE : ∀ a t0 h q, rE a t0 h = some q → wm w dr YX8_expand [.ref a, .int t0] h (e_is (e_rt c_V q))) (hrN : ∀ a h q, rN a h = some q → wm w dr YX8_number [.ref a] h (e_is (e_rt c_I q))) {l0 : Nat} {l1 : Int32} {s0 : Nat} {s1 : Int32} {h : eH} {q} (hf : fX3_actItem_b116 N rE rN l0 l1 s0 s1 h = some q) : wp w (d + 1) YX3_actItem 116 [some (.ref l0), some (.int l1), none, none, none, none, none] [.int s1, .ref s0] h (e_is (e_rt c_V q)) := by
  unfold fX3_actItem_b116 at hf
  obtain ⟨_, b1, hf⟩ := Option.bind_eq_some_iff.mp hf
  refine x_ctI hf (e_stV (Yc := YX3_wantHorizontal) (ci := 2) (av := [.int s1]) (st := []) dX3_actItem_116 q3186 mX3_wantHorizontal rfl (k_ok_some b1).1 (k_ok_some b1).2) mX3_wantHorizontal.2.2.1 mX3_wantHorizontal.2.2.2.2.1 (Nat.le_of_ble_eq_true rfl) (Nat.le_of_ble_eq_true rfl) rfl (fun q hq => pX3_wantHorizontal (by omega) hq) (fun x2 h3 hf => ?_)
  refine w_istore_n dX3_actItem_119 rfl (by decide) (ls' := [some (.ref l0), some (.int l1), some (.int x2), none, none, none, none]) rfl ?_
  refine w_iload_n dX3_actItem_120 rfl rfl ?_
  refine w_if_ne 330 dX3_actItem_121 (by decide) (fun c4 => ?_) (fun c4 => ?_)
  · replace hf := (if_pos (show ¬ x2 = 0 from c4)).symm.trans hf
    exact (pX3_actItem_b330 hd hdr hrE hrN hf).to trivial
  · replace hf := (if_neg (show ¬ (¬ x2 = 0) from (fun z => z c4))).symm.trans hf
    refine w_iload_n dX3_actItem_124 rfl rfl ?_
    refine w_bipush dX3_actItem_125 (v := 29) (by decide) ?_
    refine w_icmp_ne 330 dX3_actItem_127 (by decide) (fun c5 => ?_) (fun c5 => ?_)
    · replace hf := (if_pos (show ¬ l1 = (29 : Int32) from c5)).symm.trans hf
      exact (pX3_actItem_b330 hd hdr hrE hrN hf).to trivial
    · replace hf := (if_neg (show ¬ (¬ l1 = (29 : Int32)) from (fun z => z c5))).symm.trans hf
      refine w_aload_n dX3_actItem_130 rfl rfl ?_
      obtain ⟨_, b6, hf⟩ := Option.bind_eq_some_iff.mp hf
      refine x_ctV hf (e_stV (Yc := YX3_indent) (ci := 2) (av := []) (st := []) dX3_actItem_131 q3482 mX3_indent rfl (k_ok_some b6).1 (k_ok_some b6).2) mX3_indent.2.2.1 mX3_indent.2.2.2.2.1 (Nat.le_of_ble_eq_true rfl) (Nat.le_of_ble_eq_true rfl) rfl (fun q hq => pX3_indent (by omega) hq) (fun x7 h8 hf => ?_)
      refine w_goto 330 dX3_actItem_134 (by decide) ?_
      exact (pX3_actItem_b330 hd hdr hrE hrN hf).to trivial
def fX3_actItem_b166 (N : Nat) (rE : Nat → Int32 → eH → Option ((Unit ⊕ Nat) × eH)) (rN : Nat → eH → Option ((Int32 ⊕ Nat) × eH)) (s0 : Nat) (s1 : Int32) (s2 : Int32) (h : eH) : Option ((Unit ⊕ Nat) × eH) :=
  (k_ok 2 h s0).bind fun _ =>
  t_B (fX3_actSkip N rE rN s0 s1 s2 h) fun x2 h3 =>
  fX3_actItem_b330 N rE rN h3
theorem pX3_actItem_b166 {w : eW} {d : Nat} {dr : Nat} (hd : dr + 20 ≤ d + 1) (hdr : 12 ≤ dr) {N : Nat} {rE : Nat → Int32 → eH → Option ((Unit ⊕ Nat) × eH)} {rN : Nat → eH → Option ((Int32 ⊕ Nat) × eH)} (hrE : ∀ a t0 h q, rE a t0 h = some q → wm w dr YX8_expand [.ref a, .int t0] h (e_is (e_rt c_V q))) (hrN : ∀ a h q, rN a h = some q → wm w dr YX8_number [.ref a] h (e_is (e_rt c_I q))) {s0 : Nat} {s1 : Int32} {s2 : Int32} {h : eH} {q} (hf : fX3_actItem_b166 N rE rN s0 s1 s2 h = some q) : wp w (d + 1) YX3_actItem 166 [none, none, none, none, none, none, none] [.int s2, .int s1, .ref s0] h (e_is (e_rt c_V q)) := by
  unfold fX3_actItem_b166 at hf
  obtain ⟨_, b1, hf⟩ := Option.bind_eq_some_iff.mp hf
  refine x_ctV hf (e_stV (Yc := YX3_actSkip) (ci := 2) (av := [.int s1, .int s2]) (st := []) dX3_actItem_166 q4037 mX3_actSkip rfl (k_ok_some b1).1 (k_ok_some b1).2) mX3_actSkip.2.2.1 mX3_actSkip.2.2.2.2.1 (Nat.le_of_ble_eq_true rfl) (Nat.le_of_ble_eq_true rfl) rfl (fun q hq => pX3_actSkip (by omega) hdr hrE hrN hq) (fun x2 h3 hf => ?_)
  refine w_goto 330 dX3_actItem_169 (by decide) ?_
  exact (pX3_actItem_b330 hd hdr hrE hrN hf).to trivial
def fX3_actItem_b155 (N : Nat) (rE : Nat → Int32 → eH → Option ((Unit ⊕ Nat) × eH)) (rN : Nat → eH → Option ((Int32 ⊕ Nat) × eH)) (l1 : Int32) (s0 : Nat) (s1 : Int32) (h : eH) : Option ((Unit ⊕ Nat) × eH) :=
  if ¬ l1 = (33 : Int32) then
    fX3_actItem_b166 N rE rN s0 s1 (2 : Int32) h
  else
    fX3_actItem_b166 N rE rN s0 s1 (1 : Int32) h
theorem pX3_actItem_b155 {w : eW} {d : Nat} {dr : Nat} (hd : dr + 20 ≤ d + 1) (hdr : 12 ≤ dr) {N : Nat} {rE : Nat → Int32 → eH → Option ((Unit ⊕ Nat) × eH)} {rN : Nat → eH → Option ((Int32 ⊕ Nat) × eH)} (hrE : ∀ a t0 h q, rE a t0 h = some q → wm w dr YX8_expand [.ref a, .int t0] h (e_is (e_rt c_V q))) (hrN : ∀ a h q, rN a h = some q → wm w dr YX8_number [.ref a] h (e_is (e_rt c_I q))) {l1 : Int32} {s0 : Nat} {s1 : Int32} {h : eH} {q} (hf : fX3_actItem_b155 N rE rN l1 s0 s1 h = some q) : wp w (d + 1) YX3_actItem 155 [none, some (.int l1), none, none, none, none, none] [.int s1, .ref s0] h (e_is (e_rt c_V q)) := by
  unfold fX3_actItem_b155 at hf
  refine w_iload_n dX3_actItem_155 rfl rfl ?_
  refine w_bipush dX3_actItem_156 (v := 33) (by decide) ?_
  refine w_icmp_ne 165 dX3_actItem_158 (by decide) (fun c1 => ?_) (fun c1 => ?_)
  · replace hf := (if_pos (show ¬ l1 = (33 : Int32) from c1)).symm.trans hf
    refine w_iconst dX3_actItem_165 (v := 2) (by decide) ?_
    exact (pX3_actItem_b166 hd hdr hrE hrN hf).to trivial
  · replace hf := (if_neg (show ¬ (¬ l1 = (33 : Int32)) from (fun z => z c1))).symm.trans hf
    refine w_iconst dX3_actItem_161 (v := 1) (by decide) ?_
    refine w_goto 166 dX3_actItem_162 (by decide) ?_
    exact (pX3_actItem_b166 hd hdr hrE hrN hf).to trivial
def fX3_actItem_b199 (N : Nat) (rE : Nat → Int32 → eH → Option ((Unit ⊕ Nat) × eH)) (rN : Nat → eH → Option ((Int32 ⊕ Nat) × eH)) (s0 : Nat) (s1 : Int32) (s2 : Int32) (h : eH) : Option ((Unit ⊕ Nat) × eH) :=
  (k_ok 2 h s0).bind fun _ =>
  t_B (fX3_actSkip N rE rN s0 s1 s2 h) fun x2 h3 =>
  fX3_actItem_b330 N rE rN h3
theorem pX3_actItem_b199 {w : eW} {d : Nat} {dr : Nat} (hd : dr + 20 ≤ d + 1) (hdr : 12 ≤ dr) {N : Nat} {rE : Nat → Int32 → eH → Option ((Unit ⊕ Nat) × eH)} {rN : Nat → eH → Option ((Int32 ⊕ Nat) × eH)} (hrE : ∀ a t0 h q, rE a t0 h = some q → wm w dr YX8_expand [.ref a, .int t0] h (e_is (e_rt c_V q))) (hrN : ∀ a h q, rN a h = some q → wm w dr YX8_number [.ref a] h (e_is (e_rt c_I q))) {s0 : Nat} {s1 : Int32} {s2 : Int32} {h : eH} {q} (hf : fX3_actItem_b199 N rE rN s0 s1 s2 h = some q) : wp w (d + 1) YX3_actItem 199 [none, none, none, none, none, none, none] [.int s2, .int s1, .ref s0] h (e_is (e_rt c_V q)) := by
  unfold fX3_actItem_b199 at hf
  obtain ⟨_, b1, hf⟩ := Option.bind_eq_some_iff.mp hf
  refine x_ctV hf (e_stV (Yc := YX3_actSkip) (ci := 2) (av := [.int s1, .int s2]) (st := []) dX3_actItem_199 q4037 mX3_actSkip rfl (k_ok_some b1).1 (k_ok_some b1).2) mX3_actSkip.2.2.1 mX3_actSkip.2.2.2.2.1 (Nat.le_of_ble_eq_true rfl) (Nat.le_of_ble_eq_true rfl) rfl (fun q hq => pX3_actSkip (by omega) hdr hrE hrN hq) (fun x2 h3 hf => ?_)
  refine w_goto 330 dX3_actItem_202 (by decide) ?_
  exact (pX3_actItem_b330 hd hdr hrE hrN hf).to trivial
def fX3_actItem_b188 (N : Nat) (rE : Nat → Int32 → eH → Option ((Unit ⊕ Nat) × eH)) (rN : Nat → eH → Option ((Int32 ⊕ Nat) × eH)) (l1 : Int32) (s0 : Nat) (s1 : Int32) (h : eH) : Option ((Unit ⊕ Nat) × eH) :=
  if ¬ l1 = (35 : Int32) then
    fX3_actItem_b199 N rE rN s0 s1 (2 : Int32) h
  else
    fX3_actItem_b199 N rE rN s0 s1 (1 : Int32) h
theorem pX3_actItem_b188 {w : eW} {d : Nat} {dr : Nat} (hd : dr + 20 ≤ d + 1) (hdr : 12 ≤ dr) {N : Nat} {rE : Nat → Int32 → eH → Option ((Unit ⊕ Nat) × eH)} {rN : Nat → eH → Option ((Int32 ⊕ Nat) × eH)} (hrE : ∀ a t0 h q, rE a t0 h = some q → wm w dr YX8_expand [.ref a, .int t0] h (e_is (e_rt c_V q))) (hrN : ∀ a h q, rN a h = some q → wm w dr YX8_number [.ref a] h (e_is (e_rt c_I q))) {l1 : Int32} {s0 : Nat} {s1 : Int32} {h : eH} {q} (hf : fX3_actItem_b188 N rE rN l1 s0 s1 h = some q) : wp w (d + 1) YX3_actItem 188 [none, some (.int l1), none, none, none, none, none] [.int s1, .ref s0] h (e_is (e_rt c_V q)) := by
  unfold fX3_actItem_b188 at hf
  refine w_iload_n dX3_actItem_188 rfl rfl ?_
  refine w_bipush dX3_actItem_189 (v := 35) (by decide) ?_
  refine w_icmp_ne 198 dX3_actItem_191 (by decide) (fun c1 => ?_) (fun c1 => ?_)
  · replace hf := (if_pos (show ¬ l1 = (35 : Int32) from c1)).symm.trans hf
    refine w_iconst dX3_actItem_198 (v := 2) (by decide) ?_
    exact (pX3_actItem_b199 hd hdr hrE hrN hf).to trivial
  · replace hf := (if_neg (show ¬ (¬ l1 = (35 : Int32)) from (fun z => z c1))).symm.trans hf
    refine w_iconst dX3_actItem_194 (v := 1) (by decide) ?_
    refine w_goto 199 dX3_actItem_195 (by decide) ?_
    exact (pX3_actItem_b199 hd hdr hrE hrN hf).to trivial
def fX3_actItem (N : Nat) (rE : Nat → Int32 → eH → Option ((Unit ⊕ Nat) × eH)) (rN : Nat → eH → Option ((Int32 ⊕ Nat) × eH)) (this : Nat) (p0 : Int32) (h : eH) : Option ((Unit ⊕ Nat) × eH) :=
  if p0 = (29 : Int32) then
    if ¬ p0 = (29 : Int32) then
      fX3_actItem_b116 N rE rN this p0 this (0 : Int32) h
    else
      fX3_actItem_b116 N rE rN this p0 this (1 : Int32) h
  else
  if p0 = (30 : Int32) then
    if ¬ p0 = (29 : Int32) then
      fX3_actItem_b116 N rE rN this p0 this (0 : Int32) h
    else
      fX3_actItem_b116 N rE rN this p0 this (1 : Int32) h
  else
  if p0 = (31 : Int32) then
    (k_ok 2 h this).bind fun _ =>
    t_B (fX3_wantHorizontal N this (1 : Int32) h) fun x7 h8 =>
    if ¬ p0 = (31 : Int32) then
      fX3_actItem_b155 N rE rN p0 this (0 : Int32) h8
    else
      fX3_actItem_b155 N rE rN p0 this (1 : Int32) h8
  else
  if p0 = (32 : Int32) then
    (k_ok 2 h this).bind fun _ =>
    t_B (fX3_wantVertical N this h) fun x12 h13 =>
    if ¬ p0 = (32 : Int32) then
      fX3_actItem_b188 N rE rN p0 this (0 : Int32) h13
    else
      fX3_actItem_b188 N rE rN p0 this (1 : Int32) h13
  else
  if p0 = (33 : Int32) then
    (k_ok 2 h this).bind fun _ =>
    t_B (fX3_wantHorizontal N this (1 : Int32) h) fun x17 h18 =>
    if ¬ p0 = (31 : Int32) then
      fX3_actItem_b155 N rE rN p0 this (0 : Int32) h18
    else
      fX3_actItem_b155 N rE rN p0 this (1 : Int32) h18
  else
  if p0 = (34 : Int32) then
    (k_ok 2 h this).bind fun _ =>
    t_B (fX3_wantHorizontal N this (1 : Int32) h) fun x22 h23 =>
    if ¬ p0 = (31 : Int32) then
      fX3_actItem_b155 N rE rN p0 this (0 : Int32) h23
    else
      fX3_actItem_b155 N rE rN p0 this (1 : Int32) h23
  else
  if p0 = (35 : Int32) then
    (k_ok 2 h this).bind fun _ =>
    t_B (fX3_wantVertical N this h) fun x27 h28 =>
    if ¬ p0 = (32 : Int32) then
      fX3_actItem_b188 N rE rN p0 this (0 : Int32) h28
    else
      fX3_actItem_b188 N rE rN p0 this (1 : Int32) h28
  else
  if p0 = (36 : Int32) then
    (k_ok 2 h this).bind fun _ =>
    t_B (fX3_wantVertical N this h) fun x32 h33 =>
    if ¬ p0 = (32 : Int32) then
      fX3_actItem_b188 N rE rN p0 this (0 : Int32) h33
    else
      fX3_actItem_b188 N rE rN p0 this (1 : Int32) h33
  else
  if p0 = (37 : Int32) then
    (g_A 2 h this 5).bind fun a36 =>
    (k_ok 7 h a36).bind fun _ =>
    t_B (fX8_dimension N rE rN a36 h) fun x39 h40 =>
    (k_ok 2 h40 this).bind fun _ =>
    t_B (fX3_add N this (3 : Int32) x39 (1 : Int32) (0 : Int32) (0 : Int32) h40) fun x42 h43 =>
    fX3_actItem_b330 N rE rN h43
  else
  if p0 = (38 : Int32) then
    (g_A 2 h this 5).bind fun a45 =>
    (k_ok 7 h a45).bind fun _ =>
    t_B (rN a45 h) fun x48 h49 =>
    (fX3_clipped (x48).toInt64 h49).bind fun q50 =>
    (k_ok 2 q50.2 this).bind fun _ =>
    t_B (fX3_add N this (5 : Int32) q50.1 (0 : Int32) (0 : Int32) (0 : Int32) q50.2) fun x52 h53 =>
    fX3_actItem_b330 N rE rN h53
  else
  if p0 = (39 : Int32) then
    (k_ok 2 h this).bind fun _ =>
    t_B (fX3_wantVertical N this h) fun x56 h57 =>
    (k_ok 2 h57 this).bind fun _ =>
    t_B (fX3_rule N rE rN this (-1073741824 : Int32) (26214 : Int32) (0 : Int32) h57) fun x59 h60 =>
    (g_A 2 h60 this 21).bind fun a61 =>
    (g_I 2 h60 this 27).bind fun x63 =>
    (q_V 100 h60 a61 x63 (.int (-2147483648 : Int32))).bind fun h65 =>
    fX3_actItem_b330 N rE rN h65
  else
  if p0 = (40 : Int32) then
    (k_ok 2 h this).bind fun _ =>
    t_B (fX3_wantHorizontal N this (1 : Int32) h) fun x69 h70 =>
    (k_ok 2 h70 this).bind fun _ =>
    t_B (fX3_rule N rE rN this (26214 : Int32) (-1073741824 : Int32) (-1073741824 : Int32) h70) fun x72 h73 =>
    fX3_actItem_b330 N rE rN h73
  else
  if p0 = (41 : Int32) then
    (k_ok 2 h this).bind fun _ =>
    t_B (fX3_actBox N rE rN this p0 h) fun x76 h77 =>
    fX3_actItem_b330 N rE rN h77
  else
  if p0 = (42 : Int32) then
    (k_ok 2 h this).bind fun _ =>
    t_B (fX3_actBox N rE rN this p0 h) fun x80 h81 =>
    fX3_actItem_b330 N rE rN h81
  else
  if p0 = (43 : Int32) then
    (k_ok 2 h this).bind fun _ =>
    t_B (fX3_actBox N rE rN this p0 h) fun x84 h85 =>
    fX3_actItem_b330 N rE rN h85
  else
  if p0 = (44 : Int32) then
    (k_ok 2 h this).bind fun _ =>
    t_B (fX3_actBox N rE rN this p0 h) fun x88 h89 =>
    fX3_actItem_b330 N rE rN h89
  else
  if p0 = (45 : Int32) then
    (k_ok 2 h this).bind fun _ =>
    t_B (fX3_actBox N rE rN this p0 h) fun x92 h93 =>
    fX3_actItem_b330 N rE rN h93
  else
  if p0 = (46 : Int32) then
    (k_ok 2 h this).bind fun _ =>
    t_B (fX3_actBox N rE rN this p0 h) fun x96 h97 =>
    fX3_actItem_b330 N rE rN h97
  else
  if p0 = (47 : Int32) then
    (k_ok 2 h this).bind fun _ =>
    t_B (fX3_actBox N rE rN this p0 h) fun x100 h101 =>
    fX3_actItem_b330 N rE rN h101
  else
  if p0 = (48 : Int32) then
    (k_ok 2 h this).bind fun _ =>
    t_B (fX3_actBox N rE rN this p0 h) fun x104 h105 =>
    fX3_actItem_b330 N rE rN h105
  else
  if p0 = (49 : Int32) then
    (k_ok 2 h this).bind fun _ =>
    t_B (fX3_wantHorizontal N this (1 : Int32) h) fun x108 h109 =>
    (k_ok 2 h109 this).bind fun _ =>
    t_B (fX3_dash this h109) fun x111 h112 =>
    fX3_actItem_b330 N rE rN h112
  else
  if p0 = (50 : Int32) then
    (k_ok 2 h this).bind fun _ =>
    t_B (fX3_wantHorizontal N this (1 : Int32) h) fun x115 h116 =>
    (k_ok 2 h116 this).bind fun _ =>
    t_B (fX3_space this h116) fun x118 h119 =>
    fX3_actItem_b330 N rE rN h119
  else
  (k_ok 2 h this).bind fun _ =>
  t_B (fX3_actBox N rE rN this p0 h) fun x121 h122 =>
  fX3_actItem_b330 N rE rN h122
theorem pX3_actItem {w : eW} {d : Nat} {dr : Nat} (hd : dr + 20 ≤ d) (hdr : 12 ≤ dr) {N : Nat} {rE : Nat → Int32 → eH → Option ((Unit ⊕ Nat) × eH)} {rN : Nat → eH → Option ((Int32 ⊕ Nat) × eH)} (hrE : ∀ a t0 h q, rE a t0 h = some q → wm w dr YX8_expand [.ref a, .int t0] h (e_is (e_rt c_V q))) (hrN : ∀ a h q, rN a h = some q → wm w dr YX8_number [.ref a] h (e_is (e_rt c_I q))) {this : Nat} {p0 : Int32} {h : eH} {q} (hf : fX3_actItem N rE rN this p0 h = some q) : wm w d YX3_actItem [.ref this, .int p0] h (e_is (e_rt c_V q)) := by
  obtain ⟨d, rfl⟩ : ∃ e, d = e + 1 := ⟨d - 1, by omega⟩
  show wp w (d + 1) YX3_actItem 0 [some (.ref this), some (.int p0), none, none, none, none, none] [] h _
  unfold fX3_actItem at hf
  refine w_iload_n dX3_actItem_0 rfl rfl ?_
  by_cases c1 : p0 = (29 : Int32)
  · replace hf := (if_pos c1).symm.trans hf
    refine w_tableIn 104 dX3_actItem_1 (by rw [c1]; decide) (by rw [c1]; decide) (by rw [c1]; rfl) (by decide) ?_
    refine w_aload_n dX3_actItem_104 rfl rfl ?_
    refine w_iload_n dX3_actItem_105 rfl rfl ?_
    refine w_bipush dX3_actItem_106 (v := 29) (by decide) ?_
    refine w_icmp_ne 115 dX3_actItem_108 (by decide) (fun c2 => ?_) (fun c2 => ?_)
    · replace hf := (if_pos (show ¬ p0 = (29 : Int32) from c2)).symm.trans hf
      refine w_iconst dX3_actItem_115 (v := 0) (by decide) ?_
      exact (pX3_actItem_b116 hd hdr hrE hrN hf).to ⟨rfl, rfl, trivial⟩
    · replace hf := (if_neg (show ¬ (¬ p0 = (29 : Int32)) from (fun z => z c2))).symm.trans hf
      refine w_iconst dX3_actItem_111 (v := 1) (by decide) ?_
      refine w_goto 116 dX3_actItem_112 (by decide) ?_
      exact (pX3_actItem_b116 hd hdr hrE hrN hf).to ⟨rfl, rfl, trivial⟩
  replace hf := (if_neg c1).symm.trans hf
  by_cases c3 : p0 = (30 : Int32)
  · replace hf := (if_pos c3).symm.trans hf
    refine w_tableIn 104 dX3_actItem_1 (by rw [c3]; decide) (by rw [c3]; decide) (by rw [c3]; rfl) (by decide) ?_
    refine w_aload_n dX3_actItem_104 rfl rfl ?_
    refine w_iload_n dX3_actItem_105 rfl rfl ?_
    refine w_bipush dX3_actItem_106 (v := 29) (by decide) ?_
    refine w_icmp_ne 115 dX3_actItem_108 (by decide) (fun c4 => ?_) (fun c4 => ?_)
    · replace hf := (if_pos (show ¬ p0 = (29 : Int32) from c4)).symm.trans hf
      refine w_iconst dX3_actItem_115 (v := 0) (by decide) ?_
      exact (pX3_actItem_b116 hd hdr hrE hrN hf).to ⟨rfl, rfl, trivial⟩
    · replace hf := (if_neg (show ¬ (¬ p0 = (29 : Int32)) from (fun z => z c4))).symm.trans hf
      refine w_iconst dX3_actItem_111 (v := 1) (by decide) ?_
      refine w_goto 116 dX3_actItem_112 (by decide) ?_
      exact (pX3_actItem_b116 hd hdr hrE hrN hf).to ⟨rfl, rfl, trivial⟩
  replace hf := (if_neg c3).symm.trans hf
  by_cases c5 : p0 = (31 : Int32)
  · replace hf := (if_pos c5).symm.trans hf
    refine w_tableIn 137 dX3_actItem_1 (by rw [c5]; decide) (by rw [c5]; decide) (by rw [c5]; rfl) (by decide) ?_
    refine w_aload_n dX3_actItem_137 rfl rfl ?_
    refine w_iconst dX3_actItem_138 (v := 1) (by decide) ?_
    obtain ⟨_, b6, hf⟩ := Option.bind_eq_some_iff.mp hf
    refine x_ctI hf (e_stV (Yc := YX3_wantHorizontal) (ci := 2) (av := [.int (1 : Int32)]) (st := []) dX3_actItem_139 q3186 mX3_wantHorizontal rfl (k_ok_some b6).1 (k_ok_some b6).2) mX3_wantHorizontal.2.2.1 mX3_wantHorizontal.2.2.2.2.1 (Nat.le_of_ble_eq_true rfl) (Nat.le_of_ble_eq_true rfl) rfl (fun q hq => pX3_wantHorizontal (by omega) hq) (fun x7 h8 hf => ?_)
    refine w_istore_n dX3_actItem_142 rfl (by decide) (ls' := [some (.ref this), some (.int p0), none, some (.int x7), none, none, none]) rfl ?_
    refine w_aload_n dX3_actItem_143 rfl rfl ?_
    refine w_iload_n dX3_actItem_144 rfl rfl ?_
    refine w_bipush dX3_actItem_145 (v := 31) (by decide) ?_
    refine w_icmp_ne 154 dX3_actItem_147 (by decide) (fun c9 => ?_) (fun c9 => ?_)
    · replace hf := (if_pos (show ¬ p0 = (31 : Int32) from c9)).symm.trans hf
      refine w_iconst dX3_actItem_154 (v := 0) (by decide) ?_
      exact (pX3_actItem_b155 hd hdr hrE hrN hf).to ⟨rfl, trivial⟩
    · replace hf := (if_neg (show ¬ (¬ p0 = (31 : Int32)) from (fun z => z c9))).symm.trans hf
      refine w_iconst dX3_actItem_150 (v := 1) (by decide) ?_
      refine w_goto 155 dX3_actItem_151 (by decide) ?_
      exact (pX3_actItem_b155 hd hdr hrE hrN hf).to ⟨rfl, trivial⟩
  replace hf := (if_neg c5).symm.trans hf
  by_cases c10 : p0 = (32 : Int32)
  · replace hf := (if_pos c10).symm.trans hf
    refine w_tableIn 172 dX3_actItem_1 (by rw [c10]; decide) (by rw [c10]; decide) (by rw [c10]; rfl) (by decide) ?_
    refine w_aload_n dX3_actItem_172 rfl rfl ?_
    obtain ⟨_, b11, hf⟩ := Option.bind_eq_some_iff.mp hf
    refine x_ctV hf (e_stV (Yc := YX3_wantVertical) (ci := 2) (av := []) (st := []) dX3_actItem_173 q4043 mX3_wantVertical rfl (k_ok_some b11).1 (k_ok_some b11).2) mX3_wantVertical.2.2.1 mX3_wantVertical.2.2.2.2.1 (Nat.le_of_ble_eq_true rfl) (Nat.le_of_ble_eq_true rfl) rfl (fun q hq => pX3_wantVertical (by omega) hq) (fun x12 h13 hf => ?_)
    refine w_aload_n dX3_actItem_176 rfl rfl ?_
    refine w_iload_n dX3_actItem_177 rfl rfl ?_
    refine w_bipush dX3_actItem_178 (v := 32) (by decide) ?_
    refine w_icmp_ne 187 dX3_actItem_180 (by decide) (fun c14 => ?_) (fun c14 => ?_)
    · replace hf := (if_pos (show ¬ p0 = (32 : Int32) from c14)).symm.trans hf
      refine w_iconst dX3_actItem_187 (v := 0) (by decide) ?_
      exact (pX3_actItem_b188 hd hdr hrE hrN hf).to ⟨rfl, trivial⟩
    · replace hf := (if_neg (show ¬ (¬ p0 = (32 : Int32)) from (fun z => z c14))).symm.trans hf
      refine w_iconst dX3_actItem_183 (v := 1) (by decide) ?_
      refine w_goto 188 dX3_actItem_184 (by decide) ?_
      exact (pX3_actItem_b188 hd hdr hrE hrN hf).to ⟨rfl, trivial⟩
  replace hf := (if_neg c10).symm.trans hf
  by_cases c15 : p0 = (33 : Int32)
  · replace hf := (if_pos c15).symm.trans hf
    refine w_tableIn 137 dX3_actItem_1 (by rw [c15]; decide) (by rw [c15]; decide) (by rw [c15]; rfl) (by decide) ?_
    refine w_aload_n dX3_actItem_137 rfl rfl ?_
    refine w_iconst dX3_actItem_138 (v := 1) (by decide) ?_
    obtain ⟨_, b16, hf⟩ := Option.bind_eq_some_iff.mp hf
    refine x_ctI hf (e_stV (Yc := YX3_wantHorizontal) (ci := 2) (av := [.int (1 : Int32)]) (st := []) dX3_actItem_139 q3186 mX3_wantHorizontal rfl (k_ok_some b16).1 (k_ok_some b16).2) mX3_wantHorizontal.2.2.1 mX3_wantHorizontal.2.2.2.2.1 (Nat.le_of_ble_eq_true rfl) (Nat.le_of_ble_eq_true rfl) rfl (fun q hq => pX3_wantHorizontal (by omega) hq) (fun x17 h18 hf => ?_)
    refine w_istore_n dX3_actItem_142 rfl (by decide) (ls' := [some (.ref this), some (.int p0), none, some (.int x17), none, none, none]) rfl ?_
    refine w_aload_n dX3_actItem_143 rfl rfl ?_
    refine w_iload_n dX3_actItem_144 rfl rfl ?_
    refine w_bipush dX3_actItem_145 (v := 31) (by decide) ?_
    refine w_icmp_ne 154 dX3_actItem_147 (by decide) (fun c19 => ?_) (fun c19 => ?_)
    · replace hf := (if_pos (show ¬ p0 = (31 : Int32) from c19)).symm.trans hf
      refine w_iconst dX3_actItem_154 (v := 0) (by decide) ?_
      exact (pX3_actItem_b155 hd hdr hrE hrN hf).to ⟨rfl, trivial⟩
    · replace hf := (if_neg (show ¬ (¬ p0 = (31 : Int32)) from (fun z => z c19))).symm.trans hf
      refine w_iconst dX3_actItem_150 (v := 1) (by decide) ?_
      refine w_goto 155 dX3_actItem_151 (by decide) ?_
      exact (pX3_actItem_b155 hd hdr hrE hrN hf).to ⟨rfl, trivial⟩
  replace hf := (if_neg c15).symm.trans hf
  by_cases c20 : p0 = (34 : Int32)
  · replace hf := (if_pos c20).symm.trans hf
    refine w_tableIn 137 dX3_actItem_1 (by rw [c20]; decide) (by rw [c20]; decide) (by rw [c20]; rfl) (by decide) ?_
    refine w_aload_n dX3_actItem_137 rfl rfl ?_
    refine w_iconst dX3_actItem_138 (v := 1) (by decide) ?_
    obtain ⟨_, b21, hf⟩ := Option.bind_eq_some_iff.mp hf
    refine x_ctI hf (e_stV (Yc := YX3_wantHorizontal) (ci := 2) (av := [.int (1 : Int32)]) (st := []) dX3_actItem_139 q3186 mX3_wantHorizontal rfl (k_ok_some b21).1 (k_ok_some b21).2) mX3_wantHorizontal.2.2.1 mX3_wantHorizontal.2.2.2.2.1 (Nat.le_of_ble_eq_true rfl) (Nat.le_of_ble_eq_true rfl) rfl (fun q hq => pX3_wantHorizontal (by omega) hq) (fun x22 h23 hf => ?_)
    refine w_istore_n dX3_actItem_142 rfl (by decide) (ls' := [some (.ref this), some (.int p0), none, some (.int x22), none, none, none]) rfl ?_
    refine w_aload_n dX3_actItem_143 rfl rfl ?_
    refine w_iload_n dX3_actItem_144 rfl rfl ?_
    refine w_bipush dX3_actItem_145 (v := 31) (by decide) ?_
    refine w_icmp_ne 154 dX3_actItem_147 (by decide) (fun c24 => ?_) (fun c24 => ?_)
    · replace hf := (if_pos (show ¬ p0 = (31 : Int32) from c24)).symm.trans hf
      refine w_iconst dX3_actItem_154 (v := 0) (by decide) ?_
      exact (pX3_actItem_b155 hd hdr hrE hrN hf).to ⟨rfl, trivial⟩
    · replace hf := (if_neg (show ¬ (¬ p0 = (31 : Int32)) from (fun z => z c24))).symm.trans hf
      refine w_iconst dX3_actItem_150 (v := 1) (by decide) ?_
      refine w_goto 155 dX3_actItem_151 (by decide) ?_
      exact (pX3_actItem_b155 hd hdr hrE hrN hf).to ⟨rfl, trivial⟩
  replace hf := (if_neg c20).symm.trans hf
  by_cases c25 : p0 = (35 : Int32)
  · replace hf := (if_pos c25).symm.trans hf
    refine w_tableIn 172 dX3_actItem_1 (by rw [c25]; decide) (by rw [c25]; decide) (by rw [c25]; rfl) (by decide) ?_
    refine w_aload_n dX3_actItem_172 rfl rfl ?_
    obtain ⟨_, b26, hf⟩ := Option.bind_eq_some_iff.mp hf
    refine x_ctV hf (e_stV (Yc := YX3_wantVertical) (ci := 2) (av := []) (st := []) dX3_actItem_173 q4043 mX3_wantVertical rfl (k_ok_some b26).1 (k_ok_some b26).2) mX3_wantVertical.2.2.1 mX3_wantVertical.2.2.2.2.1 (Nat.le_of_ble_eq_true rfl) (Nat.le_of_ble_eq_true rfl) rfl (fun q hq => pX3_wantVertical (by omega) hq) (fun x27 h28 hf => ?_)
    refine w_aload_n dX3_actItem_176 rfl rfl ?_
    refine w_iload_n dX3_actItem_177 rfl rfl ?_
    refine w_bipush dX3_actItem_178 (v := 32) (by decide) ?_
    refine w_icmp_ne 187 dX3_actItem_180 (by decide) (fun c29 => ?_) (fun c29 => ?_)
    · replace hf := (if_pos (show ¬ p0 = (32 : Int32) from c29)).symm.trans hf
      refine w_iconst dX3_actItem_187 (v := 0) (by decide) ?_
      exact (pX3_actItem_b188 hd hdr hrE hrN hf).to ⟨rfl, trivial⟩
    · replace hf := (if_neg (show ¬ (¬ p0 = (32 : Int32)) from (fun z => z c29))).symm.trans hf
      refine w_iconst dX3_actItem_183 (v := 1) (by decide) ?_
      refine w_goto 188 dX3_actItem_184 (by decide) ?_
      exact (pX3_actItem_b188 hd hdr hrE hrN hf).to ⟨rfl, trivial⟩
  replace hf := (if_neg c25).symm.trans hf
  by_cases c30 : p0 = (36 : Int32)
  · replace hf := (if_pos c30).symm.trans hf
    refine w_tableIn 172 dX3_actItem_1 (by rw [c30]; decide) (by rw [c30]; decide) (by rw [c30]; rfl) (by decide) ?_
    refine w_aload_n dX3_actItem_172 rfl rfl ?_
    obtain ⟨_, b31, hf⟩ := Option.bind_eq_some_iff.mp hf
    refine x_ctV hf (e_stV (Yc := YX3_wantVertical) (ci := 2) (av := []) (st := []) dX3_actItem_173 q4043 mX3_wantVertical rfl (k_ok_some b31).1 (k_ok_some b31).2) mX3_wantVertical.2.2.1 mX3_wantVertical.2.2.2.2.1 (Nat.le_of_ble_eq_true rfl) (Nat.le_of_ble_eq_true rfl) rfl (fun q hq => pX3_wantVertical (by omega) hq) (fun x32 h33 hf => ?_)
    refine w_aload_n dX3_actItem_176 rfl rfl ?_
    refine w_iload_n dX3_actItem_177 rfl rfl ?_
    refine w_bipush dX3_actItem_178 (v := 32) (by decide) ?_
    refine w_icmp_ne 187 dX3_actItem_180 (by decide) (fun c34 => ?_) (fun c34 => ?_)
    · replace hf := (if_pos (show ¬ p0 = (32 : Int32) from c34)).symm.trans hf
      refine w_iconst dX3_actItem_187 (v := 0) (by decide) ?_
      exact (pX3_actItem_b188 hd hdr hrE hrN hf).to ⟨rfl, trivial⟩
    · replace hf := (if_neg (show ¬ (¬ p0 = (32 : Int32)) from (fun z => z c34))).symm.trans hf
      refine w_iconst dX3_actItem_183 (v := 1) (by decide) ?_
      refine w_goto 188 dX3_actItem_184 (by decide) ?_
      exact (pX3_actItem_b188 hd hdr hrE hrN hf).to ⟨rfl, trivial⟩
  replace hf := (if_neg c30).symm.trans hf
  by_cases c35 : p0 = (37 : Int32)
  · replace hf := (if_pos c35).symm.trans hf
    refine w_tableIn 205 dX3_actItem_1 (by rw [c35]; decide) (by rw [c35]; decide) (by rw [c35]; rfl) (by decide) ?_
    refine w_aload_n dX3_actItem_205 rfl rfl ?_
    refine w_iconst dX3_actItem_206 (v := 3) (by decide) ?_
    refine w_aload_n dX3_actItem_207 rfl rfl ?_
    obtain ⟨a36, b37, hf⟩ := Option.bind_eq_some_iff.mp hf
    refine GX3_45 b37 dX3_actItem_208 rfl ?_
    obtain ⟨_, b38, hf⟩ := Option.bind_eq_some_iff.mp hf
    refine x_ctI hf (e_stVN (Yc := YX8_dimension) (ci := 7) (av := []) (st := [.int (3 : Int32), .ref this]) dX3_actItem_211 q3928 mX8_dimension rfl (k_ok_some b38).1 (k_ok_some b38).2) mX8_dimension.2.2.1 mX8_dimension.2.2.2.2.1 (Nat.le_of_ble_eq_true rfl) (Nat.le_of_ble_eq_true rfl) rfl (fun q hq => pX8_dimension (by omega) hdr hrE hrN hq) (fun x39 h40 hf => ?_)
    refine w_iconst dX3_actItem_214 (v := 1) (by decide) ?_
    refine w_iconst dX3_actItem_215 (v := 0) (by decide) ?_
    refine w_iconst dX3_actItem_216 (v := 0) (by decide) ?_
    obtain ⟨_, b41, hf⟩ := Option.bind_eq_some_iff.mp hf
    refine x_ctV hf (e_stV (Yc := YX3_add) (ci := 2) (av := [.int (3 : Int32), .int x39, .int (1 : Int32), .int (0 : Int32), .int (0 : Int32)]) (st := []) dX3_actItem_217 q3858 mX3_add rfl (k_ok_some b41).1 (k_ok_some b41).2) mX3_add.2.2.1 mX3_add.2.2.2.2.1 (Nat.le_of_ble_eq_true rfl) (Nat.le_of_ble_eq_true rfl) rfl (fun q hq => pX3_add (by omega) hq) (fun x42 h43 hf => ?_)
    refine w_goto 330 dX3_actItem_220 (by decide) ?_
    exact (pX3_actItem_b330 hd hdr hrE hrN hf).to trivial
  replace hf := (if_neg c35).symm.trans hf
  by_cases c44 : p0 = (38 : Int32)
  · replace hf := (if_pos c44).symm.trans hf
    refine w_tableIn 223 dX3_actItem_1 (by rw [c44]; decide) (by rw [c44]; decide) (by rw [c44]; rfl) (by decide) ?_
    refine w_aload_n dX3_actItem_223 rfl rfl ?_
    refine w_iconst dX3_actItem_224 (v := 5) (by decide) ?_
    refine w_aload_n dX3_actItem_225 rfl rfl ?_
    obtain ⟨a45, b46, hf⟩ := Option.bind_eq_some_iff.mp hf
    refine GX3_45 b46 dX3_actItem_226 rfl ?_
    obtain ⟨_, b47, hf⟩ := Option.bind_eq_some_iff.mp hf
    refine x_ctI hf (e_stVN (Yc := YX8_number) (ci := 7) (av := []) (st := [.int (5 : Int32), .ref this]) dX3_actItem_229 q4047 mX8_number rfl (k_ok_some b47).1 (k_ok_some b47).2) mX8_number.2.2.1 mX8_number.2.2.2.2.1 (Nat.le_of_ble_eq_true rfl) (Nat.le_of_ble_eq_true rfl) rfl (fun q hq => (hrN _ _ _ hq).up (by omega)) (fun x48 h49 hf => ?_)
    refine w_i2l dX3_actItem_232 ?_
    refine x_cnI hf (e_stS (Yc := YX3_clipped) (av := [.long (x48).toInt64]) (st := [.int (5 : Int32), .ref this]) dX3_actItem_233 q3866 mX3_clipped) mX3_clipped.2.2.1 mX3_clipped.2.2.2.2.1 (Nat.le_of_ble_eq_true rfl) (Nat.le_of_ble_eq_true rfl) (fun q hq => pX3_clipped (by omega) hq) (fun q50 hf => ?_)
    refine w_iconst dX3_actItem_236 (v := 0) (by decide) ?_
    refine w_iconst dX3_actItem_237 (v := 0) (by decide) ?_
    refine w_iconst dX3_actItem_238 (v := 0) (by decide) ?_
    obtain ⟨_, b51, hf⟩ := Option.bind_eq_some_iff.mp hf
    refine x_ctV hf (e_stV (Yc := YX3_add) (ci := 2) (av := [.int (5 : Int32), .int q50.1, .int (0 : Int32), .int (0 : Int32), .int (0 : Int32)]) (st := []) dX3_actItem_239 q3858 mX3_add rfl (k_ok_some b51).1 (k_ok_some b51).2) mX3_add.2.2.1 mX3_add.2.2.2.2.1 (Nat.le_of_ble_eq_true rfl) (Nat.le_of_ble_eq_true rfl) rfl (fun q hq => pX3_add (by omega) hq) (fun x52 h53 hf => ?_)
    refine w_goto 330 dX3_actItem_242 (by decide) ?_
    exact (pX3_actItem_b330 hd hdr hrE hrN hf).to trivial
  replace hf := (if_neg c44).symm.trans hf
  by_cases c54 : p0 = (39 : Int32)
  · replace hf := (if_pos c54).symm.trans hf
    refine w_tableIn 245 dX3_actItem_1 (by rw [c54]; decide) (by rw [c54]; decide) (by rw [c54]; rfl) (by decide) ?_
    refine w_aload_n dX3_actItem_245 rfl rfl ?_
    obtain ⟨_, b55, hf⟩ := Option.bind_eq_some_iff.mp hf
    refine x_ctV hf (e_stV (Yc := YX3_wantVertical) (ci := 2) (av := []) (st := []) dX3_actItem_246 q4043 mX3_wantVertical rfl (k_ok_some b55).1 (k_ok_some b55).2) mX3_wantVertical.2.2.1 mX3_wantVertical.2.2.2.2.1 (Nat.le_of_ble_eq_true rfl) (Nat.le_of_ble_eq_true rfl) rfl (fun q hq => pX3_wantVertical (by omega) hq) (fun x56 h57 hf => ?_)
    refine w_aload_n dX3_actItem_249 rfl rfl ?_
    refine w_ldc_w dX3_actItem_250 q3211 ?_
    refine w_sipush dX3_actItem_253 (v := 26214) (by decide) ?_
    refine w_iconst dX3_actItem_256 (v := 0) (by decide) ?_
    obtain ⟨_, b58, hf⟩ := Option.bind_eq_some_iff.mp hf
    refine x_ctV hf (e_stV (Yc := YX3_rule) (ci := 2) (av := [.int (-1073741824 : Int32), .int (26214 : Int32), .int (0 : Int32)]) (st := []) dX3_actItem_257 q4048 mX3_rule rfl (k_ok_some b58).1 (k_ok_some b58).2) mX3_rule.2.2.1 mX3_rule.2.2.2.2.1 (Nat.le_of_ble_eq_true rfl) (Nat.le_of_ble_eq_true rfl) rfl (fun q hq => pX3_rule (by omega) hdr hrE hrN hq) (fun x59 h60 hf => ?_)
    refine w_aload_n dX3_actItem_260 rfl rfl ?_
    obtain ⟨a61, b62, hf⟩ := Option.bind_eq_some_iff.mp hf
    refine GX3_143 b62 dX3_actItem_261 rfl ?_
    refine w_aload_n dX3_actItem_264 rfl rfl ?_
    obtain ⟨x63, b64, hf⟩ := Option.bind_eq_some_iff.mp hf
    refine GX3_211 b64 dX3_actItem_265 rfl ?_
    refine w_ldc dX3_actItem_268 q2052 ?_
    obtain ⟨h65, b66, hf⟩ := Option.bind_eq_some_iff.mp hf
    refine x_qI b66 dX3_actItem_270 ?_
    refine w_goto 330 dX3_actItem_271 (by decide) ?_
    exact (pX3_actItem_b330 hd hdr hrE hrN hf).to trivial
  replace hf := (if_neg c54).symm.trans hf
  by_cases c67 : p0 = (40 : Int32)
  · replace hf := (if_pos c67).symm.trans hf
    refine w_tableIn 274 dX3_actItem_1 (by rw [c67]; decide) (by rw [c67]; decide) (by rw [c67]; rfl) (by decide) ?_
    refine w_aload_n dX3_actItem_274 rfl rfl ?_
    refine w_iconst dX3_actItem_275 (v := 1) (by decide) ?_
    obtain ⟨_, b68, hf⟩ := Option.bind_eq_some_iff.mp hf
    refine x_ctI hf (e_stV (Yc := YX3_wantHorizontal) (ci := 2) (av := [.int (1 : Int32)]) (st := []) dX3_actItem_276 q3186 mX3_wantHorizontal rfl (k_ok_some b68).1 (k_ok_some b68).2) mX3_wantHorizontal.2.2.1 mX3_wantHorizontal.2.2.2.2.1 (Nat.le_of_ble_eq_true rfl) (Nat.le_of_ble_eq_true rfl) rfl (fun q hq => pX3_wantHorizontal (by omega) hq) (fun x69 h70 hf => ?_)
    refine w_istore dX3_actItem_279 (by decide) (ls' := [some (.ref this), some (.int p0), none, none, some (.int x69), none, none]) rfl ?_
    refine w_aload_n dX3_actItem_281 rfl rfl ?_
    refine w_sipush dX3_actItem_282 (v := 26214) (by decide) ?_
    refine w_ldc_w dX3_actItem_285 q3211 ?_
    refine w_ldc_w dX3_actItem_288 q3211 ?_
    obtain ⟨_, b71, hf⟩ := Option.bind_eq_some_iff.mp hf
    refine x_ctV hf (e_stV (Yc := YX3_rule) (ci := 2) (av := [.int (26214 : Int32), .int (-1073741824 : Int32), .int (-1073741824 : Int32)]) (st := []) dX3_actItem_291 q4048 mX3_rule rfl (k_ok_some b71).1 (k_ok_some b71).2) mX3_rule.2.2.1 mX3_rule.2.2.2.2.1 (Nat.le_of_ble_eq_true rfl) (Nat.le_of_ble_eq_true rfl) rfl (fun q hq => pX3_rule (by omega) hdr hrE hrN hq) (fun x72 h73 hf => ?_)
    refine w_goto 330 dX3_actItem_294 (by decide) ?_
    exact (pX3_actItem_b330 hd hdr hrE hrN hf).to trivial
  replace hf := (if_neg c67).symm.trans hf
  by_cases c74 : p0 = (41 : Int32)
  · replace hf := (if_pos c74).symm.trans hf
    refine w_tableIn 325 dX3_actItem_1 (by rw [c74]; decide) (by rw [c74]; decide) (by rw [c74]; rfl) (by decide) ?_
    refine w_aload_n dX3_actItem_325 rfl rfl ?_
    refine w_iload_n dX3_actItem_326 rfl rfl ?_
    obtain ⟨_, b75, hf⟩ := Option.bind_eq_some_iff.mp hf
    refine x_ctV hf (e_stV (Yc := YX3_actBox) (ci := 2) (av := [.int p0]) (st := []) dX3_actItem_327 q4059 mX3_actBox rfl (k_ok_some b75).1 (k_ok_some b75).2) mX3_actBox.2.2.1 mX3_actBox.2.2.2.2.1 (Nat.le_of_ble_eq_true rfl) (Nat.le_of_ble_eq_true rfl) rfl (fun q hq => pX3_actBox (by omega) hdr hrE hrN hq) (fun x76 h77 hf => ?_)
    exact (pX3_actItem_b330 hd hdr hrE hrN hf).to trivial
  replace hf := (if_neg c74).symm.trans hf
  by_cases c78 : p0 = (42 : Int32)
  · replace hf := (if_pos c78).symm.trans hf
    refine w_tableIn 325 dX3_actItem_1 (by rw [c78]; decide) (by rw [c78]; decide) (by rw [c78]; rfl) (by decide) ?_
    refine w_aload_n dX3_actItem_325 rfl rfl ?_
    refine w_iload_n dX3_actItem_326 rfl rfl ?_
    obtain ⟨_, b79, hf⟩ := Option.bind_eq_some_iff.mp hf
    refine x_ctV hf (e_stV (Yc := YX3_actBox) (ci := 2) (av := [.int p0]) (st := []) dX3_actItem_327 q4059 mX3_actBox rfl (k_ok_some b79).1 (k_ok_some b79).2) mX3_actBox.2.2.1 mX3_actBox.2.2.2.2.1 (Nat.le_of_ble_eq_true rfl) (Nat.le_of_ble_eq_true rfl) rfl (fun q hq => pX3_actBox (by omega) hdr hrE hrN hq) (fun x80 h81 hf => ?_)
    exact (pX3_actItem_b330 hd hdr hrE hrN hf).to trivial
  replace hf := (if_neg c78).symm.trans hf
  by_cases c82 : p0 = (43 : Int32)
  · replace hf := (if_pos c82).symm.trans hf
    refine w_tableIn 325 dX3_actItem_1 (by rw [c82]; decide) (by rw [c82]; decide) (by rw [c82]; rfl) (by decide) ?_
    refine w_aload_n dX3_actItem_325 rfl rfl ?_
    refine w_iload_n dX3_actItem_326 rfl rfl ?_
    obtain ⟨_, b83, hf⟩ := Option.bind_eq_some_iff.mp hf
    refine x_ctV hf (e_stV (Yc := YX3_actBox) (ci := 2) (av := [.int p0]) (st := []) dX3_actItem_327 q4059 mX3_actBox rfl (k_ok_some b83).1 (k_ok_some b83).2) mX3_actBox.2.2.1 mX3_actBox.2.2.2.2.1 (Nat.le_of_ble_eq_true rfl) (Nat.le_of_ble_eq_true rfl) rfl (fun q hq => pX3_actBox (by omega) hdr hrE hrN hq) (fun x84 h85 hf => ?_)
    exact (pX3_actItem_b330 hd hdr hrE hrN hf).to trivial
  replace hf := (if_neg c82).symm.trans hf
  by_cases c86 : p0 = (44 : Int32)
  · replace hf := (if_pos c86).symm.trans hf
    refine w_tableIn 325 dX3_actItem_1 (by rw [c86]; decide) (by rw [c86]; decide) (by rw [c86]; rfl) (by decide) ?_
    refine w_aload_n dX3_actItem_325 rfl rfl ?_
    refine w_iload_n dX3_actItem_326 rfl rfl ?_
    obtain ⟨_, b87, hf⟩ := Option.bind_eq_some_iff.mp hf
    refine x_ctV hf (e_stV (Yc := YX3_actBox) (ci := 2) (av := [.int p0]) (st := []) dX3_actItem_327 q4059 mX3_actBox rfl (k_ok_some b87).1 (k_ok_some b87).2) mX3_actBox.2.2.1 mX3_actBox.2.2.2.2.1 (Nat.le_of_ble_eq_true rfl) (Nat.le_of_ble_eq_true rfl) rfl (fun q hq => pX3_actBox (by omega) hdr hrE hrN hq) (fun x88 h89 hf => ?_)
    exact (pX3_actItem_b330 hd hdr hrE hrN hf).to trivial
  replace hf := (if_neg c86).symm.trans hf
  by_cases c90 : p0 = (45 : Int32)
  · replace hf := (if_pos c90).symm.trans hf
    refine w_tableIn 325 dX3_actItem_1 (by rw [c90]; decide) (by rw [c90]; decide) (by rw [c90]; rfl) (by decide) ?_
    refine w_aload_n dX3_actItem_325 rfl rfl ?_
    refine w_iload_n dX3_actItem_326 rfl rfl ?_
    obtain ⟨_, b91, hf⟩ := Option.bind_eq_some_iff.mp hf
    refine x_ctV hf (e_stV (Yc := YX3_actBox) (ci := 2) (av := [.int p0]) (st := []) dX3_actItem_327 q4059 mX3_actBox rfl (k_ok_some b91).1 (k_ok_some b91).2) mX3_actBox.2.2.1 mX3_actBox.2.2.2.2.1 (Nat.le_of_ble_eq_true rfl) (Nat.le_of_ble_eq_true rfl) rfl (fun q hq => pX3_actBox (by omega) hdr hrE hrN hq) (fun x92 h93 hf => ?_)
    exact (pX3_actItem_b330 hd hdr hrE hrN hf).to trivial
  replace hf := (if_neg c90).symm.trans hf
  by_cases c94 : p0 = (46 : Int32)
  · replace hf := (if_pos c94).symm.trans hf
    refine w_tableIn 325 dX3_actItem_1 (by rw [c94]; decide) (by rw [c94]; decide) (by rw [c94]; rfl) (by decide) ?_
    refine w_aload_n dX3_actItem_325 rfl rfl ?_
    refine w_iload_n dX3_actItem_326 rfl rfl ?_
    obtain ⟨_, b95, hf⟩ := Option.bind_eq_some_iff.mp hf
    refine x_ctV hf (e_stV (Yc := YX3_actBox) (ci := 2) (av := [.int p0]) (st := []) dX3_actItem_327 q4059 mX3_actBox rfl (k_ok_some b95).1 (k_ok_some b95).2) mX3_actBox.2.2.1 mX3_actBox.2.2.2.2.1 (Nat.le_of_ble_eq_true rfl) (Nat.le_of_ble_eq_true rfl) rfl (fun q hq => pX3_actBox (by omega) hdr hrE hrN hq) (fun x96 h97 hf => ?_)
    exact (pX3_actItem_b330 hd hdr hrE hrN hf).to trivial
  replace hf := (if_neg c94).symm.trans hf
  by_cases c98 : p0 = (47 : Int32)
  · replace hf := (if_pos c98).symm.trans hf
    refine w_tableIn 325 dX3_actItem_1 (by rw [c98]; decide) (by rw [c98]; decide) (by rw [c98]; rfl) (by decide) ?_
    refine w_aload_n dX3_actItem_325 rfl rfl ?_
    refine w_iload_n dX3_actItem_326 rfl rfl ?_
    obtain ⟨_, b99, hf⟩ := Option.bind_eq_some_iff.mp hf
    refine x_ctV hf (e_stV (Yc := YX3_actBox) (ci := 2) (av := [.int p0]) (st := []) dX3_actItem_327 q4059 mX3_actBox rfl (k_ok_some b99).1 (k_ok_some b99).2) mX3_actBox.2.2.1 mX3_actBox.2.2.2.2.1 (Nat.le_of_ble_eq_true rfl) (Nat.le_of_ble_eq_true rfl) rfl (fun q hq => pX3_actBox (by omega) hdr hrE hrN hq) (fun x100 h101 hf => ?_)
    exact (pX3_actItem_b330 hd hdr hrE hrN hf).to trivial
  replace hf := (if_neg c98).symm.trans hf
  by_cases c102 : p0 = (48 : Int32)
  · replace hf := (if_pos c102).symm.trans hf
    refine w_tableIn 325 dX3_actItem_1 (by rw [c102]; decide) (by rw [c102]; decide) (by rw [c102]; rfl) (by decide) ?_
    refine w_aload_n dX3_actItem_325 rfl rfl ?_
    refine w_iload_n dX3_actItem_326 rfl rfl ?_
    obtain ⟨_, b103, hf⟩ := Option.bind_eq_some_iff.mp hf
    refine x_ctV hf (e_stV (Yc := YX3_actBox) (ci := 2) (av := [.int p0]) (st := []) dX3_actItem_327 q4059 mX3_actBox rfl (k_ok_some b103).1 (k_ok_some b103).2) mX3_actBox.2.2.1 mX3_actBox.2.2.2.2.1 (Nat.le_of_ble_eq_true rfl) (Nat.le_of_ble_eq_true rfl) rfl (fun q hq => pX3_actBox (by omega) hdr hrE hrN hq) (fun x104 h105 hf => ?_)
    exact (pX3_actItem_b330 hd hdr hrE hrN hf).to trivial
  replace hf := (if_neg c102).symm.trans hf
  by_cases c106 : p0 = (49 : Int32)
  · replace hf := (if_pos c106).symm.trans hf
    refine w_tableIn 297 dX3_actItem_1 (by rw [c106]; decide) (by rw [c106]; decide) (by rw [c106]; rfl) (by decide) ?_
    refine w_aload_n dX3_actItem_297 rfl rfl ?_
    refine w_iconst dX3_actItem_298 (v := 1) (by decide) ?_
    obtain ⟨_, b107, hf⟩ := Option.bind_eq_some_iff.mp hf
    refine x_ctI hf (e_stV (Yc := YX3_wantHorizontal) (ci := 2) (av := [.int (1 : Int32)]) (st := []) dX3_actItem_299 q3186 mX3_wantHorizontal rfl (k_ok_some b107).1 (k_ok_some b107).2) mX3_wantHorizontal.2.2.1 mX3_wantHorizontal.2.2.2.2.1 (Nat.le_of_ble_eq_true rfl) (Nat.le_of_ble_eq_true rfl) rfl (fun q hq => pX3_wantHorizontal (by omega) hq) (fun x108 h109 hf => ?_)
    refine w_istore dX3_actItem_302 (by decide) (ls' := [some (.ref this), some (.int p0), none, none, none, some (.int x108), none]) rfl ?_
    refine w_aload_n dX3_actItem_304 rfl rfl ?_
    obtain ⟨_, b110, hf⟩ := Option.bind_eq_some_iff.mp hf
    refine x_ctV hf (e_stV (Yc := YX3_dash) (ci := 2) (av := []) (st := []) dX3_actItem_305 q4055 mX3_dash rfl (k_ok_some b110).1 (k_ok_some b110).2) mX3_dash.2.2.1 mX3_dash.2.2.2.2.1 (Nat.le_of_ble_eq_true rfl) (Nat.le_of_ble_eq_true rfl) rfl (fun q hq => pX3_dash (by omega) hq) (fun x111 h112 hf => ?_)
    refine w_goto 330 dX3_actItem_308 (by decide) ?_
    exact (pX3_actItem_b330 hd hdr hrE hrN hf).to trivial
  replace hf := (if_neg c106).symm.trans hf
  by_cases c113 : p0 = (50 : Int32)
  · replace hf := (if_pos c113).symm.trans hf
    refine w_tableIn 311 dX3_actItem_1 (by rw [c113]; decide) (by rw [c113]; decide) (by rw [c113]; rfl) (by decide) ?_
    refine w_aload_n dX3_actItem_311 rfl rfl ?_
    refine w_iconst dX3_actItem_312 (v := 1) (by decide) ?_
    obtain ⟨_, b114, hf⟩ := Option.bind_eq_some_iff.mp hf
    refine x_ctI hf (e_stV (Yc := YX3_wantHorizontal) (ci := 2) (av := [.int (1 : Int32)]) (st := []) dX3_actItem_313 q3186 mX3_wantHorizontal rfl (k_ok_some b114).1 (k_ok_some b114).2) mX3_wantHorizontal.2.2.1 mX3_wantHorizontal.2.2.2.2.1 (Nat.le_of_ble_eq_true rfl) (Nat.le_of_ble_eq_true rfl) rfl (fun q hq => pX3_wantHorizontal (by omega) hq) (fun x115 h116 hf => ?_)
    refine w_istore dX3_actItem_316 (by decide) (ls' := [some (.ref this), some (.int p0), none, none, none, none, some (.int x115)]) rfl ?_
    refine w_aload_n dX3_actItem_318 rfl rfl ?_
    obtain ⟨_, b117, hf⟩ := Option.bind_eq_some_iff.mp hf
    refine x_ctV hf (e_stV (Yc := YX3_space) (ci := 2) (av := []) (st := []) dX3_actItem_319 q3883 mX3_space rfl (k_ok_some b117).1 (k_ok_some b117).2) mX3_space.2.2.1 mX3_space.2.2.2.2.1 (Nat.le_of_ble_eq_true rfl) (Nat.le_of_ble_eq_true rfl) rfl (fun q hq => pX3_space (by omega) hq) (fun x118 h119 hf => ?_)
    refine w_goto 330 dX3_actItem_322 (by decide) ?_
    exact (pX3_actItem_b330 hd hdr hrE hrN hf).to trivial
  replace hf := (if_neg c113).symm.trans hf
  refine w_tableOut 325 dX3_actItem_1 (by have n0 := sw_ne c1 (by decide : (29 : Int32).toInt = 29); have n1 := sw_ne c3 (by decide : (30 : Int32).toInt = 30); have n2 := sw_ne c5 (by decide : (31 : Int32).toInt = 31); have n3 := sw_ne c10 (by decide : (32 : Int32).toInt = 32); have n4 := sw_ne c15 (by decide : (33 : Int32).toInt = 33); have n5 := sw_ne c20 (by decide : (34 : Int32).toInt = 34); have n6 := sw_ne c25 (by decide : (35 : Int32).toInt = 35); have n7 := sw_ne c30 (by decide : (36 : Int32).toInt = 36); have n8 := sw_ne c35 (by decide : (37 : Int32).toInt = 37); have n9 := sw_ne c44 (by decide : (38 : Int32).toInt = 38); have n10 := sw_ne c54 (by decide : (39 : Int32).toInt = 39); have n11 := sw_ne c67 (by decide : (40 : Int32).toInt = 40); have n12 := sw_ne c74 (by decide : (41 : Int32).toInt = 41); have n13 := sw_ne c78 (by decide : (42 : Int32).toInt = 42); have n14 := sw_ne c82 (by decide : (43 : Int32).toInt = 43); have n15 := sw_ne c86 (by decide : (44 : Int32).toInt = 44); have n16 := sw_ne c90 (by decide : (45 : Int32).toInt = 45); have n17 := sw_ne c94 (by decide : (46 : Int32).toInt = 46); have n18 := sw_ne c98 (by decide : (47 : Int32).toInt = 47); have n19 := sw_ne c102 (by decide : (48 : Int32).toInt = 48); have n20 := sw_ne c106 (by decide : (49 : Int32).toInt = 49); have n21 := sw_ne c113 (by decide : (50 : Int32).toInt = 50); omega) (by decide) ?_
  refine w_aload_n dX3_actItem_325 rfl rfl ?_
  refine w_iload_n dX3_actItem_326 rfl rfl ?_
  obtain ⟨_, b120, hf⟩ := Option.bind_eq_some_iff.mp hf
  refine x_ctV hf (e_stV (Yc := YX3_actBox) (ci := 2) (av := [.int p0]) (st := []) dX3_actItem_327 q4059 mX3_actBox rfl (k_ok_some b120).1 (k_ok_some b120).2) mX3_actBox.2.2.1 mX3_actBox.2.2.2.2.1 (Nat.le_of_ble_eq_true rfl) (Nat.le_of_ble_eq_true rfl) rfl (fun q hq => pX3_actBox (by omega) hdr hrE hrN hq) (fun x121 h122 hf => ?_)
  exact (pX3_actItem_b330 hd hdr hrE hrN hf).to trivial
abbrev cX3_actPrimitive : ByteArray := prog_26_method_48_code
def yX3_actPrimitive : MethodName := ⟨RX3, "actPrimitive", "(I)V"⟩
def YX3_actPrimitive : eY := (yX3_actPrimitive, cX3_actPrimitive, 3, none, [])
theorem mX3_actPrimitive : e_mv YX3_actPrimitive RX3 1 := ⟨q3890, qs187, q3891, by decide, by decide +kernel, (e_sig (by decide +kernel))⟩
theorem dX3_actPrimitive_0 : decode cX3_actPrimitive 0 = .ok (.iload_n 1, 1) := dc_27 (by decide +kernel)
theorem dX3_actPrimitive_1 : decode cX3_actPrimitive 1 = .ok (.tableswitch 286 22 66 #[195, 198, 218, 227, 236, 244, 256, 286, 286, 286, 286, 286, 286, 286, 286, 286, 286, 286, 286, 286, 286, 286, 286, 286, 286, 286, 286, 286, 286, 244, 244, 244, 286, 286, 286, 286, 286, 286, 286, 286, 286, 286, 286, 286, 279], 195) := by decide +kernel
theorem dX3_actPrimitive_196 : decode cX3_actPrimitive 196 = .ok (.goto 111, 3) := dc_167 (a := 0) (b := 111) (v := 111) (by decide +kernel)
theorem dX3_actPrimitive_199 : decode cX3_actPrimitive 199 = .ok (.aload_n 0, 1) := dc_42 (by decide +kernel)
theorem dX3_actPrimitive_200 : decode cX3_actPrimitive 200 = .ok (.getfield 136, 3) := dc_180 (a := 0) (b := 136) (n := 136) (by decide +kernel)
theorem dX3_actPrimitive_203 : decode cX3_actPrimitive 203 = .ok (.aload_n 0, 1) := dc_42 (by decide +kernel)
theorem dX3_actPrimitive_204 : decode cX3_actPrimitive 204 = .ok (.getfield 211, 3) := dc_180 (a := 0) (b := 211) (n := 211) (by decide +kernel)
theorem dX3_actPrimitive_207 : decode cX3_actPrimitive 207 = .ok (.iaload, 1) := dc_46 (by decide +kernel)
theorem dX3_actPrimitive_208 : decode cX3_actPrimitive 208 = .ok (.iconst 2, 1) := dc_5 (by decide +kernel)
theorem dX3_actPrimitive_209 : decode cX3_actPrimitive 209 = .ok (.if_icmp .ne 98, 3) := dc_160 (a := 0) (b := 98) (v := 98) (by decide +kernel)
theorem dX3_actPrimitive_212 : decode cX3_actPrimitive 212 = .ok (.aload_n 0, 1) := dc_42 (by decide +kernel)
theorem dX3_actPrimitive_213 : decode cX3_actPrimitive 213 = .ok (.invokevirtual 283, 3) := dc_182 (a := 1) (b := 27) (n := 283) (by decide +kernel)
theorem dX3_actPrimitive_216 : decode cX3_actPrimitive 216 = .ok (.goto 91, 3) := dc_167 (a := 0) (b := 91) (v := 91) (by decide +kernel)
theorem dX3_actPrimitive_219 : decode cX3_actPrimitive 219 = .ok (.aload_n 0, 1) := dc_42 (by decide +kernel)
theorem dX3_actPrimitive_220 : decode cX3_actPrimitive 220 = .ok (.bipush 24, 2) := dc_16 (a := 24) (v := 24) (by decide +kernel)
theorem dX3_actPrimitive_222 : decode cX3_actPrimitive 222 = .ok (.invokevirtual 431, 3) := dc_182 (a := 1) (b := 175) (n := 431) (by decide +kernel)
theorem dX3_actPrimitive_225 : decode cX3_actPrimitive 225 = .ok (.goto 82, 3) := dc_167 (a := 0) (b := 82) (v := 82) (by decide +kernel)
theorem dX3_actPrimitive_228 : decode cX3_actPrimitive 228 = .ok (.aload_n 0, 1) := dc_42 (by decide +kernel)
theorem dX3_actPrimitive_229 : decode cX3_actPrimitive 229 = .ok (.bipush 24, 2) := dc_16 (a := 24) (v := 24) (by decide +kernel)
theorem dX3_actPrimitive_231 : decode cX3_actPrimitive 231 = .ok (.invokevirtual 695, 3) := dc_182 (a := 2) (b := 183) (n := 695) (by decide +kernel)
theorem dX3_actPrimitive_234 : decode cX3_actPrimitive 234 = .ok (.goto 73, 3) := dc_167 (a := 0) (b := 73) (v := 73) (by decide +kernel)
theorem dX3_actPrimitive_237 : decode cX3_actPrimitive 237 = .ok (.aload_n 0, 1) := dc_42 (by decide +kernel)
theorem dX3_actPrimitive_238 : decode cX3_actPrimitive 238 = .ok (.iconst 1, 1) := dc_4 (by decide +kernel)
theorem dX3_actPrimitive_239 : decode cX3_actPrimitive 239 = .ok (.putfield 222, 3) := dc_181 (a := 0) (b := 222) (n := 222) (by decide +kernel)
theorem dX3_actPrimitive_242 : decode cX3_actPrimitive 242 = .ok (.goto 65, 3) := dc_167 (a := 0) (b := 65) (v := 65) (by decide +kernel)
theorem dX3_actPrimitive_245 : decode cX3_actPrimitive 245 = .ok (.aload_n 0, 1) := dc_42 (by decide +kernel)
theorem dX3_actPrimitive_246 : decode cX3_actPrimitive 246 = .ok (.getfield 14, 3) := dc_180 (a := 0) (b := 14) (n := 14) (by decide +kernel)
theorem dX3_actPrimitive_249 : decode cX3_actPrimitive 249 = .ok (.bipush 6, 2) := dc_16 (a := 6) (v := 6) (by decide +kernel)
theorem dX3_actPrimitive_251 : decode cX3_actPrimitive 251 = .ok (.invokevirtual 680, 3) := dc_182 (a := 2) (b := 168) (n := 680) (by decide +kernel)
theorem dX3_actPrimitive_254 : decode cX3_actPrimitive 254 = .ok (.goto 53, 3) := dc_167 (a := 0) (b := 53) (v := 53) (by decide +kernel)
theorem dX3_actPrimitive_257 : decode cX3_actPrimitive 257 = .ok (.aload_n 0, 1) := dc_42 (by decide +kernel)
theorem dX3_actPrimitive_258 : decode cX3_actPrimitive 258 = .ok (.iconst 1, 1) := dc_4 (by decide +kernel)
theorem dX3_actPrimitive_259 : decode cX3_actPrimitive 259 = .ok (.invokevirtual 444, 3) := dc_182 (a := 1) (b := 188) (n := 444) (by decide +kernel)
theorem dX3_actPrimitive_262 : decode cX3_actPrimitive 262 = .ok (.istore_n 2, 1) := dc_61 (by decide +kernel)
theorem dX3_actPrimitive_263 : decode cX3_actPrimitive 263 = .ok (.aload_n 0, 1) := dc_42 (by decide +kernel)
theorem dX3_actPrimitive_264 : decode cX3_actPrimitive 264 = .ok (.aload_n 0, 1) := dc_42 (by decide +kernel)
theorem dX3_actPrimitive_265 : decode cX3_actPrimitive 265 = .ok (.getfield 45, 3) := dc_180 (a := 0) (b := 45) (n := 45) (by decide +kernel)
theorem dX3_actPrimitive_268 : decode cX3_actPrimitive 268 = .ok (.sipush 255, 3) := dc_17 (a := 0) (b := 255) (v := 255) (by decide +kernel)
theorem dX3_actPrimitive_271 : decode cX3_actPrimitive 271 = .ok (.invokevirtual 404, 3) := dc_182 (a := 1) (b := 148) (n := 404) (by decide +kernel)
theorem dX3_actPrimitive_274 : decode cX3_actPrimitive 274 = .ok (.invokevirtual 683, 3) := dc_182 (a := 2) (b := 171) (n := 683) (by decide +kernel)
theorem dX3_actPrimitive_277 : decode cX3_actPrimitive 277 = .ok (.goto 30, 3) := dc_167 (a := 0) (b := 30) (v := 30) (by decide +kernel)
theorem dX3_actPrimitive_280 : decode cX3_actPrimitive 280 = .ok (.aload_n 0, 1) := dc_42 (by decide +kernel)
theorem dX3_actPrimitive_281 : decode cX3_actPrimitive 281 = .ok (.invokevirtual 700, 3) := dc_182 (a := 2) (b := 188) (n := 700) (by decide +kernel)
theorem dX3_actPrimitive_284 : decode cX3_actPrimitive 284 = .ok (.goto 23, 3) := dc_167 (a := 0) (b := 23) (v := 23) (by decide +kernel)
theorem dX3_actPrimitive_287 : decode cX3_actPrimitive 287 = .ok (.iload_n 1, 1) := dc_27 (by decide +kernel)
theorem dX3_actPrimitive_288 : decode cX3_actPrimitive 288 = .ok (.bipush 54, 2) := dc_16 (a := 54) (v := 54) (by decide +kernel)
theorem dX3_actPrimitive_290 : decode cX3_actPrimitive 290 = .ok (.if_icmp .lt 12, 3) := dc_161 (a := 0) (b := 12) (v := 12) (by decide +kernel)
theorem dX3_actPrimitive_293 : decode cX3_actPrimitive 293 = .ok (.aload_n 0, 1) := dc_42 (by decide +kernel)
theorem dX3_actPrimitive_294 : decode cX3_actPrimitive 294 = .ok (.iload_n 1, 1) := dc_27 (by decide +kernel)
theorem dX3_actPrimitive_295 : decode cX3_actPrimitive 295 = .ok (.iconst 0, 1) := dc_3 (by decide +kernel)
theorem dX3_actPrimitive_296 : decode cX3_actPrimitive 296 = .ok (.invokevirtual 703, 3) := dc_182 (a := 2) (b := 191) (n := 703) (by decide +kernel)
theorem dX3_actPrimitive_299 : decode cX3_actPrimitive 299 = .ok (.goto 8, 3) := dc_167 (a := 0) (b := 8) (v := 8) (by decide +kernel)
theorem dX3_actPrimitive_302 : decode cX3_actPrimitive 302 = .ok (.aload_n 0, 1) := dc_42 (by decide +kernel)
theorem dX3_actPrimitive_303 : decode cX3_actPrimitive 303 = .ok (.iload_n 1, 1) := dc_27 (by decide +kernel)
theorem dX3_actPrimitive_304 : decode cX3_actPrimitive 304 = .ok (.invokevirtual 706, 3) := dc_182 (a := 2) (b := 194) (n := 706) (by decide +kernel)
theorem dX3_actPrimitive_307 : decode cX3_actPrimitive 307 = .ok (.return_, 1) := dc_177 (by decide +kernel)
def fX3_actPrimitive_b307 (N : Nat) (rE : Nat → Int32 → eH → Option ((Unit ⊕ Nat) × eH)) (rN : Nat → eH → Option ((Int32 ⊕ Nat) × eH))  (h : eH) : Option ((Unit ⊕ Nat) × eH) :=
  some (.inl (), h)
theorem pX3_actPrimitive_b307 {w : eW} {d : Nat} {dr : Nat} (hd : dr + 23 ≤ d + 1) (hdr : 12 ≤ dr) {N : Nat} {rE : Nat → Int32 → eH → Option ((Unit ⊕ Nat) × eH)} {rN : Nat → eH → Option ((Int32 ⊕ Nat) × eH)} (hrE : ∀ a t0 h q, rE a t0 h = some q → wm w dr YX8_expand [.ref a, .int t0] h (e_is (e_rt c_V q))) (hrN : ∀ a h q, rN a h = some q → wm w dr YX8_number [.ref a] h (e_is (e_rt c_I q)))  {h : eH} {q} (hf : fX3_actPrimitive_b307 N rE rN h = some q) : wp w (d + 1) YX3_actPrimitive 307 [none, none, none] [] h (e_is (e_rt c_V q)) := by
  unfold fX3_actPrimitive_b307 at hf
  cases hf
  exact w_vret dX3_actPrimitive_307 rfl rfl
def fX3_actPrimitive (N : Nat) (rE : Nat → Int32 → eH → Option ((Unit ⊕ Nat) × eH)) (rN : Nat → eH → Option ((Int32 ⊕ Nat) × eH)) (this : Nat) (p0 : Int32) (h : eH) : Option ((Unit ⊕ Nat) × eH) :=
  if p0 = (22 : Int32) then
    fX3_actPrimitive_b307 N rE rN h
  else
  if p0 = (23 : Int32) then
    (g_A 2 h this 19).bind fun a3 =>
    (g_I 2 h this 27).bind fun x5 =>
    (r_I 100 h a3 x5).bind fun x7 =>
    if ¬ x7 = (2 : Int32) then
      fX3_actPrimitive_b307 N rE rN h
    else
      (k_ok 2 h this).bind fun _ =>
      t_B (fX3_endParagraph N this h) fun x11 h12 =>
      fX3_actPrimitive_b307 N rE rN h12
  else
  if p0 = (24 : Int32) then
    (k_ok 2 h this).bind fun _ =>
    t_B (fX3_open this (24 : Int32) h) fun x15 h16 =>
    fX3_actPrimitive_b307 N rE rN h16
  else
  if p0 = (25 : Int32) then
    (k_ok 2 h this).bind fun _ =>
    t_B (fX3_close N this (24 : Int32) h) fun x19 h20 =>
    fX3_actPrimitive_b307 N rE rN h20
  else
  if p0 = (26 : Int32) then
    (p_Z 2 h this 35 (1 : Int32)).bind fun h22 =>
    fX3_actPrimitive_b307 N rE rN h22
  else
  if p0 = (27 : Int32) then
    (g_A 2 h this 0).bind fun a25 =>
    (k_ok 3 h a25).bind fun _ =>
    t_B (fX4_fail a25 (6 : Int32) h) fun x28 h29 =>
    fX3_actPrimitive_b307 N rE rN h29
  else
  if p0 = (28 : Int32) then
    (k_ok 2 h this).bind fun _ =>
    t_B (fX3_wantHorizontal N this (1 : Int32) h) fun x32 h33 =>
    (g_A 2 h33 this 5).bind fun a34 =>
    (k_ok 7 h33 a34).bind fun _ =>
    t_B (fX8_within rN a34 (255 : Int32) h33) fun x37 h38 =>
    (k_ok 2 h38 this).bind fun _ =>
    t_B (fX3_character N this x37 h38) fun x40 h41 =>
    fX3_actPrimitive_b307 N rE rN h41
  else
  if p0 = (29 : Int32) then
    if p0 < (54 : Int32) then
      (k_ok 2 h this).bind fun _ =>
      t_B (fX3_actItem N rE rN this p0 h) fun x45 h46 =>
      fX3_actPrimitive_b307 N rE rN h46
    else
      (k_ok 2 h this).bind fun _ =>
      t_B (fX3_set N rE rN this p0 (0 : Int32) h) fun x48 h49 =>
      fX3_actPrimitive_b307 N rE rN h49
  else
  if p0 = (30 : Int32) then
    if p0 < (54 : Int32) then
      (k_ok 2 h this).bind fun _ =>
      t_B (fX3_actItem N rE rN this p0 h) fun x53 h54 =>
      fX3_actPrimitive_b307 N rE rN h54
    else
      (k_ok 2 h this).bind fun _ =>
      t_B (fX3_set N rE rN this p0 (0 : Int32) h) fun x56 h57 =>
      fX3_actPrimitive_b307 N rE rN h57
  else
  if p0 = (31 : Int32) then
    if p0 < (54 : Int32) then
      (k_ok 2 h this).bind fun _ =>
      t_B (fX3_actItem N rE rN this p0 h) fun x61 h62 =>
      fX3_actPrimitive_b307 N rE rN h62
    else
      (k_ok 2 h this).bind fun _ =>
      t_B (fX3_set N rE rN this p0 (0 : Int32) h) fun x64 h65 =>
      fX3_actPrimitive_b307 N rE rN h65
  else
  if p0 = (32 : Int32) then
    if p0 < (54 : Int32) then
      (k_ok 2 h this).bind fun _ =>
      t_B (fX3_actItem N rE rN this p0 h) fun x69 h70 =>
      fX3_actPrimitive_b307 N rE rN h70
    else
      (k_ok 2 h this).bind fun _ =>
      t_B (fX3_set N rE rN this p0 (0 : Int32) h) fun x72 h73 =>
      fX3_actPrimitive_b307 N rE rN h73
  else
  if p0 = (33 : Int32) then
    if p0 < (54 : Int32) then
      (k_ok 2 h this).bind fun _ =>
      t_B (fX3_actItem N rE rN this p0 h) fun x77 h78 =>
      fX3_actPrimitive_b307 N rE rN h78
    else
      (k_ok 2 h this).bind fun _ =>
      t_B (fX3_set N rE rN this p0 (0 : Int32) h) fun x80 h81 =>
      fX3_actPrimitive_b307 N rE rN h81
  else
  if p0 = (34 : Int32) then
    if p0 < (54 : Int32) then
      (k_ok 2 h this).bind fun _ =>
      t_B (fX3_actItem N rE rN this p0 h) fun x85 h86 =>
      fX3_actPrimitive_b307 N rE rN h86
    else
      (k_ok 2 h this).bind fun _ =>
      t_B (fX3_set N rE rN this p0 (0 : Int32) h) fun x88 h89 =>
      fX3_actPrimitive_b307 N rE rN h89
  else
  if p0 = (35 : Int32) then
    if p0 < (54 : Int32) then
      (k_ok 2 h this).bind fun _ =>
      t_B (fX3_actItem N rE rN this p0 h) fun x93 h94 =>
      fX3_actPrimitive_b307 N rE rN h94
    else
      (k_ok 2 h this).bind fun _ =>
      t_B (fX3_set N rE rN this p0 (0 : Int32) h) fun x96 h97 =>
      fX3_actPrimitive_b307 N rE rN h97
  else
  if p0 = (36 : Int32) then
    if p0 < (54 : Int32) then
      (k_ok 2 h this).bind fun _ =>
      t_B (fX3_actItem N rE rN this p0 h) fun x101 h102 =>
      fX3_actPrimitive_b307 N rE rN h102
    else
      (k_ok 2 h this).bind fun _ =>
      t_B (fX3_set N rE rN this p0 (0 : Int32) h) fun x104 h105 =>
      fX3_actPrimitive_b307 N rE rN h105
  else
  if p0 = (37 : Int32) then
    if p0 < (54 : Int32) then
      (k_ok 2 h this).bind fun _ =>
      t_B (fX3_actItem N rE rN this p0 h) fun x109 h110 =>
      fX3_actPrimitive_b307 N rE rN h110
    else
      (k_ok 2 h this).bind fun _ =>
      t_B (fX3_set N rE rN this p0 (0 : Int32) h) fun x112 h113 =>
      fX3_actPrimitive_b307 N rE rN h113
  else
  if p0 = (38 : Int32) then
    if p0 < (54 : Int32) then
      (k_ok 2 h this).bind fun _ =>
      t_B (fX3_actItem N rE rN this p0 h) fun x117 h118 =>
      fX3_actPrimitive_b307 N rE rN h118
    else
      (k_ok 2 h this).bind fun _ =>
      t_B (fX3_set N rE rN this p0 (0 : Int32) h) fun x120 h121 =>
      fX3_actPrimitive_b307 N rE rN h121
  else
  if p0 = (39 : Int32) then
    if p0 < (54 : Int32) then
      (k_ok 2 h this).bind fun _ =>
      t_B (fX3_actItem N rE rN this p0 h) fun x125 h126 =>
      fX3_actPrimitive_b307 N rE rN h126
    else
      (k_ok 2 h this).bind fun _ =>
      t_B (fX3_set N rE rN this p0 (0 : Int32) h) fun x128 h129 =>
      fX3_actPrimitive_b307 N rE rN h129
  else
  if p0 = (40 : Int32) then
    if p0 < (54 : Int32) then
      (k_ok 2 h this).bind fun _ =>
      t_B (fX3_actItem N rE rN this p0 h) fun x133 h134 =>
      fX3_actPrimitive_b307 N rE rN h134
    else
      (k_ok 2 h this).bind fun _ =>
      t_B (fX3_set N rE rN this p0 (0 : Int32) h) fun x136 h137 =>
      fX3_actPrimitive_b307 N rE rN h137
  else
  if p0 = (41 : Int32) then
    if p0 < (54 : Int32) then
      (k_ok 2 h this).bind fun _ =>
      t_B (fX3_actItem N rE rN this p0 h) fun x141 h142 =>
      fX3_actPrimitive_b307 N rE rN h142
    else
      (k_ok 2 h this).bind fun _ =>
      t_B (fX3_set N rE rN this p0 (0 : Int32) h) fun x144 h145 =>
      fX3_actPrimitive_b307 N rE rN h145
  else
  if p0 = (42 : Int32) then
    if p0 < (54 : Int32) then
      (k_ok 2 h this).bind fun _ =>
      t_B (fX3_actItem N rE rN this p0 h) fun x149 h150 =>
      fX3_actPrimitive_b307 N rE rN h150
    else
      (k_ok 2 h this).bind fun _ =>
      t_B (fX3_set N rE rN this p0 (0 : Int32) h) fun x152 h153 =>
      fX3_actPrimitive_b307 N rE rN h153
  else
  if p0 = (43 : Int32) then
    if p0 < (54 : Int32) then
      (k_ok 2 h this).bind fun _ =>
      t_B (fX3_actItem N rE rN this p0 h) fun x157 h158 =>
      fX3_actPrimitive_b307 N rE rN h158
    else
      (k_ok 2 h this).bind fun _ =>
      t_B (fX3_set N rE rN this p0 (0 : Int32) h) fun x160 h161 =>
      fX3_actPrimitive_b307 N rE rN h161
  else
  if p0 = (44 : Int32) then
    if p0 < (54 : Int32) then
      (k_ok 2 h this).bind fun _ =>
      t_B (fX3_actItem N rE rN this p0 h) fun x165 h166 =>
      fX3_actPrimitive_b307 N rE rN h166
    else
      (k_ok 2 h this).bind fun _ =>
      t_B (fX3_set N rE rN this p0 (0 : Int32) h) fun x168 h169 =>
      fX3_actPrimitive_b307 N rE rN h169
  else
  if p0 = (45 : Int32) then
    if p0 < (54 : Int32) then
      (k_ok 2 h this).bind fun _ =>
      t_B (fX3_actItem N rE rN this p0 h) fun x173 h174 =>
      fX3_actPrimitive_b307 N rE rN h174
    else
      (k_ok 2 h this).bind fun _ =>
      t_B (fX3_set N rE rN this p0 (0 : Int32) h) fun x176 h177 =>
      fX3_actPrimitive_b307 N rE rN h177
  else
  if p0 = (46 : Int32) then
    if p0 < (54 : Int32) then
      (k_ok 2 h this).bind fun _ =>
      t_B (fX3_actItem N rE rN this p0 h) fun x181 h182 =>
      fX3_actPrimitive_b307 N rE rN h182
    else
      (k_ok 2 h this).bind fun _ =>
      t_B (fX3_set N rE rN this p0 (0 : Int32) h) fun x184 h185 =>
      fX3_actPrimitive_b307 N rE rN h185
  else
  if p0 = (47 : Int32) then
    if p0 < (54 : Int32) then
      (k_ok 2 h this).bind fun _ =>
      t_B (fX3_actItem N rE rN this p0 h) fun x189 h190 =>
      fX3_actPrimitive_b307 N rE rN h190
    else
      (k_ok 2 h this).bind fun _ =>
      t_B (fX3_set N rE rN this p0 (0 : Int32) h) fun x192 h193 =>
      fX3_actPrimitive_b307 N rE rN h193
  else
  if p0 = (48 : Int32) then
    if p0 < (54 : Int32) then
      (k_ok 2 h this).bind fun _ =>
      t_B (fX3_actItem N rE rN this p0 h) fun x197 h198 =>
      fX3_actPrimitive_b307 N rE rN h198
    else
      (k_ok 2 h this).bind fun _ =>
      t_B (fX3_set N rE rN this p0 (0 : Int32) h) fun x200 h201 =>
      fX3_actPrimitive_b307 N rE rN h201
  else
  if p0 = (49 : Int32) then
    if p0 < (54 : Int32) then
      (k_ok 2 h this).bind fun _ =>
      t_B (fX3_actItem N rE rN this p0 h) fun x205 h206 =>
      fX3_actPrimitive_b307 N rE rN h206
    else
      (k_ok 2 h this).bind fun _ =>
      t_B (fX3_set N rE rN this p0 (0 : Int32) h) fun x208 h209 =>
      fX3_actPrimitive_b307 N rE rN h209
  else
  if p0 = (50 : Int32) then
    if p0 < (54 : Int32) then
      (k_ok 2 h this).bind fun _ =>
      t_B (fX3_actItem N rE rN this p0 h) fun x213 h214 =>
      fX3_actPrimitive_b307 N rE rN h214
    else
      (k_ok 2 h this).bind fun _ =>
      t_B (fX3_set N rE rN this p0 (0 : Int32) h) fun x216 h217 =>
      fX3_actPrimitive_b307 N rE rN h217
  else
  if p0 = (51 : Int32) then
    (g_A 2 h this 0).bind fun a219 =>
    (k_ok 3 h a219).bind fun _ =>
    t_B (fX4_fail a219 (6 : Int32) h) fun x222 h223 =>
    fX3_actPrimitive_b307 N rE rN h223
  else
  if p0 = (52 : Int32) then
    (g_A 2 h this 0).bind fun a225 =>
    (k_ok 3 h a225).bind fun _ =>
    t_B (fX4_fail a225 (6 : Int32) h) fun x228 h229 =>
    fX3_actPrimitive_b307 N rE rN h229
  else
  if p0 = (53 : Int32) then
    (g_A 2 h this 0).bind fun a231 =>
    (k_ok 3 h a231).bind fun _ =>
    t_B (fX4_fail a231 (6 : Int32) h) fun x234 h235 =>
    fX3_actPrimitive_b307 N rE rN h235
  else
  if p0 = (54 : Int32) then
    if p0 < (54 : Int32) then
      (k_ok 2 h this).bind fun _ =>
      t_B (fX3_actItem N rE rN this p0 h) fun x239 h240 =>
      fX3_actPrimitive_b307 N rE rN h240
    else
      (k_ok 2 h this).bind fun _ =>
      t_B (fX3_set N rE rN this p0 (0 : Int32) h) fun x242 h243 =>
      fX3_actPrimitive_b307 N rE rN h243
  else
  if p0 = (55 : Int32) then
    if p0 < (54 : Int32) then
      (k_ok 2 h this).bind fun _ =>
      t_B (fX3_actItem N rE rN this p0 h) fun x247 h248 =>
      fX3_actPrimitive_b307 N rE rN h248
    else
      (k_ok 2 h this).bind fun _ =>
      t_B (fX3_set N rE rN this p0 (0 : Int32) h) fun x250 h251 =>
      fX3_actPrimitive_b307 N rE rN h251
  else
  if p0 = (56 : Int32) then
    if p0 < (54 : Int32) then
      (k_ok 2 h this).bind fun _ =>
      t_B (fX3_actItem N rE rN this p0 h) fun x255 h256 =>
      fX3_actPrimitive_b307 N rE rN h256
    else
      (k_ok 2 h this).bind fun _ =>
      t_B (fX3_set N rE rN this p0 (0 : Int32) h) fun x258 h259 =>
      fX3_actPrimitive_b307 N rE rN h259
  else
  if p0 = (57 : Int32) then
    if p0 < (54 : Int32) then
      (k_ok 2 h this).bind fun _ =>
      t_B (fX3_actItem N rE rN this p0 h) fun x263 h264 =>
      fX3_actPrimitive_b307 N rE rN h264
    else
      (k_ok 2 h this).bind fun _ =>
      t_B (fX3_set N rE rN this p0 (0 : Int32) h) fun x266 h267 =>
      fX3_actPrimitive_b307 N rE rN h267
  else
  if p0 = (58 : Int32) then
    if p0 < (54 : Int32) then
      (k_ok 2 h this).bind fun _ =>
      t_B (fX3_actItem N rE rN this p0 h) fun x271 h272 =>
      fX3_actPrimitive_b307 N rE rN h272
    else
      (k_ok 2 h this).bind fun _ =>
      t_B (fX3_set N rE rN this p0 (0 : Int32) h) fun x274 h275 =>
      fX3_actPrimitive_b307 N rE rN h275
  else
  if p0 = (59 : Int32) then
    if p0 < (54 : Int32) then
      (k_ok 2 h this).bind fun _ =>
      t_B (fX3_actItem N rE rN this p0 h) fun x279 h280 =>
      fX3_actPrimitive_b307 N rE rN h280
    else
      (k_ok 2 h this).bind fun _ =>
      t_B (fX3_set N rE rN this p0 (0 : Int32) h) fun x282 h283 =>
      fX3_actPrimitive_b307 N rE rN h283
  else
  if p0 = (60 : Int32) then
    if p0 < (54 : Int32) then
      (k_ok 2 h this).bind fun _ =>
      t_B (fX3_actItem N rE rN this p0 h) fun x287 h288 =>
      fX3_actPrimitive_b307 N rE rN h288
    else
      (k_ok 2 h this).bind fun _ =>
      t_B (fX3_set N rE rN this p0 (0 : Int32) h) fun x290 h291 =>
      fX3_actPrimitive_b307 N rE rN h291
  else
  if p0 = (61 : Int32) then
    if p0 < (54 : Int32) then
      (k_ok 2 h this).bind fun _ =>
      t_B (fX3_actItem N rE rN this p0 h) fun x295 h296 =>
      fX3_actPrimitive_b307 N rE rN h296
    else
      (k_ok 2 h this).bind fun _ =>
      t_B (fX3_set N rE rN this p0 (0 : Int32) h) fun x298 h299 =>
      fX3_actPrimitive_b307 N rE rN h299
  else
  if p0 = (62 : Int32) then
    if p0 < (54 : Int32) then
      (k_ok 2 h this).bind fun _ =>
      t_B (fX3_actItem N rE rN this p0 h) fun x303 h304 =>
      fX3_actPrimitive_b307 N rE rN h304
    else
      (k_ok 2 h this).bind fun _ =>
      t_B (fX3_set N rE rN this p0 (0 : Int32) h) fun x306 h307 =>
      fX3_actPrimitive_b307 N rE rN h307
  else
  if p0 = (63 : Int32) then
    if p0 < (54 : Int32) then
      (k_ok 2 h this).bind fun _ =>
      t_B (fX3_actItem N rE rN this p0 h) fun x311 h312 =>
      fX3_actPrimitive_b307 N rE rN h312
    else
      (k_ok 2 h this).bind fun _ =>
      t_B (fX3_set N rE rN this p0 (0 : Int32) h) fun x314 h315 =>
      fX3_actPrimitive_b307 N rE rN h315
  else
  if p0 = (64 : Int32) then
    if p0 < (54 : Int32) then
      (k_ok 2 h this).bind fun _ =>
      t_B (fX3_actItem N rE rN this p0 h) fun x319 h320 =>
      fX3_actPrimitive_b307 N rE rN h320
    else
      (k_ok 2 h this).bind fun _ =>
      t_B (fX3_set N rE rN this p0 (0 : Int32) h) fun x322 h323 =>
      fX3_actPrimitive_b307 N rE rN h323
  else
  if p0 = (65 : Int32) then
    if p0 < (54 : Int32) then
      (k_ok 2 h this).bind fun _ =>
      t_B (fX3_actItem N rE rN this p0 h) fun x327 h328 =>
      fX3_actPrimitive_b307 N rE rN h328
    else
      (k_ok 2 h this).bind fun _ =>
      t_B (fX3_set N rE rN this p0 (0 : Int32) h) fun x330 h331 =>
      fX3_actPrimitive_b307 N rE rN h331
  else
  if p0 = (66 : Int32) then
    (k_ok 2 h this).bind fun _ =>
    t_B (fX3_actGlobal N rE rN this h) fun x334 h335 =>
    fX3_actPrimitive_b307 N rE rN h335
  else
  if p0 < (54 : Int32) then
    (k_ok 2 h this).bind fun _ =>
    t_B (fX3_actItem N rE rN this p0 h) fun x338 h339 =>
    fX3_actPrimitive_b307 N rE rN h339
  else
    (k_ok 2 h this).bind fun _ =>
    t_B (fX3_set N rE rN this p0 (0 : Int32) h) fun x341 h342 =>
    fX3_actPrimitive_b307 N rE rN h342
theorem pX3_actPrimitive {w : eW} {d : Nat} {dr : Nat} (hd : dr + 23 ≤ d) (hdr : 12 ≤ dr) {N : Nat} {rE : Nat → Int32 → eH → Option ((Unit ⊕ Nat) × eH)} {rN : Nat → eH → Option ((Int32 ⊕ Nat) × eH)} (hrE : ∀ a t0 h q, rE a t0 h = some q → wm w dr YX8_expand [.ref a, .int t0] h (e_is (e_rt c_V q))) (hrN : ∀ a h q, rN a h = some q → wm w dr YX8_number [.ref a] h (e_is (e_rt c_I q))) {this : Nat} {p0 : Int32} {h : eH} {q} (hf : fX3_actPrimitive N rE rN this p0 h = some q) : wm w d YX3_actPrimitive [.ref this, .int p0] h (e_is (e_rt c_V q)) := by
  obtain ⟨d, rfl⟩ : ∃ e, d = e + 1 := ⟨d - 1, by omega⟩
  show wp w (d + 1) YX3_actPrimitive 0 [some (.ref this), some (.int p0), none] [] h _
  unfold fX3_actPrimitive at hf
  refine w_iload_n dX3_actPrimitive_0 rfl rfl ?_
  by_cases c1 : p0 = (22 : Int32)
  · replace hf := (if_pos c1).symm.trans hf
    refine w_tableIn 196 dX3_actPrimitive_1 (by rw [c1]; decide) (by rw [c1]; decide) (by rw [c1]; rfl) (by decide) ?_
    refine w_goto 307 dX3_actPrimitive_196 (by decide) ?_
    exact (pX3_actPrimitive_b307 hd hdr hrE hrN hf).to trivial
  replace hf := (if_neg c1).symm.trans hf
  by_cases c2 : p0 = (23 : Int32)
  · replace hf := (if_pos c2).symm.trans hf
    refine w_tableIn 199 dX3_actPrimitive_1 (by rw [c2]; decide) (by rw [c2]; decide) (by rw [c2]; rfl) (by decide) ?_
    refine w_aload_n dX3_actPrimitive_199 rfl rfl ?_
    obtain ⟨a3, b4, hf⟩ := Option.bind_eq_some_iff.mp hf
    refine GX3_136 b4 dX3_actPrimitive_200 rfl ?_
    refine w_aload_n dX3_actPrimitive_203 rfl rfl ?_
    obtain ⟨x5, b6, hf⟩ := Option.bind_eq_some_iff.mp hf
    refine GX3_211 b6 dX3_actPrimitive_204 rfl ?_
    obtain ⟨x7, b8, hf⟩ := Option.bind_eq_some_iff.mp hf
    refine x_rI b8 dX3_actPrimitive_207 ?_
    refine w_iconst dX3_actPrimitive_208 (v := 2) (by decide) ?_
    refine w_icmp_ne 307 dX3_actPrimitive_209 (by decide) (fun c9 => ?_) (fun c9 => ?_)
    · replace hf := (if_pos (show ¬ x7 = (2 : Int32) from c9)).symm.trans hf
      exact (pX3_actPrimitive_b307 hd hdr hrE hrN hf).to trivial
    · replace hf := (if_neg (show ¬ (¬ x7 = (2 : Int32)) from (fun z => z c9))).symm.trans hf
      refine w_aload_n dX3_actPrimitive_212 rfl rfl ?_
      obtain ⟨_, b10, hf⟩ := Option.bind_eq_some_iff.mp hf
      refine x_ctV hf (e_stV (Yc := YX3_endParagraph) (ci := 2) (av := []) (st := []) dX3_actPrimitive_213 q3661 mX3_endParagraph rfl (k_ok_some b10).1 (k_ok_some b10).2) mX3_endParagraph.2.2.1 mX3_endParagraph.2.2.2.2.1 (Nat.le_of_ble_eq_true rfl) (Nat.le_of_ble_eq_true rfl) rfl (fun q hq => pX3_endParagraph (by omega) hq) (fun x11 h12 hf => ?_)
      refine w_goto 307 dX3_actPrimitive_216 (by decide) ?_
      exact (pX3_actPrimitive_b307 hd hdr hrE hrN hf).to trivial
  replace hf := (if_neg c2).symm.trans hf
  by_cases c13 : p0 = (24 : Int32)
  · replace hf := (if_pos c13).symm.trans hf
    refine w_tableIn 219 dX3_actPrimitive_1 (by rw [c13]; decide) (by rw [c13]; decide) (by rw [c13]; rfl) (by decide) ?_
    refine w_aload_n dX3_actPrimitive_219 rfl rfl ?_
    refine w_bipush dX3_actPrimitive_220 (v := 24) (by decide) ?_
    obtain ⟨_, b14, hf⟩ := Option.bind_eq_some_iff.mp hf
    refine x_ctV hf (e_stV (Yc := YX3_open) (ci := 2) (av := [.int (24 : Int32)]) (st := []) dX3_actPrimitive_222 q3649 mX3_open rfl (k_ok_some b14).1 (k_ok_some b14).2) mX3_open.2.2.1 mX3_open.2.2.2.2.1 (Nat.le_of_ble_eq_true rfl) (Nat.le_of_ble_eq_true rfl) rfl (fun q hq => pX3_open (by omega) hq) (fun x15 h16 hf => ?_)
    refine w_goto 307 dX3_actPrimitive_225 (by decide) ?_
    exact (pX3_actPrimitive_b307 hd hdr hrE hrN hf).to trivial
  replace hf := (if_neg c13).symm.trans hf
  by_cases c17 : p0 = (25 : Int32)
  · replace hf := (if_pos c17).symm.trans hf
    refine w_tableIn 228 dX3_actPrimitive_1 (by rw [c17]; decide) (by rw [c17]; decide) (by rw [c17]; rfl) (by decide) ?_
    refine w_aload_n dX3_actPrimitive_228 rfl rfl ?_
    refine w_bipush dX3_actPrimitive_229 (v := 24) (by decide) ?_
    obtain ⟨_, b18, hf⟩ := Option.bind_eq_some_iff.mp hf
    refine x_ctV hf (e_stV (Yc := YX3_close) (ci := 2) (av := [.int (24 : Int32)]) (st := []) dX3_actPrimitive_231 q3879 mX3_close rfl (k_ok_some b18).1 (k_ok_some b18).2) mX3_close.2.2.1 mX3_close.2.2.2.2.1 (Nat.le_of_ble_eq_true rfl) (Nat.le_of_ble_eq_true rfl) rfl (fun q hq => pX3_close (by omega) hq) (fun x19 h20 hf => ?_)
    refine w_goto 307 dX3_actPrimitive_234 (by decide) ?_
    exact (pX3_actPrimitive_b307 hd hdr hrE hrN hf).to trivial
  replace hf := (if_neg c17).symm.trans hf
  by_cases c21 : p0 = (26 : Int32)
  · replace hf := (if_pos c21).symm.trans hf
    refine w_tableIn 237 dX3_actPrimitive_1 (by rw [c21]; decide) (by rw [c21]; decide) (by rw [c21]; rfl) (by decide) ?_
    refine w_aload_n dX3_actPrimitive_237 rfl rfl ?_
    refine w_iconst dX3_actPrimitive_238 (v := 1) (by decide) ?_
    obtain ⟨h22, b23, hf⟩ := Option.bind_eq_some_iff.mp hf
    refine SX3_222 b23 dX3_actPrimitive_239 rfl ?_
    refine w_goto 307 dX3_actPrimitive_242 (by decide) ?_
    exact (pX3_actPrimitive_b307 hd hdr hrE hrN hf).to trivial
  replace hf := (if_neg c21).symm.trans hf
  by_cases c24 : p0 = (27 : Int32)
  · replace hf := (if_pos c24).symm.trans hf
    refine w_tableIn 245 dX3_actPrimitive_1 (by rw [c24]; decide) (by rw [c24]; decide) (by rw [c24]; rfl) (by decide) ?_
    refine w_aload_n dX3_actPrimitive_245 rfl rfl ?_
    obtain ⟨a25, b26, hf⟩ := Option.bind_eq_some_iff.mp hf
    refine GX3_14 b26 dX3_actPrimitive_246 rfl ?_
    refine w_bipush dX3_actPrimitive_249 (v := 6) (by decide) ?_
    obtain ⟨_, b27, hf⟩ := Option.bind_eq_some_iff.mp hf
    refine x_ctV hf (e_stV (Yc := YX4_fail) (ci := 3) (av := [.int (6 : Int32)]) (st := []) dX3_actPrimitive_251 q3181 mX4_fail rfl (k_ok_some b27).1 (k_ok_some b27).2) mX4_fail.2.2.1 mX4_fail.2.2.2.2.1 (Nat.le_of_ble_eq_true rfl) (Nat.le_of_ble_eq_true rfl) rfl (fun q hq => pX4_fail (by omega) hq) (fun x28 h29 hf => ?_)
    refine w_goto 307 dX3_actPrimitive_254 (by decide) ?_
    exact (pX3_actPrimitive_b307 hd hdr hrE hrN hf).to trivial
  replace hf := (if_neg c24).symm.trans hf
  by_cases c30 : p0 = (28 : Int32)
  · replace hf := (if_pos c30).symm.trans hf
    refine w_tableIn 257 dX3_actPrimitive_1 (by rw [c30]; decide) (by rw [c30]; decide) (by rw [c30]; rfl) (by decide) ?_
    refine w_aload_n dX3_actPrimitive_257 rfl rfl ?_
    refine w_iconst dX3_actPrimitive_258 (v := 1) (by decide) ?_
    obtain ⟨_, b31, hf⟩ := Option.bind_eq_some_iff.mp hf
    refine x_ctI hf (e_stV (Yc := YX3_wantHorizontal) (ci := 2) (av := [.int (1 : Int32)]) (st := []) dX3_actPrimitive_259 q3186 mX3_wantHorizontal rfl (k_ok_some b31).1 (k_ok_some b31).2) mX3_wantHorizontal.2.2.1 mX3_wantHorizontal.2.2.2.2.1 (Nat.le_of_ble_eq_true rfl) (Nat.le_of_ble_eq_true rfl) rfl (fun q hq => pX3_wantHorizontal (by omega) hq) (fun x32 h33 hf => ?_)
    refine w_istore_n dX3_actPrimitive_262 rfl (by decide) (ls' := [some (.ref this), some (.int p0), some (.int x32)]) rfl ?_
    refine w_aload_n dX3_actPrimitive_263 rfl rfl ?_
    refine w_aload_n dX3_actPrimitive_264 rfl rfl ?_
    obtain ⟨a34, b35, hf⟩ := Option.bind_eq_some_iff.mp hf
    refine GX3_45 b35 dX3_actPrimitive_265 rfl ?_
    refine w_sipush dX3_actPrimitive_268 (v := 255) (by decide) ?_
    obtain ⟨_, b36, hf⟩ := Option.bind_eq_some_iff.mp hf
    refine x_ctI hf (e_stVN (Yc := YX8_within) (ci := 7) (av := [.int (255 : Int32)]) (st := [.ref this]) dX3_actPrimitive_271 q3892 mX8_within rfl (k_ok_some b36).1 (k_ok_some b36).2) mX8_within.2.2.1 mX8_within.2.2.2.2.1 (Nat.le_of_ble_eq_true rfl) (Nat.le_of_ble_eq_true rfl) rfl (fun q hq => pX8_within (by omega) hdr hrN hq) (fun x37 h38 hf => ?_)
    obtain ⟨_, b39, hf⟩ := Option.bind_eq_some_iff.mp hf
    refine x_ctV hf (e_stV (Yc := YX3_character) (ci := 2) (av := [.int x37]) (st := []) dX3_actPrimitive_274 q3182 mX3_character rfl (k_ok_some b39).1 (k_ok_some b39).2) mX3_character.2.2.1 mX3_character.2.2.2.2.1 (Nat.le_of_ble_eq_true rfl) (Nat.le_of_ble_eq_true rfl) rfl (fun q hq => pX3_character (by omega) hq) (fun x40 h41 hf => ?_)
    refine w_goto 307 dX3_actPrimitive_277 (by decide) ?_
    exact (pX3_actPrimitive_b307 hd hdr hrE hrN hf).to trivial
  replace hf := (if_neg c30).symm.trans hf
  by_cases c42 : p0 = (29 : Int32)
  · replace hf := (if_pos c42).symm.trans hf
    refine w_tableIn 287 dX3_actPrimitive_1 (by rw [c42]; decide) (by rw [c42]; decide) (by rw [c42]; rfl) (by decide) ?_
    refine w_iload_n dX3_actPrimitive_287 rfl rfl ?_
    refine w_bipush dX3_actPrimitive_288 (v := 54) (by decide) ?_
    refine w_icmp_lt 302 dX3_actPrimitive_290 (by decide) (fun c43 => ?_) (fun c43 => ?_)
    · replace hf := (if_pos (show p0 < (54 : Int32) from c43)).symm.trans hf
      refine w_aload_n dX3_actPrimitive_302 rfl rfl ?_
      refine w_iload_n dX3_actPrimitive_303 rfl rfl ?_
      obtain ⟨_, b44, hf⟩ := Option.bind_eq_some_iff.mp hf
      refine x_ctV hf (e_stV (Yc := YX3_actItem) (ci := 2) (av := [.int p0]) (st := []) dX3_actPrimitive_304 q4033 mX3_actItem rfl (k_ok_some b44).1 (k_ok_some b44).2) mX3_actItem.2.2.1 mX3_actItem.2.2.2.2.1 (Nat.le_of_ble_eq_true rfl) (Nat.le_of_ble_eq_true rfl) rfl (fun q hq => pX3_actItem (by omega) hdr hrE hrN hq) (fun x45 h46 hf => ?_)
      exact (pX3_actPrimitive_b307 hd hdr hrE hrN hf).to trivial
    · replace hf := (if_neg (show ¬ (p0 < (54 : Int32)) from c43)).symm.trans hf
      refine w_aload_n dX3_actPrimitive_293 rfl rfl ?_
      refine w_iload_n dX3_actPrimitive_294 rfl rfl ?_
      refine w_iconst dX3_actPrimitive_295 (v := 0) (by decide) ?_
      obtain ⟨_, b47, hf⟩ := Option.bind_eq_some_iff.mp hf
      refine x_ctV hf (e_stV (Yc := YX3_set) (ci := 2) (av := [.int p0, .int (0 : Int32)]) (st := []) dX3_actPrimitive_296 q3904 mX3_set rfl (k_ok_some b47).1 (k_ok_some b47).2) mX3_set.2.2.1 mX3_set.2.2.2.2.1 (Nat.le_of_ble_eq_true rfl) (Nat.le_of_ble_eq_true rfl) rfl (fun q hq => pX3_set (by omega) hdr hrE hrN hq) (fun x48 h49 hf => ?_)
      refine w_goto 307 dX3_actPrimitive_299 (by decide) ?_
      exact (pX3_actPrimitive_b307 hd hdr hrE hrN hf).to trivial
  replace hf := (if_neg c42).symm.trans hf
  by_cases c50 : p0 = (30 : Int32)
  · replace hf := (if_pos c50).symm.trans hf
    refine w_tableIn 287 dX3_actPrimitive_1 (by rw [c50]; decide) (by rw [c50]; decide) (by rw [c50]; rfl) (by decide) ?_
    refine w_iload_n dX3_actPrimitive_287 rfl rfl ?_
    refine w_bipush dX3_actPrimitive_288 (v := 54) (by decide) ?_
    refine w_icmp_lt 302 dX3_actPrimitive_290 (by decide) (fun c51 => ?_) (fun c51 => ?_)
    · replace hf := (if_pos (show p0 < (54 : Int32) from c51)).symm.trans hf
      refine w_aload_n dX3_actPrimitive_302 rfl rfl ?_
      refine w_iload_n dX3_actPrimitive_303 rfl rfl ?_
      obtain ⟨_, b52, hf⟩ := Option.bind_eq_some_iff.mp hf
      refine x_ctV hf (e_stV (Yc := YX3_actItem) (ci := 2) (av := [.int p0]) (st := []) dX3_actPrimitive_304 q4033 mX3_actItem rfl (k_ok_some b52).1 (k_ok_some b52).2) mX3_actItem.2.2.1 mX3_actItem.2.2.2.2.1 (Nat.le_of_ble_eq_true rfl) (Nat.le_of_ble_eq_true rfl) rfl (fun q hq => pX3_actItem (by omega) hdr hrE hrN hq) (fun x53 h54 hf => ?_)
      exact (pX3_actPrimitive_b307 hd hdr hrE hrN hf).to trivial
    · replace hf := (if_neg (show ¬ (p0 < (54 : Int32)) from c51)).symm.trans hf
      refine w_aload_n dX3_actPrimitive_293 rfl rfl ?_
      refine w_iload_n dX3_actPrimitive_294 rfl rfl ?_
      refine w_iconst dX3_actPrimitive_295 (v := 0) (by decide) ?_
      obtain ⟨_, b55, hf⟩ := Option.bind_eq_some_iff.mp hf
      refine x_ctV hf (e_stV (Yc := YX3_set) (ci := 2) (av := [.int p0, .int (0 : Int32)]) (st := []) dX3_actPrimitive_296 q3904 mX3_set rfl (k_ok_some b55).1 (k_ok_some b55).2) mX3_set.2.2.1 mX3_set.2.2.2.2.1 (Nat.le_of_ble_eq_true rfl) (Nat.le_of_ble_eq_true rfl) rfl (fun q hq => pX3_set (by omega) hdr hrE hrN hq) (fun x56 h57 hf => ?_)
      refine w_goto 307 dX3_actPrimitive_299 (by decide) ?_
      exact (pX3_actPrimitive_b307 hd hdr hrE hrN hf).to trivial
  replace hf := (if_neg c50).symm.trans hf
  by_cases c58 : p0 = (31 : Int32)
  · replace hf := (if_pos c58).symm.trans hf
    refine w_tableIn 287 dX3_actPrimitive_1 (by rw [c58]; decide) (by rw [c58]; decide) (by rw [c58]; rfl) (by decide) ?_
    refine w_iload_n dX3_actPrimitive_287 rfl rfl ?_
    refine w_bipush dX3_actPrimitive_288 (v := 54) (by decide) ?_
    refine w_icmp_lt 302 dX3_actPrimitive_290 (by decide) (fun c59 => ?_) (fun c59 => ?_)
    · replace hf := (if_pos (show p0 < (54 : Int32) from c59)).symm.trans hf
      refine w_aload_n dX3_actPrimitive_302 rfl rfl ?_
      refine w_iload_n dX3_actPrimitive_303 rfl rfl ?_
      obtain ⟨_, b60, hf⟩ := Option.bind_eq_some_iff.mp hf
      refine x_ctV hf (e_stV (Yc := YX3_actItem) (ci := 2) (av := [.int p0]) (st := []) dX3_actPrimitive_304 q4033 mX3_actItem rfl (k_ok_some b60).1 (k_ok_some b60).2) mX3_actItem.2.2.1 mX3_actItem.2.2.2.2.1 (Nat.le_of_ble_eq_true rfl) (Nat.le_of_ble_eq_true rfl) rfl (fun q hq => pX3_actItem (by omega) hdr hrE hrN hq) (fun x61 h62 hf => ?_)
      exact (pX3_actPrimitive_b307 hd hdr hrE hrN hf).to trivial
    · replace hf := (if_neg (show ¬ (p0 < (54 : Int32)) from c59)).symm.trans hf
      refine w_aload_n dX3_actPrimitive_293 rfl rfl ?_
      refine w_iload_n dX3_actPrimitive_294 rfl rfl ?_
      refine w_iconst dX3_actPrimitive_295 (v := 0) (by decide) ?_
      obtain ⟨_, b63, hf⟩ := Option.bind_eq_some_iff.mp hf
      refine x_ctV hf (e_stV (Yc := YX3_set) (ci := 2) (av := [.int p0, .int (0 : Int32)]) (st := []) dX3_actPrimitive_296 q3904 mX3_set rfl (k_ok_some b63).1 (k_ok_some b63).2) mX3_set.2.2.1 mX3_set.2.2.2.2.1 (Nat.le_of_ble_eq_true rfl) (Nat.le_of_ble_eq_true rfl) rfl (fun q hq => pX3_set (by omega) hdr hrE hrN hq) (fun x64 h65 hf => ?_)
      refine w_goto 307 dX3_actPrimitive_299 (by decide) ?_
      exact (pX3_actPrimitive_b307 hd hdr hrE hrN hf).to trivial
  replace hf := (if_neg c58).symm.trans hf
  by_cases c66 : p0 = (32 : Int32)
  · replace hf := (if_pos c66).symm.trans hf
    refine w_tableIn 287 dX3_actPrimitive_1 (by rw [c66]; decide) (by rw [c66]; decide) (by rw [c66]; rfl) (by decide) ?_
    refine w_iload_n dX3_actPrimitive_287 rfl rfl ?_
    refine w_bipush dX3_actPrimitive_288 (v := 54) (by decide) ?_
    refine w_icmp_lt 302 dX3_actPrimitive_290 (by decide) (fun c67 => ?_) (fun c67 => ?_)
    · replace hf := (if_pos (show p0 < (54 : Int32) from c67)).symm.trans hf
      refine w_aload_n dX3_actPrimitive_302 rfl rfl ?_
      refine w_iload_n dX3_actPrimitive_303 rfl rfl ?_
      obtain ⟨_, b68, hf⟩ := Option.bind_eq_some_iff.mp hf
      refine x_ctV hf (e_stV (Yc := YX3_actItem) (ci := 2) (av := [.int p0]) (st := []) dX3_actPrimitive_304 q4033 mX3_actItem rfl (k_ok_some b68).1 (k_ok_some b68).2) mX3_actItem.2.2.1 mX3_actItem.2.2.2.2.1 (Nat.le_of_ble_eq_true rfl) (Nat.le_of_ble_eq_true rfl) rfl (fun q hq => pX3_actItem (by omega) hdr hrE hrN hq) (fun x69 h70 hf => ?_)
      exact (pX3_actPrimitive_b307 hd hdr hrE hrN hf).to trivial
    · replace hf := (if_neg (show ¬ (p0 < (54 : Int32)) from c67)).symm.trans hf
      refine w_aload_n dX3_actPrimitive_293 rfl rfl ?_
      refine w_iload_n dX3_actPrimitive_294 rfl rfl ?_
      refine w_iconst dX3_actPrimitive_295 (v := 0) (by decide) ?_
      obtain ⟨_, b71, hf⟩ := Option.bind_eq_some_iff.mp hf
      refine x_ctV hf (e_stV (Yc := YX3_set) (ci := 2) (av := [.int p0, .int (0 : Int32)]) (st := []) dX3_actPrimitive_296 q3904 mX3_set rfl (k_ok_some b71).1 (k_ok_some b71).2) mX3_set.2.2.1 mX3_set.2.2.2.2.1 (Nat.le_of_ble_eq_true rfl) (Nat.le_of_ble_eq_true rfl) rfl (fun q hq => pX3_set (by omega) hdr hrE hrN hq) (fun x72 h73 hf => ?_)
      refine w_goto 307 dX3_actPrimitive_299 (by decide) ?_
      exact (pX3_actPrimitive_b307 hd hdr hrE hrN hf).to trivial
  replace hf := (if_neg c66).symm.trans hf
  by_cases c74 : p0 = (33 : Int32)
  · replace hf := (if_pos c74).symm.trans hf
    refine w_tableIn 287 dX3_actPrimitive_1 (by rw [c74]; decide) (by rw [c74]; decide) (by rw [c74]; rfl) (by decide) ?_
    refine w_iload_n dX3_actPrimitive_287 rfl rfl ?_
    refine w_bipush dX3_actPrimitive_288 (v := 54) (by decide) ?_
    refine w_icmp_lt 302 dX3_actPrimitive_290 (by decide) (fun c75 => ?_) (fun c75 => ?_)
    · replace hf := (if_pos (show p0 < (54 : Int32) from c75)).symm.trans hf
      refine w_aload_n dX3_actPrimitive_302 rfl rfl ?_
      refine w_iload_n dX3_actPrimitive_303 rfl rfl ?_
      obtain ⟨_, b76, hf⟩ := Option.bind_eq_some_iff.mp hf
      refine x_ctV hf (e_stV (Yc := YX3_actItem) (ci := 2) (av := [.int p0]) (st := []) dX3_actPrimitive_304 q4033 mX3_actItem rfl (k_ok_some b76).1 (k_ok_some b76).2) mX3_actItem.2.2.1 mX3_actItem.2.2.2.2.1 (Nat.le_of_ble_eq_true rfl) (Nat.le_of_ble_eq_true rfl) rfl (fun q hq => pX3_actItem (by omega) hdr hrE hrN hq) (fun x77 h78 hf => ?_)
      exact (pX3_actPrimitive_b307 hd hdr hrE hrN hf).to trivial
    · replace hf := (if_neg (show ¬ (p0 < (54 : Int32)) from c75)).symm.trans hf
      refine w_aload_n dX3_actPrimitive_293 rfl rfl ?_
      refine w_iload_n dX3_actPrimitive_294 rfl rfl ?_
      refine w_iconst dX3_actPrimitive_295 (v := 0) (by decide) ?_
      obtain ⟨_, b79, hf⟩ := Option.bind_eq_some_iff.mp hf
      refine x_ctV hf (e_stV (Yc := YX3_set) (ci := 2) (av := [.int p0, .int (0 : Int32)]) (st := []) dX3_actPrimitive_296 q3904 mX3_set rfl (k_ok_some b79).1 (k_ok_some b79).2) mX3_set.2.2.1 mX3_set.2.2.2.2.1 (Nat.le_of_ble_eq_true rfl) (Nat.le_of_ble_eq_true rfl) rfl (fun q hq => pX3_set (by omega) hdr hrE hrN hq) (fun x80 h81 hf => ?_)
      refine w_goto 307 dX3_actPrimitive_299 (by decide) ?_
      exact (pX3_actPrimitive_b307 hd hdr hrE hrN hf).to trivial
  replace hf := (if_neg c74).symm.trans hf
  by_cases c82 : p0 = (34 : Int32)
  · replace hf := (if_pos c82).symm.trans hf
    refine w_tableIn 287 dX3_actPrimitive_1 (by rw [c82]; decide) (by rw [c82]; decide) (by rw [c82]; rfl) (by decide) ?_
    refine w_iload_n dX3_actPrimitive_287 rfl rfl ?_
    refine w_bipush dX3_actPrimitive_288 (v := 54) (by decide) ?_
    refine w_icmp_lt 302 dX3_actPrimitive_290 (by decide) (fun c83 => ?_) (fun c83 => ?_)
    · replace hf := (if_pos (show p0 < (54 : Int32) from c83)).symm.trans hf
      refine w_aload_n dX3_actPrimitive_302 rfl rfl ?_
      refine w_iload_n dX3_actPrimitive_303 rfl rfl ?_
      obtain ⟨_, b84, hf⟩ := Option.bind_eq_some_iff.mp hf
      refine x_ctV hf (e_stV (Yc := YX3_actItem) (ci := 2) (av := [.int p0]) (st := []) dX3_actPrimitive_304 q4033 mX3_actItem rfl (k_ok_some b84).1 (k_ok_some b84).2) mX3_actItem.2.2.1 mX3_actItem.2.2.2.2.1 (Nat.le_of_ble_eq_true rfl) (Nat.le_of_ble_eq_true rfl) rfl (fun q hq => pX3_actItem (by omega) hdr hrE hrN hq) (fun x85 h86 hf => ?_)
      exact (pX3_actPrimitive_b307 hd hdr hrE hrN hf).to trivial
    · replace hf := (if_neg (show ¬ (p0 < (54 : Int32)) from c83)).symm.trans hf
      refine w_aload_n dX3_actPrimitive_293 rfl rfl ?_
      refine w_iload_n dX3_actPrimitive_294 rfl rfl ?_
      refine w_iconst dX3_actPrimitive_295 (v := 0) (by decide) ?_
      obtain ⟨_, b87, hf⟩ := Option.bind_eq_some_iff.mp hf
      refine x_ctV hf (e_stV (Yc := YX3_set) (ci := 2) (av := [.int p0, .int (0 : Int32)]) (st := []) dX3_actPrimitive_296 q3904 mX3_set rfl (k_ok_some b87).1 (k_ok_some b87).2) mX3_set.2.2.1 mX3_set.2.2.2.2.1 (Nat.le_of_ble_eq_true rfl) (Nat.le_of_ble_eq_true rfl) rfl (fun q hq => pX3_set (by omega) hdr hrE hrN hq) (fun x88 h89 hf => ?_)
      refine w_goto 307 dX3_actPrimitive_299 (by decide) ?_
      exact (pX3_actPrimitive_b307 hd hdr hrE hrN hf).to trivial
  replace hf := (if_neg c82).symm.trans hf
  by_cases c90 : p0 = (35 : Int32)
  · replace hf := (if_pos c90).symm.trans hf
    refine w_tableIn 287 dX3_actPrimitive_1 (by rw [c90]; decide) (by rw [c90]; decide) (by rw [c90]; rfl) (by decide) ?_
    refine w_iload_n dX3_actPrimitive_287 rfl rfl ?_
    refine w_bipush dX3_actPrimitive_288 (v := 54) (by decide) ?_
    refine w_icmp_lt 302 dX3_actPrimitive_290 (by decide) (fun c91 => ?_) (fun c91 => ?_)
    · replace hf := (if_pos (show p0 < (54 : Int32) from c91)).symm.trans hf
      refine w_aload_n dX3_actPrimitive_302 rfl rfl ?_
      refine w_iload_n dX3_actPrimitive_303 rfl rfl ?_
      obtain ⟨_, b92, hf⟩ := Option.bind_eq_some_iff.mp hf
      refine x_ctV hf (e_stV (Yc := YX3_actItem) (ci := 2) (av := [.int p0]) (st := []) dX3_actPrimitive_304 q4033 mX3_actItem rfl (k_ok_some b92).1 (k_ok_some b92).2) mX3_actItem.2.2.1 mX3_actItem.2.2.2.2.1 (Nat.le_of_ble_eq_true rfl) (Nat.le_of_ble_eq_true rfl) rfl (fun q hq => pX3_actItem (by omega) hdr hrE hrN hq) (fun x93 h94 hf => ?_)
      exact (pX3_actPrimitive_b307 hd hdr hrE hrN hf).to trivial
    · replace hf := (if_neg (show ¬ (p0 < (54 : Int32)) from c91)).symm.trans hf
      refine w_aload_n dX3_actPrimitive_293 rfl rfl ?_
      refine w_iload_n dX3_actPrimitive_294 rfl rfl ?_
      refine w_iconst dX3_actPrimitive_295 (v := 0) (by decide) ?_
      obtain ⟨_, b95, hf⟩ := Option.bind_eq_some_iff.mp hf
      refine x_ctV hf (e_stV (Yc := YX3_set) (ci := 2) (av := [.int p0, .int (0 : Int32)]) (st := []) dX3_actPrimitive_296 q3904 mX3_set rfl (k_ok_some b95).1 (k_ok_some b95).2) mX3_set.2.2.1 mX3_set.2.2.2.2.1 (Nat.le_of_ble_eq_true rfl) (Nat.le_of_ble_eq_true rfl) rfl (fun q hq => pX3_set (by omega) hdr hrE hrN hq) (fun x96 h97 hf => ?_)
      refine w_goto 307 dX3_actPrimitive_299 (by decide) ?_
      exact (pX3_actPrimitive_b307 hd hdr hrE hrN hf).to trivial
  replace hf := (if_neg c90).symm.trans hf
  by_cases c98 : p0 = (36 : Int32)
  · replace hf := (if_pos c98).symm.trans hf
    refine w_tableIn 287 dX3_actPrimitive_1 (by rw [c98]; decide) (by rw [c98]; decide) (by rw [c98]; rfl) (by decide) ?_
    refine w_iload_n dX3_actPrimitive_287 rfl rfl ?_
    refine w_bipush dX3_actPrimitive_288 (v := 54) (by decide) ?_
    refine w_icmp_lt 302 dX3_actPrimitive_290 (by decide) (fun c99 => ?_) (fun c99 => ?_)
    · replace hf := (if_pos (show p0 < (54 : Int32) from c99)).symm.trans hf
      refine w_aload_n dX3_actPrimitive_302 rfl rfl ?_
      refine w_iload_n dX3_actPrimitive_303 rfl rfl ?_
      obtain ⟨_, b100, hf⟩ := Option.bind_eq_some_iff.mp hf
      refine x_ctV hf (e_stV (Yc := YX3_actItem) (ci := 2) (av := [.int p0]) (st := []) dX3_actPrimitive_304 q4033 mX3_actItem rfl (k_ok_some b100).1 (k_ok_some b100).2) mX3_actItem.2.2.1 mX3_actItem.2.2.2.2.1 (Nat.le_of_ble_eq_true rfl) (Nat.le_of_ble_eq_true rfl) rfl (fun q hq => pX3_actItem (by omega) hdr hrE hrN hq) (fun x101 h102 hf => ?_)
      exact (pX3_actPrimitive_b307 hd hdr hrE hrN hf).to trivial
    · replace hf := (if_neg (show ¬ (p0 < (54 : Int32)) from c99)).symm.trans hf
      refine w_aload_n dX3_actPrimitive_293 rfl rfl ?_
      refine w_iload_n dX3_actPrimitive_294 rfl rfl ?_
      refine w_iconst dX3_actPrimitive_295 (v := 0) (by decide) ?_
      obtain ⟨_, b103, hf⟩ := Option.bind_eq_some_iff.mp hf
      refine x_ctV hf (e_stV (Yc := YX3_set) (ci := 2) (av := [.int p0, .int (0 : Int32)]) (st := []) dX3_actPrimitive_296 q3904 mX3_set rfl (k_ok_some b103).1 (k_ok_some b103).2) mX3_set.2.2.1 mX3_set.2.2.2.2.1 (Nat.le_of_ble_eq_true rfl) (Nat.le_of_ble_eq_true rfl) rfl (fun q hq => pX3_set (by omega) hdr hrE hrN hq) (fun x104 h105 hf => ?_)
      refine w_goto 307 dX3_actPrimitive_299 (by decide) ?_
      exact (pX3_actPrimitive_b307 hd hdr hrE hrN hf).to trivial
  replace hf := (if_neg c98).symm.trans hf
  by_cases c106 : p0 = (37 : Int32)
  · replace hf := (if_pos c106).symm.trans hf
    refine w_tableIn 287 dX3_actPrimitive_1 (by rw [c106]; decide) (by rw [c106]; decide) (by rw [c106]; rfl) (by decide) ?_
    refine w_iload_n dX3_actPrimitive_287 rfl rfl ?_
    refine w_bipush dX3_actPrimitive_288 (v := 54) (by decide) ?_
    refine w_icmp_lt 302 dX3_actPrimitive_290 (by decide) (fun c107 => ?_) (fun c107 => ?_)
    · replace hf := (if_pos (show p0 < (54 : Int32) from c107)).symm.trans hf
      refine w_aload_n dX3_actPrimitive_302 rfl rfl ?_
      refine w_iload_n dX3_actPrimitive_303 rfl rfl ?_
      obtain ⟨_, b108, hf⟩ := Option.bind_eq_some_iff.mp hf
      refine x_ctV hf (e_stV (Yc := YX3_actItem) (ci := 2) (av := [.int p0]) (st := []) dX3_actPrimitive_304 q4033 mX3_actItem rfl (k_ok_some b108).1 (k_ok_some b108).2) mX3_actItem.2.2.1 mX3_actItem.2.2.2.2.1 (Nat.le_of_ble_eq_true rfl) (Nat.le_of_ble_eq_true rfl) rfl (fun q hq => pX3_actItem (by omega) hdr hrE hrN hq) (fun x109 h110 hf => ?_)
      exact (pX3_actPrimitive_b307 hd hdr hrE hrN hf).to trivial
    · replace hf := (if_neg (show ¬ (p0 < (54 : Int32)) from c107)).symm.trans hf
      refine w_aload_n dX3_actPrimitive_293 rfl rfl ?_
      refine w_iload_n dX3_actPrimitive_294 rfl rfl ?_
      refine w_iconst dX3_actPrimitive_295 (v := 0) (by decide) ?_
      obtain ⟨_, b111, hf⟩ := Option.bind_eq_some_iff.mp hf
      refine x_ctV hf (e_stV (Yc := YX3_set) (ci := 2) (av := [.int p0, .int (0 : Int32)]) (st := []) dX3_actPrimitive_296 q3904 mX3_set rfl (k_ok_some b111).1 (k_ok_some b111).2) mX3_set.2.2.1 mX3_set.2.2.2.2.1 (Nat.le_of_ble_eq_true rfl) (Nat.le_of_ble_eq_true rfl) rfl (fun q hq => pX3_set (by omega) hdr hrE hrN hq) (fun x112 h113 hf => ?_)
      refine w_goto 307 dX3_actPrimitive_299 (by decide) ?_
      exact (pX3_actPrimitive_b307 hd hdr hrE hrN hf).to trivial
  replace hf := (if_neg c106).symm.trans hf
  by_cases c114 : p0 = (38 : Int32)
  · replace hf := (if_pos c114).symm.trans hf
    refine w_tableIn 287 dX3_actPrimitive_1 (by rw [c114]; decide) (by rw [c114]; decide) (by rw [c114]; rfl) (by decide) ?_
    refine w_iload_n dX3_actPrimitive_287 rfl rfl ?_
    refine w_bipush dX3_actPrimitive_288 (v := 54) (by decide) ?_
    refine w_icmp_lt 302 dX3_actPrimitive_290 (by decide) (fun c115 => ?_) (fun c115 => ?_)
    · replace hf := (if_pos (show p0 < (54 : Int32) from c115)).symm.trans hf
      refine w_aload_n dX3_actPrimitive_302 rfl rfl ?_
      refine w_iload_n dX3_actPrimitive_303 rfl rfl ?_
      obtain ⟨_, b116, hf⟩ := Option.bind_eq_some_iff.mp hf
      refine x_ctV hf (e_stV (Yc := YX3_actItem) (ci := 2) (av := [.int p0]) (st := []) dX3_actPrimitive_304 q4033 mX3_actItem rfl (k_ok_some b116).1 (k_ok_some b116).2) mX3_actItem.2.2.1 mX3_actItem.2.2.2.2.1 (Nat.le_of_ble_eq_true rfl) (Nat.le_of_ble_eq_true rfl) rfl (fun q hq => pX3_actItem (by omega) hdr hrE hrN hq) (fun x117 h118 hf => ?_)
      exact (pX3_actPrimitive_b307 hd hdr hrE hrN hf).to trivial
    · replace hf := (if_neg (show ¬ (p0 < (54 : Int32)) from c115)).symm.trans hf
      refine w_aload_n dX3_actPrimitive_293 rfl rfl ?_
      refine w_iload_n dX3_actPrimitive_294 rfl rfl ?_
      refine w_iconst dX3_actPrimitive_295 (v := 0) (by decide) ?_
      obtain ⟨_, b119, hf⟩ := Option.bind_eq_some_iff.mp hf
      refine x_ctV hf (e_stV (Yc := YX3_set) (ci := 2) (av := [.int p0, .int (0 : Int32)]) (st := []) dX3_actPrimitive_296 q3904 mX3_set rfl (k_ok_some b119).1 (k_ok_some b119).2) mX3_set.2.2.1 mX3_set.2.2.2.2.1 (Nat.le_of_ble_eq_true rfl) (Nat.le_of_ble_eq_true rfl) rfl (fun q hq => pX3_set (by omega) hdr hrE hrN hq) (fun x120 h121 hf => ?_)
      refine w_goto 307 dX3_actPrimitive_299 (by decide) ?_
      exact (pX3_actPrimitive_b307 hd hdr hrE hrN hf).to trivial
  replace hf := (if_neg c114).symm.trans hf
  by_cases c122 : p0 = (39 : Int32)
  · replace hf := (if_pos c122).symm.trans hf
    refine w_tableIn 287 dX3_actPrimitive_1 (by rw [c122]; decide) (by rw [c122]; decide) (by rw [c122]; rfl) (by decide) ?_
    refine w_iload_n dX3_actPrimitive_287 rfl rfl ?_
    refine w_bipush dX3_actPrimitive_288 (v := 54) (by decide) ?_
    refine w_icmp_lt 302 dX3_actPrimitive_290 (by decide) (fun c123 => ?_) (fun c123 => ?_)
    · replace hf := (if_pos (show p0 < (54 : Int32) from c123)).symm.trans hf
      refine w_aload_n dX3_actPrimitive_302 rfl rfl ?_
      refine w_iload_n dX3_actPrimitive_303 rfl rfl ?_
      obtain ⟨_, b124, hf⟩ := Option.bind_eq_some_iff.mp hf
      refine x_ctV hf (e_stV (Yc := YX3_actItem) (ci := 2) (av := [.int p0]) (st := []) dX3_actPrimitive_304 q4033 mX3_actItem rfl (k_ok_some b124).1 (k_ok_some b124).2) mX3_actItem.2.2.1 mX3_actItem.2.2.2.2.1 (Nat.le_of_ble_eq_true rfl) (Nat.le_of_ble_eq_true rfl) rfl (fun q hq => pX3_actItem (by omega) hdr hrE hrN hq) (fun x125 h126 hf => ?_)
      exact (pX3_actPrimitive_b307 hd hdr hrE hrN hf).to trivial
    · replace hf := (if_neg (show ¬ (p0 < (54 : Int32)) from c123)).symm.trans hf
      refine w_aload_n dX3_actPrimitive_293 rfl rfl ?_
      refine w_iload_n dX3_actPrimitive_294 rfl rfl ?_
      refine w_iconst dX3_actPrimitive_295 (v := 0) (by decide) ?_
      obtain ⟨_, b127, hf⟩ := Option.bind_eq_some_iff.mp hf
      refine x_ctV hf (e_stV (Yc := YX3_set) (ci := 2) (av := [.int p0, .int (0 : Int32)]) (st := []) dX3_actPrimitive_296 q3904 mX3_set rfl (k_ok_some b127).1 (k_ok_some b127).2) mX3_set.2.2.1 mX3_set.2.2.2.2.1 (Nat.le_of_ble_eq_true rfl) (Nat.le_of_ble_eq_true rfl) rfl (fun q hq => pX3_set (by omega) hdr hrE hrN hq) (fun x128 h129 hf => ?_)
      refine w_goto 307 dX3_actPrimitive_299 (by decide) ?_
      exact (pX3_actPrimitive_b307 hd hdr hrE hrN hf).to trivial
  replace hf := (if_neg c122).symm.trans hf
  by_cases c130 : p0 = (40 : Int32)
  · replace hf := (if_pos c130).symm.trans hf
    refine w_tableIn 287 dX3_actPrimitive_1 (by rw [c130]; decide) (by rw [c130]; decide) (by rw [c130]; rfl) (by decide) ?_
    refine w_iload_n dX3_actPrimitive_287 rfl rfl ?_
    refine w_bipush dX3_actPrimitive_288 (v := 54) (by decide) ?_
    refine w_icmp_lt 302 dX3_actPrimitive_290 (by decide) (fun c131 => ?_) (fun c131 => ?_)
    · replace hf := (if_pos (show p0 < (54 : Int32) from c131)).symm.trans hf
      refine w_aload_n dX3_actPrimitive_302 rfl rfl ?_
      refine w_iload_n dX3_actPrimitive_303 rfl rfl ?_
      obtain ⟨_, b132, hf⟩ := Option.bind_eq_some_iff.mp hf
      refine x_ctV hf (e_stV (Yc := YX3_actItem) (ci := 2) (av := [.int p0]) (st := []) dX3_actPrimitive_304 q4033 mX3_actItem rfl (k_ok_some b132).1 (k_ok_some b132).2) mX3_actItem.2.2.1 mX3_actItem.2.2.2.2.1 (Nat.le_of_ble_eq_true rfl) (Nat.le_of_ble_eq_true rfl) rfl (fun q hq => pX3_actItem (by omega) hdr hrE hrN hq) (fun x133 h134 hf => ?_)
      exact (pX3_actPrimitive_b307 hd hdr hrE hrN hf).to trivial
    · replace hf := (if_neg (show ¬ (p0 < (54 : Int32)) from c131)).symm.trans hf
      refine w_aload_n dX3_actPrimitive_293 rfl rfl ?_
      refine w_iload_n dX3_actPrimitive_294 rfl rfl ?_
      refine w_iconst dX3_actPrimitive_295 (v := 0) (by decide) ?_
      obtain ⟨_, b135, hf⟩ := Option.bind_eq_some_iff.mp hf
      refine x_ctV hf (e_stV (Yc := YX3_set) (ci := 2) (av := [.int p0, .int (0 : Int32)]) (st := []) dX3_actPrimitive_296 q3904 mX3_set rfl (k_ok_some b135).1 (k_ok_some b135).2) mX3_set.2.2.1 mX3_set.2.2.2.2.1 (Nat.le_of_ble_eq_true rfl) (Nat.le_of_ble_eq_true rfl) rfl (fun q hq => pX3_set (by omega) hdr hrE hrN hq) (fun x136 h137 hf => ?_)
      refine w_goto 307 dX3_actPrimitive_299 (by decide) ?_
      exact (pX3_actPrimitive_b307 hd hdr hrE hrN hf).to trivial
  replace hf := (if_neg c130).symm.trans hf
  by_cases c138 : p0 = (41 : Int32)
  · replace hf := (if_pos c138).symm.trans hf
    refine w_tableIn 287 dX3_actPrimitive_1 (by rw [c138]; decide) (by rw [c138]; decide) (by rw [c138]; rfl) (by decide) ?_
    refine w_iload_n dX3_actPrimitive_287 rfl rfl ?_
    refine w_bipush dX3_actPrimitive_288 (v := 54) (by decide) ?_
    refine w_icmp_lt 302 dX3_actPrimitive_290 (by decide) (fun c139 => ?_) (fun c139 => ?_)
    · replace hf := (if_pos (show p0 < (54 : Int32) from c139)).symm.trans hf
      refine w_aload_n dX3_actPrimitive_302 rfl rfl ?_
      refine w_iload_n dX3_actPrimitive_303 rfl rfl ?_
      obtain ⟨_, b140, hf⟩ := Option.bind_eq_some_iff.mp hf
      refine x_ctV hf (e_stV (Yc := YX3_actItem) (ci := 2) (av := [.int p0]) (st := []) dX3_actPrimitive_304 q4033 mX3_actItem rfl (k_ok_some b140).1 (k_ok_some b140).2) mX3_actItem.2.2.1 mX3_actItem.2.2.2.2.1 (Nat.le_of_ble_eq_true rfl) (Nat.le_of_ble_eq_true rfl) rfl (fun q hq => pX3_actItem (by omega) hdr hrE hrN hq) (fun x141 h142 hf => ?_)
      exact (pX3_actPrimitive_b307 hd hdr hrE hrN hf).to trivial
    · replace hf := (if_neg (show ¬ (p0 < (54 : Int32)) from c139)).symm.trans hf
      refine w_aload_n dX3_actPrimitive_293 rfl rfl ?_
      refine w_iload_n dX3_actPrimitive_294 rfl rfl ?_
      refine w_iconst dX3_actPrimitive_295 (v := 0) (by decide) ?_
      obtain ⟨_, b143, hf⟩ := Option.bind_eq_some_iff.mp hf
      refine x_ctV hf (e_stV (Yc := YX3_set) (ci := 2) (av := [.int p0, .int (0 : Int32)]) (st := []) dX3_actPrimitive_296 q3904 mX3_set rfl (k_ok_some b143).1 (k_ok_some b143).2) mX3_set.2.2.1 mX3_set.2.2.2.2.1 (Nat.le_of_ble_eq_true rfl) (Nat.le_of_ble_eq_true rfl) rfl (fun q hq => pX3_set (by omega) hdr hrE hrN hq) (fun x144 h145 hf => ?_)
      refine w_goto 307 dX3_actPrimitive_299 (by decide) ?_
      exact (pX3_actPrimitive_b307 hd hdr hrE hrN hf).to trivial
  replace hf := (if_neg c138).symm.trans hf
  by_cases c146 : p0 = (42 : Int32)
  · replace hf := (if_pos c146).symm.trans hf
    refine w_tableIn 287 dX3_actPrimitive_1 (by rw [c146]; decide) (by rw [c146]; decide) (by rw [c146]; rfl) (by decide) ?_
    refine w_iload_n dX3_actPrimitive_287 rfl rfl ?_
    refine w_bipush dX3_actPrimitive_288 (v := 54) (by decide) ?_
    refine w_icmp_lt 302 dX3_actPrimitive_290 (by decide) (fun c147 => ?_) (fun c147 => ?_)
    · replace hf := (if_pos (show p0 < (54 : Int32) from c147)).symm.trans hf
      refine w_aload_n dX3_actPrimitive_302 rfl rfl ?_
      refine w_iload_n dX3_actPrimitive_303 rfl rfl ?_
      obtain ⟨_, b148, hf⟩ := Option.bind_eq_some_iff.mp hf
      refine x_ctV hf (e_stV (Yc := YX3_actItem) (ci := 2) (av := [.int p0]) (st := []) dX3_actPrimitive_304 q4033 mX3_actItem rfl (k_ok_some b148).1 (k_ok_some b148).2) mX3_actItem.2.2.1 mX3_actItem.2.2.2.2.1 (Nat.le_of_ble_eq_true rfl) (Nat.le_of_ble_eq_true rfl) rfl (fun q hq => pX3_actItem (by omega) hdr hrE hrN hq) (fun x149 h150 hf => ?_)
      exact (pX3_actPrimitive_b307 hd hdr hrE hrN hf).to trivial
    · replace hf := (if_neg (show ¬ (p0 < (54 : Int32)) from c147)).symm.trans hf
      refine w_aload_n dX3_actPrimitive_293 rfl rfl ?_
      refine w_iload_n dX3_actPrimitive_294 rfl rfl ?_
      refine w_iconst dX3_actPrimitive_295 (v := 0) (by decide) ?_
      obtain ⟨_, b151, hf⟩ := Option.bind_eq_some_iff.mp hf
      refine x_ctV hf (e_stV (Yc := YX3_set) (ci := 2) (av := [.int p0, .int (0 : Int32)]) (st := []) dX3_actPrimitive_296 q3904 mX3_set rfl (k_ok_some b151).1 (k_ok_some b151).2) mX3_set.2.2.1 mX3_set.2.2.2.2.1 (Nat.le_of_ble_eq_true rfl) (Nat.le_of_ble_eq_true rfl) rfl (fun q hq => pX3_set (by omega) hdr hrE hrN hq) (fun x152 h153 hf => ?_)
      refine w_goto 307 dX3_actPrimitive_299 (by decide) ?_
      exact (pX3_actPrimitive_b307 hd hdr hrE hrN hf).to trivial
  replace hf := (if_neg c146).symm.trans hf
  by_cases c154 : p0 = (43 : Int32)
  · replace hf := (if_pos c154).symm.trans hf
    refine w_tableIn 287 dX3_actPrimitive_1 (by rw [c154]; decide) (by rw [c154]; decide) (by rw [c154]; rfl) (by decide) ?_
    refine w_iload_n dX3_actPrimitive_287 rfl rfl ?_
    refine w_bipush dX3_actPrimitive_288 (v := 54) (by decide) ?_
    refine w_icmp_lt 302 dX3_actPrimitive_290 (by decide) (fun c155 => ?_) (fun c155 => ?_)
    · replace hf := (if_pos (show p0 < (54 : Int32) from c155)).symm.trans hf
      refine w_aload_n dX3_actPrimitive_302 rfl rfl ?_
      refine w_iload_n dX3_actPrimitive_303 rfl rfl ?_
      obtain ⟨_, b156, hf⟩ := Option.bind_eq_some_iff.mp hf
      refine x_ctV hf (e_stV (Yc := YX3_actItem) (ci := 2) (av := [.int p0]) (st := []) dX3_actPrimitive_304 q4033 mX3_actItem rfl (k_ok_some b156).1 (k_ok_some b156).2) mX3_actItem.2.2.1 mX3_actItem.2.2.2.2.1 (Nat.le_of_ble_eq_true rfl) (Nat.le_of_ble_eq_true rfl) rfl (fun q hq => pX3_actItem (by omega) hdr hrE hrN hq) (fun x157 h158 hf => ?_)
      exact (pX3_actPrimitive_b307 hd hdr hrE hrN hf).to trivial
    · replace hf := (if_neg (show ¬ (p0 < (54 : Int32)) from c155)).symm.trans hf
      refine w_aload_n dX3_actPrimitive_293 rfl rfl ?_
      refine w_iload_n dX3_actPrimitive_294 rfl rfl ?_
      refine w_iconst dX3_actPrimitive_295 (v := 0) (by decide) ?_
      obtain ⟨_, b159, hf⟩ := Option.bind_eq_some_iff.mp hf
      refine x_ctV hf (e_stV (Yc := YX3_set) (ci := 2) (av := [.int p0, .int (0 : Int32)]) (st := []) dX3_actPrimitive_296 q3904 mX3_set rfl (k_ok_some b159).1 (k_ok_some b159).2) mX3_set.2.2.1 mX3_set.2.2.2.2.1 (Nat.le_of_ble_eq_true rfl) (Nat.le_of_ble_eq_true rfl) rfl (fun q hq => pX3_set (by omega) hdr hrE hrN hq) (fun x160 h161 hf => ?_)
      refine w_goto 307 dX3_actPrimitive_299 (by decide) ?_
      exact (pX3_actPrimitive_b307 hd hdr hrE hrN hf).to trivial
  replace hf := (if_neg c154).symm.trans hf
  by_cases c162 : p0 = (44 : Int32)
  · replace hf := (if_pos c162).symm.trans hf
    refine w_tableIn 287 dX3_actPrimitive_1 (by rw [c162]; decide) (by rw [c162]; decide) (by rw [c162]; rfl) (by decide) ?_
    refine w_iload_n dX3_actPrimitive_287 rfl rfl ?_
    refine w_bipush dX3_actPrimitive_288 (v := 54) (by decide) ?_
    refine w_icmp_lt 302 dX3_actPrimitive_290 (by decide) (fun c163 => ?_) (fun c163 => ?_)
    · replace hf := (if_pos (show p0 < (54 : Int32) from c163)).symm.trans hf
      refine w_aload_n dX3_actPrimitive_302 rfl rfl ?_
      refine w_iload_n dX3_actPrimitive_303 rfl rfl ?_
      obtain ⟨_, b164, hf⟩ := Option.bind_eq_some_iff.mp hf
      refine x_ctV hf (e_stV (Yc := YX3_actItem) (ci := 2) (av := [.int p0]) (st := []) dX3_actPrimitive_304 q4033 mX3_actItem rfl (k_ok_some b164).1 (k_ok_some b164).2) mX3_actItem.2.2.1 mX3_actItem.2.2.2.2.1 (Nat.le_of_ble_eq_true rfl) (Nat.le_of_ble_eq_true rfl) rfl (fun q hq => pX3_actItem (by omega) hdr hrE hrN hq) (fun x165 h166 hf => ?_)
      exact (pX3_actPrimitive_b307 hd hdr hrE hrN hf).to trivial
    · replace hf := (if_neg (show ¬ (p0 < (54 : Int32)) from c163)).symm.trans hf
      refine w_aload_n dX3_actPrimitive_293 rfl rfl ?_
      refine w_iload_n dX3_actPrimitive_294 rfl rfl ?_
      refine w_iconst dX3_actPrimitive_295 (v := 0) (by decide) ?_
      obtain ⟨_, b167, hf⟩ := Option.bind_eq_some_iff.mp hf
      refine x_ctV hf (e_stV (Yc := YX3_set) (ci := 2) (av := [.int p0, .int (0 : Int32)]) (st := []) dX3_actPrimitive_296 q3904 mX3_set rfl (k_ok_some b167).1 (k_ok_some b167).2) mX3_set.2.2.1 mX3_set.2.2.2.2.1 (Nat.le_of_ble_eq_true rfl) (Nat.le_of_ble_eq_true rfl) rfl (fun q hq => pX3_set (by omega) hdr hrE hrN hq) (fun x168 h169 hf => ?_)
      refine w_goto 307 dX3_actPrimitive_299 (by decide) ?_
      exact (pX3_actPrimitive_b307 hd hdr hrE hrN hf).to trivial
  replace hf := (if_neg c162).symm.trans hf
  by_cases c170 : p0 = (45 : Int32)
  · replace hf := (if_pos c170).symm.trans hf
    refine w_tableIn 287 dX3_actPrimitive_1 (by rw [c170]; decide) (by rw [c170]; decide) (by rw [c170]; rfl) (by decide) ?_
    refine w_iload_n dX3_actPrimitive_287 rfl rfl ?_
    refine w_bipush dX3_actPrimitive_288 (v := 54) (by decide) ?_
    refine w_icmp_lt 302 dX3_actPrimitive_290 (by decide) (fun c171 => ?_) (fun c171 => ?_)
    · replace hf := (if_pos (show p0 < (54 : Int32) from c171)).symm.trans hf
      refine w_aload_n dX3_actPrimitive_302 rfl rfl ?_
      refine w_iload_n dX3_actPrimitive_303 rfl rfl ?_
      obtain ⟨_, b172, hf⟩ := Option.bind_eq_some_iff.mp hf
      refine x_ctV hf (e_stV (Yc := YX3_actItem) (ci := 2) (av := [.int p0]) (st := []) dX3_actPrimitive_304 q4033 mX3_actItem rfl (k_ok_some b172).1 (k_ok_some b172).2) mX3_actItem.2.2.1 mX3_actItem.2.2.2.2.1 (Nat.le_of_ble_eq_true rfl) (Nat.le_of_ble_eq_true rfl) rfl (fun q hq => pX3_actItem (by omega) hdr hrE hrN hq) (fun x173 h174 hf => ?_)
      exact (pX3_actPrimitive_b307 hd hdr hrE hrN hf).to trivial
    · replace hf := (if_neg (show ¬ (p0 < (54 : Int32)) from c171)).symm.trans hf
      refine w_aload_n dX3_actPrimitive_293 rfl rfl ?_
      refine w_iload_n dX3_actPrimitive_294 rfl rfl ?_
      refine w_iconst dX3_actPrimitive_295 (v := 0) (by decide) ?_
      obtain ⟨_, b175, hf⟩ := Option.bind_eq_some_iff.mp hf
      refine x_ctV hf (e_stV (Yc := YX3_set) (ci := 2) (av := [.int p0, .int (0 : Int32)]) (st := []) dX3_actPrimitive_296 q3904 mX3_set rfl (k_ok_some b175).1 (k_ok_some b175).2) mX3_set.2.2.1 mX3_set.2.2.2.2.1 (Nat.le_of_ble_eq_true rfl) (Nat.le_of_ble_eq_true rfl) rfl (fun q hq => pX3_set (by omega) hdr hrE hrN hq) (fun x176 h177 hf => ?_)
      refine w_goto 307 dX3_actPrimitive_299 (by decide) ?_
      exact (pX3_actPrimitive_b307 hd hdr hrE hrN hf).to trivial
  replace hf := (if_neg c170).symm.trans hf
  by_cases c178 : p0 = (46 : Int32)
  · replace hf := (if_pos c178).symm.trans hf
    refine w_tableIn 287 dX3_actPrimitive_1 (by rw [c178]; decide) (by rw [c178]; decide) (by rw [c178]; rfl) (by decide) ?_
    refine w_iload_n dX3_actPrimitive_287 rfl rfl ?_
    refine w_bipush dX3_actPrimitive_288 (v := 54) (by decide) ?_
    refine w_icmp_lt 302 dX3_actPrimitive_290 (by decide) (fun c179 => ?_) (fun c179 => ?_)
    · replace hf := (if_pos (show p0 < (54 : Int32) from c179)).symm.trans hf
      refine w_aload_n dX3_actPrimitive_302 rfl rfl ?_
      refine w_iload_n dX3_actPrimitive_303 rfl rfl ?_
      obtain ⟨_, b180, hf⟩ := Option.bind_eq_some_iff.mp hf
      refine x_ctV hf (e_stV (Yc := YX3_actItem) (ci := 2) (av := [.int p0]) (st := []) dX3_actPrimitive_304 q4033 mX3_actItem rfl (k_ok_some b180).1 (k_ok_some b180).2) mX3_actItem.2.2.1 mX3_actItem.2.2.2.2.1 (Nat.le_of_ble_eq_true rfl) (Nat.le_of_ble_eq_true rfl) rfl (fun q hq => pX3_actItem (by omega) hdr hrE hrN hq) (fun x181 h182 hf => ?_)
      exact (pX3_actPrimitive_b307 hd hdr hrE hrN hf).to trivial
    · replace hf := (if_neg (show ¬ (p0 < (54 : Int32)) from c179)).symm.trans hf
      refine w_aload_n dX3_actPrimitive_293 rfl rfl ?_
      refine w_iload_n dX3_actPrimitive_294 rfl rfl ?_
      refine w_iconst dX3_actPrimitive_295 (v := 0) (by decide) ?_
      obtain ⟨_, b183, hf⟩ := Option.bind_eq_some_iff.mp hf
      refine x_ctV hf (e_stV (Yc := YX3_set) (ci := 2) (av := [.int p0, .int (0 : Int32)]) (st := []) dX3_actPrimitive_296 q3904 mX3_set rfl (k_ok_some b183).1 (k_ok_some b183).2) mX3_set.2.2.1 mX3_set.2.2.2.2.1 (Nat.le_of_ble_eq_true rfl) (Nat.le_of_ble_eq_true rfl) rfl (fun q hq => pX3_set (by omega) hdr hrE hrN hq) (fun x184 h185 hf => ?_)
      refine w_goto 307 dX3_actPrimitive_299 (by decide) ?_
      exact (pX3_actPrimitive_b307 hd hdr hrE hrN hf).to trivial
  replace hf := (if_neg c178).symm.trans hf
  by_cases c186 : p0 = (47 : Int32)
  · replace hf := (if_pos c186).symm.trans hf
    refine w_tableIn 287 dX3_actPrimitive_1 (by rw [c186]; decide) (by rw [c186]; decide) (by rw [c186]; rfl) (by decide) ?_
    refine w_iload_n dX3_actPrimitive_287 rfl rfl ?_
    refine w_bipush dX3_actPrimitive_288 (v := 54) (by decide) ?_
    refine w_icmp_lt 302 dX3_actPrimitive_290 (by decide) (fun c187 => ?_) (fun c187 => ?_)
    · replace hf := (if_pos (show p0 < (54 : Int32) from c187)).symm.trans hf
      refine w_aload_n dX3_actPrimitive_302 rfl rfl ?_
      refine w_iload_n dX3_actPrimitive_303 rfl rfl ?_
      obtain ⟨_, b188, hf⟩ := Option.bind_eq_some_iff.mp hf
      refine x_ctV hf (e_stV (Yc := YX3_actItem) (ci := 2) (av := [.int p0]) (st := []) dX3_actPrimitive_304 q4033 mX3_actItem rfl (k_ok_some b188).1 (k_ok_some b188).2) mX3_actItem.2.2.1 mX3_actItem.2.2.2.2.1 (Nat.le_of_ble_eq_true rfl) (Nat.le_of_ble_eq_true rfl) rfl (fun q hq => pX3_actItem (by omega) hdr hrE hrN hq) (fun x189 h190 hf => ?_)
      exact (pX3_actPrimitive_b307 hd hdr hrE hrN hf).to trivial
    · replace hf := (if_neg (show ¬ (p0 < (54 : Int32)) from c187)).symm.trans hf
      refine w_aload_n dX3_actPrimitive_293 rfl rfl ?_
      refine w_iload_n dX3_actPrimitive_294 rfl rfl ?_
      refine w_iconst dX3_actPrimitive_295 (v := 0) (by decide) ?_
      obtain ⟨_, b191, hf⟩ := Option.bind_eq_some_iff.mp hf
      refine x_ctV hf (e_stV (Yc := YX3_set) (ci := 2) (av := [.int p0, .int (0 : Int32)]) (st := []) dX3_actPrimitive_296 q3904 mX3_set rfl (k_ok_some b191).1 (k_ok_some b191).2) mX3_set.2.2.1 mX3_set.2.2.2.2.1 (Nat.le_of_ble_eq_true rfl) (Nat.le_of_ble_eq_true rfl) rfl (fun q hq => pX3_set (by omega) hdr hrE hrN hq) (fun x192 h193 hf => ?_)
      refine w_goto 307 dX3_actPrimitive_299 (by decide) ?_
      exact (pX3_actPrimitive_b307 hd hdr hrE hrN hf).to trivial
  replace hf := (if_neg c186).symm.trans hf
  by_cases c194 : p0 = (48 : Int32)
  · replace hf := (if_pos c194).symm.trans hf
    refine w_tableIn 287 dX3_actPrimitive_1 (by rw [c194]; decide) (by rw [c194]; decide) (by rw [c194]; rfl) (by decide) ?_
    refine w_iload_n dX3_actPrimitive_287 rfl rfl ?_
    refine w_bipush dX3_actPrimitive_288 (v := 54) (by decide) ?_
    refine w_icmp_lt 302 dX3_actPrimitive_290 (by decide) (fun c195 => ?_) (fun c195 => ?_)
    · replace hf := (if_pos (show p0 < (54 : Int32) from c195)).symm.trans hf
      refine w_aload_n dX3_actPrimitive_302 rfl rfl ?_
      refine w_iload_n dX3_actPrimitive_303 rfl rfl ?_
      obtain ⟨_, b196, hf⟩ := Option.bind_eq_some_iff.mp hf
      refine x_ctV hf (e_stV (Yc := YX3_actItem) (ci := 2) (av := [.int p0]) (st := []) dX3_actPrimitive_304 q4033 mX3_actItem rfl (k_ok_some b196).1 (k_ok_some b196).2) mX3_actItem.2.2.1 mX3_actItem.2.2.2.2.1 (Nat.le_of_ble_eq_true rfl) (Nat.le_of_ble_eq_true rfl) rfl (fun q hq => pX3_actItem (by omega) hdr hrE hrN hq) (fun x197 h198 hf => ?_)
      exact (pX3_actPrimitive_b307 hd hdr hrE hrN hf).to trivial
    · replace hf := (if_neg (show ¬ (p0 < (54 : Int32)) from c195)).symm.trans hf
      refine w_aload_n dX3_actPrimitive_293 rfl rfl ?_
      refine w_iload_n dX3_actPrimitive_294 rfl rfl ?_
      refine w_iconst dX3_actPrimitive_295 (v := 0) (by decide) ?_
      obtain ⟨_, b199, hf⟩ := Option.bind_eq_some_iff.mp hf
      refine x_ctV hf (e_stV (Yc := YX3_set) (ci := 2) (av := [.int p0, .int (0 : Int32)]) (st := []) dX3_actPrimitive_296 q3904 mX3_set rfl (k_ok_some b199).1 (k_ok_some b199).2) mX3_set.2.2.1 mX3_set.2.2.2.2.1 (Nat.le_of_ble_eq_true rfl) (Nat.le_of_ble_eq_true rfl) rfl (fun q hq => pX3_set (by omega) hdr hrE hrN hq) (fun x200 h201 hf => ?_)
      refine w_goto 307 dX3_actPrimitive_299 (by decide) ?_
      exact (pX3_actPrimitive_b307 hd hdr hrE hrN hf).to trivial
  replace hf := (if_neg c194).symm.trans hf
  by_cases c202 : p0 = (49 : Int32)
  · replace hf := (if_pos c202).symm.trans hf
    refine w_tableIn 287 dX3_actPrimitive_1 (by rw [c202]; decide) (by rw [c202]; decide) (by rw [c202]; rfl) (by decide) ?_
    refine w_iload_n dX3_actPrimitive_287 rfl rfl ?_
    refine w_bipush dX3_actPrimitive_288 (v := 54) (by decide) ?_
    refine w_icmp_lt 302 dX3_actPrimitive_290 (by decide) (fun c203 => ?_) (fun c203 => ?_)
    · replace hf := (if_pos (show p0 < (54 : Int32) from c203)).symm.trans hf
      refine w_aload_n dX3_actPrimitive_302 rfl rfl ?_
      refine w_iload_n dX3_actPrimitive_303 rfl rfl ?_
      obtain ⟨_, b204, hf⟩ := Option.bind_eq_some_iff.mp hf
      refine x_ctV hf (e_stV (Yc := YX3_actItem) (ci := 2) (av := [.int p0]) (st := []) dX3_actPrimitive_304 q4033 mX3_actItem rfl (k_ok_some b204).1 (k_ok_some b204).2) mX3_actItem.2.2.1 mX3_actItem.2.2.2.2.1 (Nat.le_of_ble_eq_true rfl) (Nat.le_of_ble_eq_true rfl) rfl (fun q hq => pX3_actItem (by omega) hdr hrE hrN hq) (fun x205 h206 hf => ?_)
      exact (pX3_actPrimitive_b307 hd hdr hrE hrN hf).to trivial
    · replace hf := (if_neg (show ¬ (p0 < (54 : Int32)) from c203)).symm.trans hf
      refine w_aload_n dX3_actPrimitive_293 rfl rfl ?_
      refine w_iload_n dX3_actPrimitive_294 rfl rfl ?_
      refine w_iconst dX3_actPrimitive_295 (v := 0) (by decide) ?_
      obtain ⟨_, b207, hf⟩ := Option.bind_eq_some_iff.mp hf
      refine x_ctV hf (e_stV (Yc := YX3_set) (ci := 2) (av := [.int p0, .int (0 : Int32)]) (st := []) dX3_actPrimitive_296 q3904 mX3_set rfl (k_ok_some b207).1 (k_ok_some b207).2) mX3_set.2.2.1 mX3_set.2.2.2.2.1 (Nat.le_of_ble_eq_true rfl) (Nat.le_of_ble_eq_true rfl) rfl (fun q hq => pX3_set (by omega) hdr hrE hrN hq) (fun x208 h209 hf => ?_)
      refine w_goto 307 dX3_actPrimitive_299 (by decide) ?_
      exact (pX3_actPrimitive_b307 hd hdr hrE hrN hf).to trivial
  replace hf := (if_neg c202).symm.trans hf
  by_cases c210 : p0 = (50 : Int32)
  · replace hf := (if_pos c210).symm.trans hf
    refine w_tableIn 287 dX3_actPrimitive_1 (by rw [c210]; decide) (by rw [c210]; decide) (by rw [c210]; rfl) (by decide) ?_
    refine w_iload_n dX3_actPrimitive_287 rfl rfl ?_
    refine w_bipush dX3_actPrimitive_288 (v := 54) (by decide) ?_
    refine w_icmp_lt 302 dX3_actPrimitive_290 (by decide) (fun c211 => ?_) (fun c211 => ?_)
    · replace hf := (if_pos (show p0 < (54 : Int32) from c211)).symm.trans hf
      refine w_aload_n dX3_actPrimitive_302 rfl rfl ?_
      refine w_iload_n dX3_actPrimitive_303 rfl rfl ?_
      obtain ⟨_, b212, hf⟩ := Option.bind_eq_some_iff.mp hf
      refine x_ctV hf (e_stV (Yc := YX3_actItem) (ci := 2) (av := [.int p0]) (st := []) dX3_actPrimitive_304 q4033 mX3_actItem rfl (k_ok_some b212).1 (k_ok_some b212).2) mX3_actItem.2.2.1 mX3_actItem.2.2.2.2.1 (Nat.le_of_ble_eq_true rfl) (Nat.le_of_ble_eq_true rfl) rfl (fun q hq => pX3_actItem (by omega) hdr hrE hrN hq) (fun x213 h214 hf => ?_)
      exact (pX3_actPrimitive_b307 hd hdr hrE hrN hf).to trivial
    · replace hf := (if_neg (show ¬ (p0 < (54 : Int32)) from c211)).symm.trans hf
      refine w_aload_n dX3_actPrimitive_293 rfl rfl ?_
      refine w_iload_n dX3_actPrimitive_294 rfl rfl ?_
      refine w_iconst dX3_actPrimitive_295 (v := 0) (by decide) ?_
      obtain ⟨_, b215, hf⟩ := Option.bind_eq_some_iff.mp hf
      refine x_ctV hf (e_stV (Yc := YX3_set) (ci := 2) (av := [.int p0, .int (0 : Int32)]) (st := []) dX3_actPrimitive_296 q3904 mX3_set rfl (k_ok_some b215).1 (k_ok_some b215).2) mX3_set.2.2.1 mX3_set.2.2.2.2.1 (Nat.le_of_ble_eq_true rfl) (Nat.le_of_ble_eq_true rfl) rfl (fun q hq => pX3_set (by omega) hdr hrE hrN hq) (fun x216 h217 hf => ?_)
      refine w_goto 307 dX3_actPrimitive_299 (by decide) ?_
      exact (pX3_actPrimitive_b307 hd hdr hrE hrN hf).to trivial
  replace hf := (if_neg c210).symm.trans hf
  by_cases c218 : p0 = (51 : Int32)
  · replace hf := (if_pos c218).symm.trans hf
    refine w_tableIn 245 dX3_actPrimitive_1 (by rw [c218]; decide) (by rw [c218]; decide) (by rw [c218]; rfl) (by decide) ?_
    refine w_aload_n dX3_actPrimitive_245 rfl rfl ?_
    obtain ⟨a219, b220, hf⟩ := Option.bind_eq_some_iff.mp hf
    refine GX3_14 b220 dX3_actPrimitive_246 rfl ?_
    refine w_bipush dX3_actPrimitive_249 (v := 6) (by decide) ?_
    obtain ⟨_, b221, hf⟩ := Option.bind_eq_some_iff.mp hf
    refine x_ctV hf (e_stV (Yc := YX4_fail) (ci := 3) (av := [.int (6 : Int32)]) (st := []) dX3_actPrimitive_251 q3181 mX4_fail rfl (k_ok_some b221).1 (k_ok_some b221).2) mX4_fail.2.2.1 mX4_fail.2.2.2.2.1 (Nat.le_of_ble_eq_true rfl) (Nat.le_of_ble_eq_true rfl) rfl (fun q hq => pX4_fail (by omega) hq) (fun x222 h223 hf => ?_)
    refine w_goto 307 dX3_actPrimitive_254 (by decide) ?_
    exact (pX3_actPrimitive_b307 hd hdr hrE hrN hf).to trivial
  replace hf := (if_neg c218).symm.trans hf
  by_cases c224 : p0 = (52 : Int32)
  · replace hf := (if_pos c224).symm.trans hf
    refine w_tableIn 245 dX3_actPrimitive_1 (by rw [c224]; decide) (by rw [c224]; decide) (by rw [c224]; rfl) (by decide) ?_
    refine w_aload_n dX3_actPrimitive_245 rfl rfl ?_
    obtain ⟨a225, b226, hf⟩ := Option.bind_eq_some_iff.mp hf
    refine GX3_14 b226 dX3_actPrimitive_246 rfl ?_
    refine w_bipush dX3_actPrimitive_249 (v := 6) (by decide) ?_
    obtain ⟨_, b227, hf⟩ := Option.bind_eq_some_iff.mp hf
    refine x_ctV hf (e_stV (Yc := YX4_fail) (ci := 3) (av := [.int (6 : Int32)]) (st := []) dX3_actPrimitive_251 q3181 mX4_fail rfl (k_ok_some b227).1 (k_ok_some b227).2) mX4_fail.2.2.1 mX4_fail.2.2.2.2.1 (Nat.le_of_ble_eq_true rfl) (Nat.le_of_ble_eq_true rfl) rfl (fun q hq => pX4_fail (by omega) hq) (fun x228 h229 hf => ?_)
    refine w_goto 307 dX3_actPrimitive_254 (by decide) ?_
    exact (pX3_actPrimitive_b307 hd hdr hrE hrN hf).to trivial
  replace hf := (if_neg c224).symm.trans hf
  by_cases c230 : p0 = (53 : Int32)
  · replace hf := (if_pos c230).symm.trans hf
    refine w_tableIn 245 dX3_actPrimitive_1 (by rw [c230]; decide) (by rw [c230]; decide) (by rw [c230]; rfl) (by decide) ?_
    refine w_aload_n dX3_actPrimitive_245 rfl rfl ?_
    obtain ⟨a231, b232, hf⟩ := Option.bind_eq_some_iff.mp hf
    refine GX3_14 b232 dX3_actPrimitive_246 rfl ?_
    refine w_bipush dX3_actPrimitive_249 (v := 6) (by decide) ?_
    obtain ⟨_, b233, hf⟩ := Option.bind_eq_some_iff.mp hf
    refine x_ctV hf (e_stV (Yc := YX4_fail) (ci := 3) (av := [.int (6 : Int32)]) (st := []) dX3_actPrimitive_251 q3181 mX4_fail rfl (k_ok_some b233).1 (k_ok_some b233).2) mX4_fail.2.2.1 mX4_fail.2.2.2.2.1 (Nat.le_of_ble_eq_true rfl) (Nat.le_of_ble_eq_true rfl) rfl (fun q hq => pX4_fail (by omega) hq) (fun x234 h235 hf => ?_)
    refine w_goto 307 dX3_actPrimitive_254 (by decide) ?_
    exact (pX3_actPrimitive_b307 hd hdr hrE hrN hf).to trivial
  replace hf := (if_neg c230).symm.trans hf
  by_cases c236 : p0 = (54 : Int32)
  · replace hf := (if_pos c236).symm.trans hf
    refine w_tableIn 287 dX3_actPrimitive_1 (by rw [c236]; decide) (by rw [c236]; decide) (by rw [c236]; rfl) (by decide) ?_
    refine w_iload_n dX3_actPrimitive_287 rfl rfl ?_
    refine w_bipush dX3_actPrimitive_288 (v := 54) (by decide) ?_
    refine w_icmp_lt 302 dX3_actPrimitive_290 (by decide) (fun c237 => ?_) (fun c237 => ?_)
    · replace hf := (if_pos (show p0 < (54 : Int32) from c237)).symm.trans hf
      refine w_aload_n dX3_actPrimitive_302 rfl rfl ?_
      refine w_iload_n dX3_actPrimitive_303 rfl rfl ?_
      obtain ⟨_, b238, hf⟩ := Option.bind_eq_some_iff.mp hf
      refine x_ctV hf (e_stV (Yc := YX3_actItem) (ci := 2) (av := [.int p0]) (st := []) dX3_actPrimitive_304 q4033 mX3_actItem rfl (k_ok_some b238).1 (k_ok_some b238).2) mX3_actItem.2.2.1 mX3_actItem.2.2.2.2.1 (Nat.le_of_ble_eq_true rfl) (Nat.le_of_ble_eq_true rfl) rfl (fun q hq => pX3_actItem (by omega) hdr hrE hrN hq) (fun x239 h240 hf => ?_)
      exact (pX3_actPrimitive_b307 hd hdr hrE hrN hf).to trivial
    · replace hf := (if_neg (show ¬ (p0 < (54 : Int32)) from c237)).symm.trans hf
      refine w_aload_n dX3_actPrimitive_293 rfl rfl ?_
      refine w_iload_n dX3_actPrimitive_294 rfl rfl ?_
      refine w_iconst dX3_actPrimitive_295 (v := 0) (by decide) ?_
      obtain ⟨_, b241, hf⟩ := Option.bind_eq_some_iff.mp hf
      refine x_ctV hf (e_stV (Yc := YX3_set) (ci := 2) (av := [.int p0, .int (0 : Int32)]) (st := []) dX3_actPrimitive_296 q3904 mX3_set rfl (k_ok_some b241).1 (k_ok_some b241).2) mX3_set.2.2.1 mX3_set.2.2.2.2.1 (Nat.le_of_ble_eq_true rfl) (Nat.le_of_ble_eq_true rfl) rfl (fun q hq => pX3_set (by omega) hdr hrE hrN hq) (fun x242 h243 hf => ?_)
      refine w_goto 307 dX3_actPrimitive_299 (by decide) ?_
      exact (pX3_actPrimitive_b307 hd hdr hrE hrN hf).to trivial
  replace hf := (if_neg c236).symm.trans hf
  by_cases c244 : p0 = (55 : Int32)
  · replace hf := (if_pos c244).symm.trans hf
    refine w_tableIn 287 dX3_actPrimitive_1 (by rw [c244]; decide) (by rw [c244]; decide) (by rw [c244]; rfl) (by decide) ?_
    refine w_iload_n dX3_actPrimitive_287 rfl rfl ?_
    refine w_bipush dX3_actPrimitive_288 (v := 54) (by decide) ?_
    refine w_icmp_lt 302 dX3_actPrimitive_290 (by decide) (fun c245 => ?_) (fun c245 => ?_)
    · replace hf := (if_pos (show p0 < (54 : Int32) from c245)).symm.trans hf
      refine w_aload_n dX3_actPrimitive_302 rfl rfl ?_
      refine w_iload_n dX3_actPrimitive_303 rfl rfl ?_
      obtain ⟨_, b246, hf⟩ := Option.bind_eq_some_iff.mp hf
      refine x_ctV hf (e_stV (Yc := YX3_actItem) (ci := 2) (av := [.int p0]) (st := []) dX3_actPrimitive_304 q4033 mX3_actItem rfl (k_ok_some b246).1 (k_ok_some b246).2) mX3_actItem.2.2.1 mX3_actItem.2.2.2.2.1 (Nat.le_of_ble_eq_true rfl) (Nat.le_of_ble_eq_true rfl) rfl (fun q hq => pX3_actItem (by omega) hdr hrE hrN hq) (fun x247 h248 hf => ?_)
      exact (pX3_actPrimitive_b307 hd hdr hrE hrN hf).to trivial
    · replace hf := (if_neg (show ¬ (p0 < (54 : Int32)) from c245)).symm.trans hf
      refine w_aload_n dX3_actPrimitive_293 rfl rfl ?_
      refine w_iload_n dX3_actPrimitive_294 rfl rfl ?_
      refine w_iconst dX3_actPrimitive_295 (v := 0) (by decide) ?_
      obtain ⟨_, b249, hf⟩ := Option.bind_eq_some_iff.mp hf
      refine x_ctV hf (e_stV (Yc := YX3_set) (ci := 2) (av := [.int p0, .int (0 : Int32)]) (st := []) dX3_actPrimitive_296 q3904 mX3_set rfl (k_ok_some b249).1 (k_ok_some b249).2) mX3_set.2.2.1 mX3_set.2.2.2.2.1 (Nat.le_of_ble_eq_true rfl) (Nat.le_of_ble_eq_true rfl) rfl (fun q hq => pX3_set (by omega) hdr hrE hrN hq) (fun x250 h251 hf => ?_)
      refine w_goto 307 dX3_actPrimitive_299 (by decide) ?_
      exact (pX3_actPrimitive_b307 hd hdr hrE hrN hf).to trivial
  replace hf := (if_neg c244).symm.trans hf
  by_cases c252 : p0 = (56 : Int32)
  · replace hf := (if_pos c252).symm.trans hf
    refine w_tableIn 287 dX3_actPrimitive_1 (by rw [c252]; decide) (by rw [c252]; decide) (by rw [c252]; rfl) (by decide) ?_
    refine w_iload_n dX3_actPrimitive_287 rfl rfl ?_
    refine w_bipush dX3_actPrimitive_288 (v := 54) (by decide) ?_
    refine w_icmp_lt 302 dX3_actPrimitive_290 (by decide) (fun c253 => ?_) (fun c253 => ?_)
    · replace hf := (if_pos (show p0 < (54 : Int32) from c253)).symm.trans hf
      refine w_aload_n dX3_actPrimitive_302 rfl rfl ?_
      refine w_iload_n dX3_actPrimitive_303 rfl rfl ?_
      obtain ⟨_, b254, hf⟩ := Option.bind_eq_some_iff.mp hf
      refine x_ctV hf (e_stV (Yc := YX3_actItem) (ci := 2) (av := [.int p0]) (st := []) dX3_actPrimitive_304 q4033 mX3_actItem rfl (k_ok_some b254).1 (k_ok_some b254).2) mX3_actItem.2.2.1 mX3_actItem.2.2.2.2.1 (Nat.le_of_ble_eq_true rfl) (Nat.le_of_ble_eq_true rfl) rfl (fun q hq => pX3_actItem (by omega) hdr hrE hrN hq) (fun x255 h256 hf => ?_)
      exact (pX3_actPrimitive_b307 hd hdr hrE hrN hf).to trivial
    · replace hf := (if_neg (show ¬ (p0 < (54 : Int32)) from c253)).symm.trans hf
      refine w_aload_n dX3_actPrimitive_293 rfl rfl ?_
      refine w_iload_n dX3_actPrimitive_294 rfl rfl ?_
      refine w_iconst dX3_actPrimitive_295 (v := 0) (by decide) ?_
      obtain ⟨_, b257, hf⟩ := Option.bind_eq_some_iff.mp hf
      refine x_ctV hf (e_stV (Yc := YX3_set) (ci := 2) (av := [.int p0, .int (0 : Int32)]) (st := []) dX3_actPrimitive_296 q3904 mX3_set rfl (k_ok_some b257).1 (k_ok_some b257).2) mX3_set.2.2.1 mX3_set.2.2.2.2.1 (Nat.le_of_ble_eq_true rfl) (Nat.le_of_ble_eq_true rfl) rfl (fun q hq => pX3_set (by omega) hdr hrE hrN hq) (fun x258 h259 hf => ?_)
      refine w_goto 307 dX3_actPrimitive_299 (by decide) ?_
      exact (pX3_actPrimitive_b307 hd hdr hrE hrN hf).to trivial
  replace hf := (if_neg c252).symm.trans hf
  by_cases c260 : p0 = (57 : Int32)
  · replace hf := (if_pos c260).symm.trans hf
    refine w_tableIn 287 dX3_actPrimitive_1 (by rw [c260]; decide) (by rw [c260]; decide) (by rw [c260]; rfl) (by decide) ?_
    refine w_iload_n dX3_actPrimitive_287 rfl rfl ?_
    refine w_bipush dX3_actPrimitive_288 (v := 54) (by decide) ?_
    refine w_icmp_lt 302 dX3_actPrimitive_290 (by decide) (fun c261 => ?_) (fun c261 => ?_)
    · replace hf := (if_pos (show p0 < (54 : Int32) from c261)).symm.trans hf
      refine w_aload_n dX3_actPrimitive_302 rfl rfl ?_
      refine w_iload_n dX3_actPrimitive_303 rfl rfl ?_
      obtain ⟨_, b262, hf⟩ := Option.bind_eq_some_iff.mp hf
      refine x_ctV hf (e_stV (Yc := YX3_actItem) (ci := 2) (av := [.int p0]) (st := []) dX3_actPrimitive_304 q4033 mX3_actItem rfl (k_ok_some b262).1 (k_ok_some b262).2) mX3_actItem.2.2.1 mX3_actItem.2.2.2.2.1 (Nat.le_of_ble_eq_true rfl) (Nat.le_of_ble_eq_true rfl) rfl (fun q hq => pX3_actItem (by omega) hdr hrE hrN hq) (fun x263 h264 hf => ?_)
      exact (pX3_actPrimitive_b307 hd hdr hrE hrN hf).to trivial
    · replace hf := (if_neg (show ¬ (p0 < (54 : Int32)) from c261)).symm.trans hf
      refine w_aload_n dX3_actPrimitive_293 rfl rfl ?_
      refine w_iload_n dX3_actPrimitive_294 rfl rfl ?_
      refine w_iconst dX3_actPrimitive_295 (v := 0) (by decide) ?_
      obtain ⟨_, b265, hf⟩ := Option.bind_eq_some_iff.mp hf
      refine x_ctV hf (e_stV (Yc := YX3_set) (ci := 2) (av := [.int p0, .int (0 : Int32)]) (st := []) dX3_actPrimitive_296 q3904 mX3_set rfl (k_ok_some b265).1 (k_ok_some b265).2) mX3_set.2.2.1 mX3_set.2.2.2.2.1 (Nat.le_of_ble_eq_true rfl) (Nat.le_of_ble_eq_true rfl) rfl (fun q hq => pX3_set (by omega) hdr hrE hrN hq) (fun x266 h267 hf => ?_)
      refine w_goto 307 dX3_actPrimitive_299 (by decide) ?_
      exact (pX3_actPrimitive_b307 hd hdr hrE hrN hf).to trivial
  replace hf := (if_neg c260).symm.trans hf
  by_cases c268 : p0 = (58 : Int32)
  · replace hf := (if_pos c268).symm.trans hf
    refine w_tableIn 287 dX3_actPrimitive_1 (by rw [c268]; decide) (by rw [c268]; decide) (by rw [c268]; rfl) (by decide) ?_
    refine w_iload_n dX3_actPrimitive_287 rfl rfl ?_
    refine w_bipush dX3_actPrimitive_288 (v := 54) (by decide) ?_
    refine w_icmp_lt 302 dX3_actPrimitive_290 (by decide) (fun c269 => ?_) (fun c269 => ?_)
    · replace hf := (if_pos (show p0 < (54 : Int32) from c269)).symm.trans hf
      refine w_aload_n dX3_actPrimitive_302 rfl rfl ?_
      refine w_iload_n dX3_actPrimitive_303 rfl rfl ?_
      obtain ⟨_, b270, hf⟩ := Option.bind_eq_some_iff.mp hf
      refine x_ctV hf (e_stV (Yc := YX3_actItem) (ci := 2) (av := [.int p0]) (st := []) dX3_actPrimitive_304 q4033 mX3_actItem rfl (k_ok_some b270).1 (k_ok_some b270).2) mX3_actItem.2.2.1 mX3_actItem.2.2.2.2.1 (Nat.le_of_ble_eq_true rfl) (Nat.le_of_ble_eq_true rfl) rfl (fun q hq => pX3_actItem (by omega) hdr hrE hrN hq) (fun x271 h272 hf => ?_)
      exact (pX3_actPrimitive_b307 hd hdr hrE hrN hf).to trivial
    · replace hf := (if_neg (show ¬ (p0 < (54 : Int32)) from c269)).symm.trans hf
      refine w_aload_n dX3_actPrimitive_293 rfl rfl ?_
      refine w_iload_n dX3_actPrimitive_294 rfl rfl ?_
      refine w_iconst dX3_actPrimitive_295 (v := 0) (by decide) ?_
      obtain ⟨_, b273, hf⟩ := Option.bind_eq_some_iff.mp hf
      refine x_ctV hf (e_stV (Yc := YX3_set) (ci := 2) (av := [.int p0, .int (0 : Int32)]) (st := []) dX3_actPrimitive_296 q3904 mX3_set rfl (k_ok_some b273).1 (k_ok_some b273).2) mX3_set.2.2.1 mX3_set.2.2.2.2.1 (Nat.le_of_ble_eq_true rfl) (Nat.le_of_ble_eq_true rfl) rfl (fun q hq => pX3_set (by omega) hdr hrE hrN hq) (fun x274 h275 hf => ?_)
      refine w_goto 307 dX3_actPrimitive_299 (by decide) ?_
      exact (pX3_actPrimitive_b307 hd hdr hrE hrN hf).to trivial
  replace hf := (if_neg c268).symm.trans hf
  by_cases c276 : p0 = (59 : Int32)
  · replace hf := (if_pos c276).symm.trans hf
    refine w_tableIn 287 dX3_actPrimitive_1 (by rw [c276]; decide) (by rw [c276]; decide) (by rw [c276]; rfl) (by decide) ?_
    refine w_iload_n dX3_actPrimitive_287 rfl rfl ?_
    refine w_bipush dX3_actPrimitive_288 (v := 54) (by decide) ?_
    refine w_icmp_lt 302 dX3_actPrimitive_290 (by decide) (fun c277 => ?_) (fun c277 => ?_)
    · replace hf := (if_pos (show p0 < (54 : Int32) from c277)).symm.trans hf
      refine w_aload_n dX3_actPrimitive_302 rfl rfl ?_
      refine w_iload_n dX3_actPrimitive_303 rfl rfl ?_
      obtain ⟨_, b278, hf⟩ := Option.bind_eq_some_iff.mp hf
      refine x_ctV hf (e_stV (Yc := YX3_actItem) (ci := 2) (av := [.int p0]) (st := []) dX3_actPrimitive_304 q4033 mX3_actItem rfl (k_ok_some b278).1 (k_ok_some b278).2) mX3_actItem.2.2.1 mX3_actItem.2.2.2.2.1 (Nat.le_of_ble_eq_true rfl) (Nat.le_of_ble_eq_true rfl) rfl (fun q hq => pX3_actItem (by omega) hdr hrE hrN hq) (fun x279 h280 hf => ?_)
      exact (pX3_actPrimitive_b307 hd hdr hrE hrN hf).to trivial
    · replace hf := (if_neg (show ¬ (p0 < (54 : Int32)) from c277)).symm.trans hf
      refine w_aload_n dX3_actPrimitive_293 rfl rfl ?_
      refine w_iload_n dX3_actPrimitive_294 rfl rfl ?_
      refine w_iconst dX3_actPrimitive_295 (v := 0) (by decide) ?_
      obtain ⟨_, b281, hf⟩ := Option.bind_eq_some_iff.mp hf
      refine x_ctV hf (e_stV (Yc := YX3_set) (ci := 2) (av := [.int p0, .int (0 : Int32)]) (st := []) dX3_actPrimitive_296 q3904 mX3_set rfl (k_ok_some b281).1 (k_ok_some b281).2) mX3_set.2.2.1 mX3_set.2.2.2.2.1 (Nat.le_of_ble_eq_true rfl) (Nat.le_of_ble_eq_true rfl) rfl (fun q hq => pX3_set (by omega) hdr hrE hrN hq) (fun x282 h283 hf => ?_)
      refine w_goto 307 dX3_actPrimitive_299 (by decide) ?_
      exact (pX3_actPrimitive_b307 hd hdr hrE hrN hf).to trivial
  replace hf := (if_neg c276).symm.trans hf
  by_cases c284 : p0 = (60 : Int32)
  · replace hf := (if_pos c284).symm.trans hf
    refine w_tableIn 287 dX3_actPrimitive_1 (by rw [c284]; decide) (by rw [c284]; decide) (by rw [c284]; rfl) (by decide) ?_
    refine w_iload_n dX3_actPrimitive_287 rfl rfl ?_
    refine w_bipush dX3_actPrimitive_288 (v := 54) (by decide) ?_
    refine w_icmp_lt 302 dX3_actPrimitive_290 (by decide) (fun c285 => ?_) (fun c285 => ?_)
    · replace hf := (if_pos (show p0 < (54 : Int32) from c285)).symm.trans hf
      refine w_aload_n dX3_actPrimitive_302 rfl rfl ?_
      refine w_iload_n dX3_actPrimitive_303 rfl rfl ?_
      obtain ⟨_, b286, hf⟩ := Option.bind_eq_some_iff.mp hf
      refine x_ctV hf (e_stV (Yc := YX3_actItem) (ci := 2) (av := [.int p0]) (st := []) dX3_actPrimitive_304 q4033 mX3_actItem rfl (k_ok_some b286).1 (k_ok_some b286).2) mX3_actItem.2.2.1 mX3_actItem.2.2.2.2.1 (Nat.le_of_ble_eq_true rfl) (Nat.le_of_ble_eq_true rfl) rfl (fun q hq => pX3_actItem (by omega) hdr hrE hrN hq) (fun x287 h288 hf => ?_)
      exact (pX3_actPrimitive_b307 hd hdr hrE hrN hf).to trivial
    · replace hf := (if_neg (show ¬ (p0 < (54 : Int32)) from c285)).symm.trans hf
      refine w_aload_n dX3_actPrimitive_293 rfl rfl ?_
      refine w_iload_n dX3_actPrimitive_294 rfl rfl ?_
      refine w_iconst dX3_actPrimitive_295 (v := 0) (by decide) ?_
      obtain ⟨_, b289, hf⟩ := Option.bind_eq_some_iff.mp hf
      refine x_ctV hf (e_stV (Yc := YX3_set) (ci := 2) (av := [.int p0, .int (0 : Int32)]) (st := []) dX3_actPrimitive_296 q3904 mX3_set rfl (k_ok_some b289).1 (k_ok_some b289).2) mX3_set.2.2.1 mX3_set.2.2.2.2.1 (Nat.le_of_ble_eq_true rfl) (Nat.le_of_ble_eq_true rfl) rfl (fun q hq => pX3_set (by omega) hdr hrE hrN hq) (fun x290 h291 hf => ?_)
      refine w_goto 307 dX3_actPrimitive_299 (by decide) ?_
      exact (pX3_actPrimitive_b307 hd hdr hrE hrN hf).to trivial
  replace hf := (if_neg c284).symm.trans hf
  by_cases c292 : p0 = (61 : Int32)
  · replace hf := (if_pos c292).symm.trans hf
    refine w_tableIn 287 dX3_actPrimitive_1 (by rw [c292]; decide) (by rw [c292]; decide) (by rw [c292]; rfl) (by decide) ?_
    refine w_iload_n dX3_actPrimitive_287 rfl rfl ?_
    refine w_bipush dX3_actPrimitive_288 (v := 54) (by decide) ?_
    refine w_icmp_lt 302 dX3_actPrimitive_290 (by decide) (fun c293 => ?_) (fun c293 => ?_)
    · replace hf := (if_pos (show p0 < (54 : Int32) from c293)).symm.trans hf
      refine w_aload_n dX3_actPrimitive_302 rfl rfl ?_
      refine w_iload_n dX3_actPrimitive_303 rfl rfl ?_
      obtain ⟨_, b294, hf⟩ := Option.bind_eq_some_iff.mp hf
      refine x_ctV hf (e_stV (Yc := YX3_actItem) (ci := 2) (av := [.int p0]) (st := []) dX3_actPrimitive_304 q4033 mX3_actItem rfl (k_ok_some b294).1 (k_ok_some b294).2) mX3_actItem.2.2.1 mX3_actItem.2.2.2.2.1 (Nat.le_of_ble_eq_true rfl) (Nat.le_of_ble_eq_true rfl) rfl (fun q hq => pX3_actItem (by omega) hdr hrE hrN hq) (fun x295 h296 hf => ?_)
      exact (pX3_actPrimitive_b307 hd hdr hrE hrN hf).to trivial
    · replace hf := (if_neg (show ¬ (p0 < (54 : Int32)) from c293)).symm.trans hf
      refine w_aload_n dX3_actPrimitive_293 rfl rfl ?_
      refine w_iload_n dX3_actPrimitive_294 rfl rfl ?_
      refine w_iconst dX3_actPrimitive_295 (v := 0) (by decide) ?_
      obtain ⟨_, b297, hf⟩ := Option.bind_eq_some_iff.mp hf
      refine x_ctV hf (e_stV (Yc := YX3_set) (ci := 2) (av := [.int p0, .int (0 : Int32)]) (st := []) dX3_actPrimitive_296 q3904 mX3_set rfl (k_ok_some b297).1 (k_ok_some b297).2) mX3_set.2.2.1 mX3_set.2.2.2.2.1 (Nat.le_of_ble_eq_true rfl) (Nat.le_of_ble_eq_true rfl) rfl (fun q hq => pX3_set (by omega) hdr hrE hrN hq) (fun x298 h299 hf => ?_)
      refine w_goto 307 dX3_actPrimitive_299 (by decide) ?_
      exact (pX3_actPrimitive_b307 hd hdr hrE hrN hf).to trivial
  replace hf := (if_neg c292).symm.trans hf
  by_cases c300 : p0 = (62 : Int32)
  · replace hf := (if_pos c300).symm.trans hf
    refine w_tableIn 287 dX3_actPrimitive_1 (by rw [c300]; decide) (by rw [c300]; decide) (by rw [c300]; rfl) (by decide) ?_
    refine w_iload_n dX3_actPrimitive_287 rfl rfl ?_
    refine w_bipush dX3_actPrimitive_288 (v := 54) (by decide) ?_
    refine w_icmp_lt 302 dX3_actPrimitive_290 (by decide) (fun c301 => ?_) (fun c301 => ?_)
    · replace hf := (if_pos (show p0 < (54 : Int32) from c301)).symm.trans hf
      refine w_aload_n dX3_actPrimitive_302 rfl rfl ?_
      refine w_iload_n dX3_actPrimitive_303 rfl rfl ?_
      obtain ⟨_, b302, hf⟩ := Option.bind_eq_some_iff.mp hf
      refine x_ctV hf (e_stV (Yc := YX3_actItem) (ci := 2) (av := [.int p0]) (st := []) dX3_actPrimitive_304 q4033 mX3_actItem rfl (k_ok_some b302).1 (k_ok_some b302).2) mX3_actItem.2.2.1 mX3_actItem.2.2.2.2.1 (Nat.le_of_ble_eq_true rfl) (Nat.le_of_ble_eq_true rfl) rfl (fun q hq => pX3_actItem (by omega) hdr hrE hrN hq) (fun x303 h304 hf => ?_)
      exact (pX3_actPrimitive_b307 hd hdr hrE hrN hf).to trivial
    · replace hf := (if_neg (show ¬ (p0 < (54 : Int32)) from c301)).symm.trans hf
      refine w_aload_n dX3_actPrimitive_293 rfl rfl ?_
      refine w_iload_n dX3_actPrimitive_294 rfl rfl ?_
      refine w_iconst dX3_actPrimitive_295 (v := 0) (by decide) ?_
      obtain ⟨_, b305, hf⟩ := Option.bind_eq_some_iff.mp hf
      refine x_ctV hf (e_stV (Yc := YX3_set) (ci := 2) (av := [.int p0, .int (0 : Int32)]) (st := []) dX3_actPrimitive_296 q3904 mX3_set rfl (k_ok_some b305).1 (k_ok_some b305).2) mX3_set.2.2.1 mX3_set.2.2.2.2.1 (Nat.le_of_ble_eq_true rfl) (Nat.le_of_ble_eq_true rfl) rfl (fun q hq => pX3_set (by omega) hdr hrE hrN hq) (fun x306 h307 hf => ?_)
      refine w_goto 307 dX3_actPrimitive_299 (by decide) ?_
      exact (pX3_actPrimitive_b307 hd hdr hrE hrN hf).to trivial
  replace hf := (if_neg c300).symm.trans hf
  by_cases c308 : p0 = (63 : Int32)
  · replace hf := (if_pos c308).symm.trans hf
    refine w_tableIn 287 dX3_actPrimitive_1 (by rw [c308]; decide) (by rw [c308]; decide) (by rw [c308]; rfl) (by decide) ?_
    refine w_iload_n dX3_actPrimitive_287 rfl rfl ?_
    refine w_bipush dX3_actPrimitive_288 (v := 54) (by decide) ?_
    refine w_icmp_lt 302 dX3_actPrimitive_290 (by decide) (fun c309 => ?_) (fun c309 => ?_)
    · replace hf := (if_pos (show p0 < (54 : Int32) from c309)).symm.trans hf
      refine w_aload_n dX3_actPrimitive_302 rfl rfl ?_
      refine w_iload_n dX3_actPrimitive_303 rfl rfl ?_
      obtain ⟨_, b310, hf⟩ := Option.bind_eq_some_iff.mp hf
      refine x_ctV hf (e_stV (Yc := YX3_actItem) (ci := 2) (av := [.int p0]) (st := []) dX3_actPrimitive_304 q4033 mX3_actItem rfl (k_ok_some b310).1 (k_ok_some b310).2) mX3_actItem.2.2.1 mX3_actItem.2.2.2.2.1 (Nat.le_of_ble_eq_true rfl) (Nat.le_of_ble_eq_true rfl) rfl (fun q hq => pX3_actItem (by omega) hdr hrE hrN hq) (fun x311 h312 hf => ?_)
      exact (pX3_actPrimitive_b307 hd hdr hrE hrN hf).to trivial
    · replace hf := (if_neg (show ¬ (p0 < (54 : Int32)) from c309)).symm.trans hf
      refine w_aload_n dX3_actPrimitive_293 rfl rfl ?_
      refine w_iload_n dX3_actPrimitive_294 rfl rfl ?_
      refine w_iconst dX3_actPrimitive_295 (v := 0) (by decide) ?_
      obtain ⟨_, b313, hf⟩ := Option.bind_eq_some_iff.mp hf
      refine x_ctV hf (e_stV (Yc := YX3_set) (ci := 2) (av := [.int p0, .int (0 : Int32)]) (st := []) dX3_actPrimitive_296 q3904 mX3_set rfl (k_ok_some b313).1 (k_ok_some b313).2) mX3_set.2.2.1 mX3_set.2.2.2.2.1 (Nat.le_of_ble_eq_true rfl) (Nat.le_of_ble_eq_true rfl) rfl (fun q hq => pX3_set (by omega) hdr hrE hrN hq) (fun x314 h315 hf => ?_)
      refine w_goto 307 dX3_actPrimitive_299 (by decide) ?_
      exact (pX3_actPrimitive_b307 hd hdr hrE hrN hf).to trivial
  replace hf := (if_neg c308).symm.trans hf
  by_cases c316 : p0 = (64 : Int32)
  · replace hf := (if_pos c316).symm.trans hf
    refine w_tableIn 287 dX3_actPrimitive_1 (by rw [c316]; decide) (by rw [c316]; decide) (by rw [c316]; rfl) (by decide) ?_
    refine w_iload_n dX3_actPrimitive_287 rfl rfl ?_
    refine w_bipush dX3_actPrimitive_288 (v := 54) (by decide) ?_
    refine w_icmp_lt 302 dX3_actPrimitive_290 (by decide) (fun c317 => ?_) (fun c317 => ?_)
    · replace hf := (if_pos (show p0 < (54 : Int32) from c317)).symm.trans hf
      refine w_aload_n dX3_actPrimitive_302 rfl rfl ?_
      refine w_iload_n dX3_actPrimitive_303 rfl rfl ?_
      obtain ⟨_, b318, hf⟩ := Option.bind_eq_some_iff.mp hf
      refine x_ctV hf (e_stV (Yc := YX3_actItem) (ci := 2) (av := [.int p0]) (st := []) dX3_actPrimitive_304 q4033 mX3_actItem rfl (k_ok_some b318).1 (k_ok_some b318).2) mX3_actItem.2.2.1 mX3_actItem.2.2.2.2.1 (Nat.le_of_ble_eq_true rfl) (Nat.le_of_ble_eq_true rfl) rfl (fun q hq => pX3_actItem (by omega) hdr hrE hrN hq) (fun x319 h320 hf => ?_)
      exact (pX3_actPrimitive_b307 hd hdr hrE hrN hf).to trivial
    · replace hf := (if_neg (show ¬ (p0 < (54 : Int32)) from c317)).symm.trans hf
      refine w_aload_n dX3_actPrimitive_293 rfl rfl ?_
      refine w_iload_n dX3_actPrimitive_294 rfl rfl ?_
      refine w_iconst dX3_actPrimitive_295 (v := 0) (by decide) ?_
      obtain ⟨_, b321, hf⟩ := Option.bind_eq_some_iff.mp hf
      refine x_ctV hf (e_stV (Yc := YX3_set) (ci := 2) (av := [.int p0, .int (0 : Int32)]) (st := []) dX3_actPrimitive_296 q3904 mX3_set rfl (k_ok_some b321).1 (k_ok_some b321).2) mX3_set.2.2.1 mX3_set.2.2.2.2.1 (Nat.le_of_ble_eq_true rfl) (Nat.le_of_ble_eq_true rfl) rfl (fun q hq => pX3_set (by omega) hdr hrE hrN hq) (fun x322 h323 hf => ?_)
      refine w_goto 307 dX3_actPrimitive_299 (by decide) ?_
      exact (pX3_actPrimitive_b307 hd hdr hrE hrN hf).to trivial
  replace hf := (if_neg c316).symm.trans hf
  by_cases c324 : p0 = (65 : Int32)
  · replace hf := (if_pos c324).symm.trans hf
    refine w_tableIn 287 dX3_actPrimitive_1 (by rw [c324]; decide) (by rw [c324]; decide) (by rw [c324]; rfl) (by decide) ?_
    refine w_iload_n dX3_actPrimitive_287 rfl rfl ?_
    refine w_bipush dX3_actPrimitive_288 (v := 54) (by decide) ?_
    refine w_icmp_lt 302 dX3_actPrimitive_290 (by decide) (fun c325 => ?_) (fun c325 => ?_)
    · replace hf := (if_pos (show p0 < (54 : Int32) from c325)).symm.trans hf
      refine w_aload_n dX3_actPrimitive_302 rfl rfl ?_
      refine w_iload_n dX3_actPrimitive_303 rfl rfl ?_
      obtain ⟨_, b326, hf⟩ := Option.bind_eq_some_iff.mp hf
      refine x_ctV hf (e_stV (Yc := YX3_actItem) (ci := 2) (av := [.int p0]) (st := []) dX3_actPrimitive_304 q4033 mX3_actItem rfl (k_ok_some b326).1 (k_ok_some b326).2) mX3_actItem.2.2.1 mX3_actItem.2.2.2.2.1 (Nat.le_of_ble_eq_true rfl) (Nat.le_of_ble_eq_true rfl) rfl (fun q hq => pX3_actItem (by omega) hdr hrE hrN hq) (fun x327 h328 hf => ?_)
      exact (pX3_actPrimitive_b307 hd hdr hrE hrN hf).to trivial
    · replace hf := (if_neg (show ¬ (p0 < (54 : Int32)) from c325)).symm.trans hf
      refine w_aload_n dX3_actPrimitive_293 rfl rfl ?_
      refine w_iload_n dX3_actPrimitive_294 rfl rfl ?_
      refine w_iconst dX3_actPrimitive_295 (v := 0) (by decide) ?_
      obtain ⟨_, b329, hf⟩ := Option.bind_eq_some_iff.mp hf
      refine x_ctV hf (e_stV (Yc := YX3_set) (ci := 2) (av := [.int p0, .int (0 : Int32)]) (st := []) dX3_actPrimitive_296 q3904 mX3_set rfl (k_ok_some b329).1 (k_ok_some b329).2) mX3_set.2.2.1 mX3_set.2.2.2.2.1 (Nat.le_of_ble_eq_true rfl) (Nat.le_of_ble_eq_true rfl) rfl (fun q hq => pX3_set (by omega) hdr hrE hrN hq) (fun x330 h331 hf => ?_)
      refine w_goto 307 dX3_actPrimitive_299 (by decide) ?_
      exact (pX3_actPrimitive_b307 hd hdr hrE hrN hf).to trivial
  replace hf := (if_neg c324).symm.trans hf
  by_cases c332 : p0 = (66 : Int32)
  · replace hf := (if_pos c332).symm.trans hf
    refine w_tableIn 280 dX3_actPrimitive_1 (by rw [c332]; decide) (by rw [c332]; decide) (by rw [c332]; rfl) (by decide) ?_
    refine w_aload_n dX3_actPrimitive_280 rfl rfl ?_
    obtain ⟨_, b333, hf⟩ := Option.bind_eq_some_iff.mp hf
    refine x_ctV hf (e_stV (Yc := YX3_actGlobal) (ci := 2) (av := []) (st := []) dX3_actPrimitive_281 q3893 mX3_actGlobal rfl (k_ok_some b333).1 (k_ok_some b333).2) mX3_actGlobal.2.2.1 mX3_actGlobal.2.2.2.2.1 (Nat.le_of_ble_eq_true rfl) (Nat.le_of_ble_eq_true rfl) rfl (fun q hq => pX3_actGlobal (by omega) hdr hrE hrN hq) (fun x334 h335 hf => ?_)
    refine w_goto 307 dX3_actPrimitive_284 (by decide) ?_
    exact (pX3_actPrimitive_b307 hd hdr hrE hrN hf).to trivial
  replace hf := (if_neg c332).symm.trans hf
  refine w_tableOut 287 dX3_actPrimitive_1 (by have n0 := sw_ne c1 (by decide : (22 : Int32).toInt = 22); have n1 := sw_ne c2 (by decide : (23 : Int32).toInt = 23); have n2 := sw_ne c13 (by decide : (24 : Int32).toInt = 24); have n3 := sw_ne c17 (by decide : (25 : Int32).toInt = 25); have n4 := sw_ne c21 (by decide : (26 : Int32).toInt = 26); have n5 := sw_ne c24 (by decide : (27 : Int32).toInt = 27); have n6 := sw_ne c30 (by decide : (28 : Int32).toInt = 28); have n7 := sw_ne c42 (by decide : (29 : Int32).toInt = 29); have n8 := sw_ne c50 (by decide : (30 : Int32).toInt = 30); have n9 := sw_ne c58 (by decide : (31 : Int32).toInt = 31); have n10 := sw_ne c66 (by decide : (32 : Int32).toInt = 32); have n11 := sw_ne c74 (by decide : (33 : Int32).toInt = 33); have n12 := sw_ne c82 (by decide : (34 : Int32).toInt = 34); have n13 := sw_ne c90 (by decide : (35 : Int32).toInt = 35); have n14 := sw_ne c98 (by decide : (36 : Int32).toInt = 36); have n15 := sw_ne c106 (by decide : (37 : Int32).toInt = 37); have n16 := sw_ne c114 (by decide : (38 : Int32).toInt = 38); have n17 := sw_ne c122 (by decide : (39 : Int32).toInt = 39); have n18 := sw_ne c130 (by decide : (40 : Int32).toInt = 40); have n19 := sw_ne c138 (by decide : (41 : Int32).toInt = 41); have n20 := sw_ne c146 (by decide : (42 : Int32).toInt = 42); have n21 := sw_ne c154 (by decide : (43 : Int32).toInt = 43); have n22 := sw_ne c162 (by decide : (44 : Int32).toInt = 44); have n23 := sw_ne c170 (by decide : (45 : Int32).toInt = 45); have n24 := sw_ne c178 (by decide : (46 : Int32).toInt = 46); have n25 := sw_ne c186 (by decide : (47 : Int32).toInt = 47); have n26 := sw_ne c194 (by decide : (48 : Int32).toInt = 48); have n27 := sw_ne c202 (by decide : (49 : Int32).toInt = 49); have n28 := sw_ne c210 (by decide : (50 : Int32).toInt = 50); have n29 := sw_ne c218 (by decide : (51 : Int32).toInt = 51); have n30 := sw_ne c224 (by decide : (52 : Int32).toInt = 52); have n31 := sw_ne c230 (by decide : (53 : Int32).toInt = 53); have n32 := sw_ne c236 (by decide : (54 : Int32).toInt = 54); have n33 := sw_ne c244 (by decide : (55 : Int32).toInt = 55); have n34 := sw_ne c252 (by decide : (56 : Int32).toInt = 56); have n35 := sw_ne c260 (by decide : (57 : Int32).toInt = 57); have n36 := sw_ne c268 (by decide : (58 : Int32).toInt = 58); have n37 := sw_ne c276 (by decide : (59 : Int32).toInt = 59); have n38 := sw_ne c284 (by decide : (60 : Int32).toInt = 60); have n39 := sw_ne c292 (by decide : (61 : Int32).toInt = 61); have n40 := sw_ne c300 (by decide : (62 : Int32).toInt = 62); have n41 := sw_ne c308 (by decide : (63 : Int32).toInt = 63); have n42 := sw_ne c316 (by decide : (64 : Int32).toInt = 64); have n43 := sw_ne c324 (by decide : (65 : Int32).toInt = 65); have n44 := sw_ne c332 (by decide : (66 : Int32).toInt = 66); omega) (by decide) ?_
  refine w_iload_n dX3_actPrimitive_287 rfl rfl ?_
  refine w_bipush dX3_actPrimitive_288 (v := 54) (by decide) ?_
  refine w_icmp_lt 302 dX3_actPrimitive_290 (by decide) (fun c336 => ?_) (fun c336 => ?_)
  · replace hf := (if_pos (show p0 < (54 : Int32) from c336)).symm.trans hf
    refine w_aload_n dX3_actPrimitive_302 rfl rfl ?_
    refine w_iload_n dX3_actPrimitive_303 rfl rfl ?_
    obtain ⟨_, b337, hf⟩ := Option.bind_eq_some_iff.mp hf
    refine x_ctV hf (e_stV (Yc := YX3_actItem) (ci := 2) (av := [.int p0]) (st := []) dX3_actPrimitive_304 q4033 mX3_actItem rfl (k_ok_some b337).1 (k_ok_some b337).2) mX3_actItem.2.2.1 mX3_actItem.2.2.2.2.1 (Nat.le_of_ble_eq_true rfl) (Nat.le_of_ble_eq_true rfl) rfl (fun q hq => pX3_actItem (by omega) hdr hrE hrN hq) (fun x338 h339 hf => ?_)
    exact (pX3_actPrimitive_b307 hd hdr hrE hrN hf).to trivial
  · replace hf := (if_neg (show ¬ (p0 < (54 : Int32)) from c336)).symm.trans hf
    refine w_aload_n dX3_actPrimitive_293 rfl rfl ?_
    refine w_iload_n dX3_actPrimitive_294 rfl rfl ?_
    refine w_iconst dX3_actPrimitive_295 (v := 0) (by decide) ?_
    obtain ⟨_, b340, hf⟩ := Option.bind_eq_some_iff.mp hf
    refine x_ctV hf (e_stV (Yc := YX3_set) (ci := 2) (av := [.int p0, .int (0 : Int32)]) (st := []) dX3_actPrimitive_296 q3904 mX3_set rfl (k_ok_some b340).1 (k_ok_some b340).2) mX3_set.2.2.1 mX3_set.2.2.2.2.1 (Nat.le_of_ble_eq_true rfl) (Nat.le_of_ble_eq_true rfl) rfl (fun q hq => pX3_set (by omega) hdr hrE hrN hq) (fun x341 h342 hf => ?_)
    refine w_goto 307 dX3_actPrimitive_299 (by decide) ?_
    exact (pX3_actPrimitive_b307 hd hdr hrE hrN hf).to trivial
