set_option maxRecDepth 100000
set_option maxHeartbeats 4000000
theorem q4615 : (Jvm.Cond.fieldLink "TypeHouseModel" (768 : Nat) "TypeHouseModel" "glueWidth" "I") ∈ lw_all := lw_g (lw_at lw_m18 110 rfl) rfl
theorem q4616 : (Jvm.Cond.fieldLink "TypeHouseModel" (771 : Nat) "TypeHouseModel" "glueStretch" "I") ∈ lw_all := lw_g (lw_at lw_m18 111 rfl) rfl
theorem q4617 : (Jvm.Cond.fieldLink "TypeHouseModel" (774 : Nat) "TypeHouseModel" "glueOrder" "I") ∈ lw_all := lw_g (lw_at lw_m18 112 rfl) rfl
theorem q4618 : (Jvm.Cond.fieldLink "TypeHouseModel" (777 : Nat) "TypeHouseModel" "glueShrink" "I") ∈ lw_all := lw_g (lw_at lw_m18 113 rfl) rfl
theorem q4925 : (Jvm.Cond.methodLink "TypeHouseModel$Metrics" (66 : Nat) ({ cls := "TypeHouseModel$Metrics", name := "designOf", desc := "([B)I" } : Jvm.MethodName)) ∈ lw_all := lw_g (lw_at lw_m19 180 rfl) rfl
theorem q4926 : (Jvm.Cond.static ({ cls := "TypeHouseModel$Metrics", name := "designOf", desc := "([B)I" } : Jvm.MethodName)) ∈ lw_all := lw_g (lw_at lw_m19 181 rfl) rfl
theorem q4927 : (Jvm.Cond.code ({ cls := "TypeHouseModel$Metrics", name := "designOf", desc := "([B)I" } : Jvm.MethodName) prog_41_method_21_code (3 : Nat) (Option.some Jvm.ClassFile.FieldType.int)) ∈ lw_all := lw_g (lw_at lw_m19 182 rfl) rfl
theorem q5237 : (Jvm.Cond.instanceMethod ({ cls := "TypeHouseModel", name := "digits", desc := "(I)I" } : Jvm.MethodName)) ∈ lw_all := lw_g (lw_at lw_m21 12 rfl) rfl
theorem q5238 : (Jvm.Cond.code ({ cls := "TypeHouseModel", name := "digits", desc := "(I)I" } : Jvm.MethodName) prog_37_method_80_code (5 : Nat) (Option.some Jvm.ClassFile.FieldType.int)) ∈ lw_all := lw_g (lw_at lw_m21 13 rfl) rfl
theorem q5443 : (Jvm.Cond.instanceMethod ({ cls := "TypeHouseModel", name := "doCharacter", desc := "(I)V" } : Jvm.MethodName)) ∈ lw_all := lw_g (lw_at lw_m21 218 rfl) rfl
theorem q5444 : (Jvm.Cond.code ({ cls := "TypeHouseModel", name := "doCharacter", desc := "(I)V" } : Jvm.MethodName) prog_37_method_172_code (3 : Nat) (Option.none : Option Jvm.ClassFile.FieldType)) ∈ lw_all := lw_g (lw_at lw_m21 219 rfl) rfl
theorem q5445 : (Jvm.Cond.methodLink "TypeHouseModel" (1160 : Nat) ({ cls := "TypeHouseModel", name := "character", desc := "(I)V" } : Jvm.MethodName)) ∈ lw_all := lw_g (lw_at lw_m21 220 rfl) rfl
theorem q5730 : (Jvm.Cond.methodLink "TypeHouseModel" (1157 : Nat) ({ cls := "TypeHouseModel", name := "openGroup", desc := "(I)V" } : Jvm.MethodName)) ∈ lw_all := lw_g (lw_at lw_m23 25 rfl) rfl
theorem q5732 : (Jvm.Cond.instanceMethod ({ cls := "TypeHouseModel", name := "openGroup", desc := "(I)V" } : Jvm.MethodName)) ∈ lw_all := lw_g (lw_at lw_m23 27 rfl) rfl
theorem q5733 : (Jvm.Cond.code ({ cls := "TypeHouseModel", name := "openGroup", desc := "(I)V" } : Jvm.MethodName) prog_37_method_164_code (3 : Nat) (Option.none : Option Jvm.ClassFile.FieldType)) ∈ lw_all := lw_g (lw_at lw_m23 28 rfl) rfl
theorem q5734 : (Jvm.Cond.methodLink "TypeHouseModel" (1163 : Nat) ({ cls := "TypeHouseModel", name := "closeBrace", desc := "()V" } : Jvm.MethodName)) ∈ lw_all := lw_g (lw_at lw_m23 29 rfl) rfl
theorem q5899 : (Jvm.Cond.methodLink "TypeHouseModel" (1166 : Nat) ({ cls := "TypeHouseModel", name := "space", desc := "()V" } : Jvm.MethodName)) ∈ lw_all := lw_g (lw_at lw_m23 194 rfl) rfl
theorem q5901 : (Jvm.Cond.instanceMethod ({ cls := "TypeHouseModel", name := "space", desc := "()V" } : Jvm.MethodName)) ∈ lw_all := lw_g (lw_at lw_m23 196 rfl) rfl
theorem q5902 : (Jvm.Cond.code ({ cls := "TypeHouseModel", name := "space", desc := "()V" } : Jvm.MethodName) prog_37_method_121_code (4 : Nat) (Option.none : Option Jvm.ClassFile.FieldType)) ∈ lw_all := lw_g (lw_at lw_m23 197 rfl) rfl
theorem q5911 : (Jvm.Cond.methodLink "TypeHouseModel" (1143 : Nat) ({ cls := "TypeHouseModel", name := "needSolid", desc := "()I" } : Jvm.MethodName)) ∈ lw_all := lw_g (lw_at lw_m23 206 rfl) rfl
theorem q5913 : (Jvm.Cond.instanceMethod ({ cls := "TypeHouseModel", name := "needSolid", desc := "()I" } : Jvm.MethodName)) ∈ lw_all := lw_g (lw_at lw_m23 208 rfl) rfl
theorem q5914 : (Jvm.Cond.code ({ cls := "TypeHouseModel", name := "needSolid", desc := "()I" } : Jvm.MethodName) prog_37_method_168_code (2 : Nat) (Option.some Jvm.ClassFile.FieldType.int)) ∈ lw_all := lw_g (lw_at lw_m23 209 rfl) rfl
theorem q5916 : (Jvm.Cond.static ({ cls := "TypeHouseModel", name := "isSettable", desc := "(I)Z" } : Jvm.MethodName)) ∈ lw_all := lw_g (lw_at lw_m23 211 rfl) rfl
theorem q5917 : (Jvm.Cond.code ({ cls := "TypeHouseModel", name := "isSettable", desc := "(I)Z" } : Jvm.MethodName) prog_37_method_184_code (1 : Nat) (Option.some Jvm.ClassFile.FieldType.boolean)) ∈ lw_all := lw_g (lw_at lw_m23 212 rfl) rfl
theorem q5936 : (Jvm.Cond.instanceMethod ({ cls := "TypeHouseModel", name := "let", desc := "(Z)V" } : Jvm.MethodName)) ∈ lw_all := lw_g (lw_at lw_m23 231 rfl) rfl
theorem q5937 : (Jvm.Cond.code ({ cls := "TypeHouseModel", name := "let", desc := "(Z)V" } : Jvm.MethodName) prog_37_method_100_code (4 : Nat) (Option.none : Option Jvm.ClassFile.FieldType)) ∈ lw_all := lw_g (lw_at lw_m23 232 rfl) rfl
theorem q5938 : (Jvm.Cond.methodLink "TypeHouseModel" (1233 : Nat) ({ cls := "TypeHouseModel", name := "equals", desc := "()V" } : Jvm.MethodName)) ∈ lw_all := lw_g (lw_at lw_m23 233 rfl) rfl
theorem q5940 : (Jvm.Cond.instanceMethod ({ cls := "TypeHouseModel", name := "equals", desc := "()V" } : Jvm.MethodName)) ∈ lw_all := lw_g (lw_at lw_m23 235 rfl) rfl
theorem q5941 : (Jvm.Cond.code ({ cls := "TypeHouseModel", name := "equals", desc := "()V" } : Jvm.MethodName) prog_37_method_99_code (2 : Nat) (Option.none : Option Jvm.ClassFile.FieldType)) ∈ lw_all := lw_g (lw_at lw_m23 236 rfl) rfl
theorem q5944 : (Jvm.Cond.instanceMethod ({ cls := "TypeHouseModel", name := "font", desc := "(Z)V" } : Jvm.MethodName)) ∈ lw_all := lw_g (lw_at lw_m23 239 rfl) rfl
theorem q5945 : (Jvm.Cond.code ({ cls := "TypeHouseModel", name := "font", desc := "(Z)V" } : Jvm.MethodName) prog_37_method_189_code (6 : Nat) (Option.none : Option Jvm.ClassFile.FieldType)) ∈ lw_all := lw_g (lw_at lw_m24 0 rfl) rfl
theorem q5947 : (Jvm.Cond.constant "TypeHouseModel" (1248 : Nat) (134217727 : Int32)) ∈ lw_all := lw_g (lw_at lw_m24 2 rfl) rfl
theorem q5948 : (Jvm.Cond.methodLink "TypeHouseModel" (1249 : Nat) ({ cls := "TypeHouseModel$Metrics", name := "design", desc := "()I" } : Jvm.MethodName)) ∈ lw_all := lw_g (lw_at lw_m24 3 rfl) rfl
theorem q5949 : (Jvm.Cond.instanceMethod ({ cls := "TypeHouseModel$Metrics", name := "design", desc := "()I" } : Jvm.MethodName)) ∈ lw_all := lw_g (lw_at lw_m24 4 rfl) rfl
theorem q5950 : (Jvm.Cond.selects "TypeHouseModel$Metrics" ({ cls := "TypeHouseModel$Metrics", name := "design", desc := "()I" } : Jvm.MethodName) ({ cls := "TypeHouseModel$Metrics", name := "design", desc := "()I" } : Jvm.MethodName)) ∈ lw_all := lw_g (lw_at lw_m24 5 rfl) rfl
theorem q5951 : (Jvm.Cond.code ({ cls := "TypeHouseModel$Metrics", name := "design", desc := "()I" } : Jvm.MethodName) prog_41_method_25_code (1 : Nat) (Option.some Jvm.ClassFile.FieldType.int)) ∈ lw_all := lw_g (lw_at lw_m24 6 rfl) rfl
theorem q5952 : (Jvm.Cond.methodLink "TypeHouseModel" (1252 : Nat) ({ cls := "TypeHouseModel$Metrics", name := "check", desc := "()I" } : Jvm.MethodName)) ∈ lw_all := lw_g (lw_at lw_m24 7 rfl) rfl
theorem q5953 : (Jvm.Cond.instanceMethod ({ cls := "TypeHouseModel$Metrics", name := "check", desc := "()I" } : Jvm.MethodName)) ∈ lw_all := lw_g (lw_at lw_m24 8 rfl) rfl
theorem q5954 : (Jvm.Cond.selects "TypeHouseModel$Metrics" ({ cls := "TypeHouseModel$Metrics", name := "check", desc := "()I" } : Jvm.MethodName) ({ cls := "TypeHouseModel$Metrics", name := "check", desc := "()I" } : Jvm.MethodName)) ∈ lw_all := lw_g (lw_at lw_m24 9 rfl) rfl
theorem q5955 : (Jvm.Cond.code ({ cls := "TypeHouseModel$Metrics", name := "check", desc := "()I" } : Jvm.MethodName) prog_41_method_26_code (3 : Nat) (Option.some Jvm.ClassFile.FieldType.int)) ∈ lw_all := lw_g (lw_at lw_m24 10 rfl) rfl
theorem q5956 : (Jvm.Cond.methodLink "TypeHouseModel" (1255 : Nat) ({ cls := "TypeHouseModel$Device", name := "font", desc := "(IIIII)V" } : Jvm.MethodName)) ∈ lw_all := lw_g (lw_at lw_m24 11 rfl) rfl
theorem q5957 : (Jvm.Cond.instanceMethod ({ cls := "TypeHouseModel$Device", name := "font", desc := "(IIIII)V" } : Jvm.MethodName)) ∈ lw_all := lw_g (lw_at lw_m24 12 rfl) rfl
theorem q5958 : (Jvm.Cond.selects "TypeHouseModel$Device" ({ cls := "TypeHouseModel$Device", name := "font", desc := "(IIIII)V" } : Jvm.MethodName) ({ cls := "TypeHouseModel$Device", name := "font", desc := "(IIIII)V" } : Jvm.MethodName)) ∈ lw_all := lw_g (lw_at lw_m24 13 rfl) rfl
theorem q5959 : (Jvm.Cond.code ({ cls := "TypeHouseModel$Device", name := "font", desc := "(IIIII)V" } : Jvm.MethodName) prog_39_method_3_code (6 : Nat) (Option.none : Option Jvm.ClassFile.FieldType)) ∈ lw_all := lw_g (lw_at lw_m24 14 rfl) rfl
theorem q5967 : (Jvm.Cond.instanceMethod ({ cls := "TypeHouseModel", name := "reckonGlue", desc := "(IIZ)V" } : Jvm.MethodName)) ∈ lw_all := lw_g (lw_at lw_m24 22 rfl) rfl
theorem q5968 : (Jvm.Cond.code ({ cls := "TypeHouseModel", name := "reckonGlue", desc := "(IIZ)V" } : Jvm.MethodName) prog_37_method_192_code (11 : Nat) (Option.none : Option Jvm.ClassFile.FieldType)) ∈ lw_all := lw_g (lw_at lw_m24 23 rfl) rfl
theorem q5969 : (Jvm.Cond.methodLink "TypeHouseModel" (1212 : Nat) ({ cls := "TypeHouseModel", name := "readGlue", desc := "()V" } : Jvm.MethodName)) ∈ lw_all := lw_g (lw_at lw_m24 24 rfl) rfl
theorem q5971 : (Jvm.Cond.instanceMethod ({ cls := "TypeHouseModel", name := "readGlue", desc := "()V" } : Jvm.MethodName)) ∈ lw_all := lw_g (lw_at lw_m24 26 rfl) rfl
theorem q5972 : (Jvm.Cond.code ({ cls := "TypeHouseModel", name := "readGlue", desc := "()V" } : Jvm.MethodName) prog_37_method_97_code (7 : Nat) (Option.none : Option Jvm.ClassFile.FieldType)) ∈ lw_all := lw_g (lw_at lw_m24 27 rfl) rfl
theorem q5975 : (Jvm.Cond.methodLink "TypeHouseModel" (1263 : Nat) ({ cls := "TypeHouseModel", name := "reckoned", desc := "(JJIJ)I" } : Jvm.MethodName)) ∈ lw_all := lw_g (lw_at lw_m24 30 rfl) rfl
theorem q5977 : (Jvm.Cond.instanceMethod ({ cls := "TypeHouseModel", name := "reckoned", desc := "(JJIJ)I" } : Jvm.MethodName)) ∈ lw_all := lw_g (lw_at lw_m24 32 rfl) rfl
theorem q5978 : (Jvm.Cond.code ({ cls := "TypeHouseModel", name := "reckoned", desc := "(JJIJ)I" } : Jvm.MethodName) prog_37_method_190_code (10 : Nat) (Option.some Jvm.ClassFile.FieldType.int)) ∈ lw_all := lw_g (lw_at lw_m24 33 rfl) rfl
theorem q5979 : (Jvm.Cond.methodLink "TypeHouseModel" (1245 : Nat) ({ cls := "TypeHouseModel", name := "setGlue", desc := "(IZ)V" } : Jvm.MethodName)) ∈ lw_all := lw_g (lw_at lw_m24 34 rfl) rfl
theorem q5981 : (Jvm.Cond.instanceMethod ({ cls := "TypeHouseModel", name := "setGlue", desc := "(IZ)V" } : Jvm.MethodName)) ∈ lw_all := lw_g (lw_at lw_m24 36 rfl) rfl
theorem q5982 : (Jvm.Cond.code ({ cls := "TypeHouseModel", name := "setGlue", desc := "(IZ)V" } : Jvm.MethodName) prog_37_method_187_code (3 : Nat) (Option.none : Option Jvm.ClassFile.FieldType)) ∈ lw_all := lw_g (lw_at lw_m24 37 rfl) rfl
theorem q5983 : (Jvm.Cond.methodLink "TypeHouseModel" (1221 : Nat) ({ cls := "TypeHouseModel", name := "readBox", desc := "(IIZ)V" } : Jvm.MethodName)) ∈ lw_all := lw_g (lw_at lw_m24 38 rfl) rfl
theorem q5985 : (Jvm.Cond.instanceMethod ({ cls := "TypeHouseModel", name := "readBox", desc := "(IIZ)V" } : Jvm.MethodName)) ∈ lw_all := lw_g (lw_at lw_m24 40 rfl) rfl
theorem q5986 : (Jvm.Cond.code ({ cls := "TypeHouseModel", name := "readBox", desc := "(IIZ)V" } : Jvm.MethodName) prog_37_method_169_code (5 : Nat) (Option.none : Option Jvm.ClassFile.FieldType)) ∈ lw_all := lw_g (lw_at lw_m24 41 rfl) rfl
theorem q5987 : (Jvm.Cond.methodLink "TypeHouseModel" (1146 : Nat) ({ cls := "TypeHouseModel", name := "readFrom", desc := "(IIIZ)V" } : Jvm.MethodName)) ∈ lw_all := lw_g (lw_at lw_m24 42 rfl) rfl
theorem q5989 : (Jvm.Cond.instanceMethod ({ cls := "TypeHouseModel", name := "readFrom", desc := "(IIIZ)V" } : Jvm.MethodName)) ∈ lw_all := lw_g (lw_at lw_m24 44 rfl) rfl
theorem q5990 : (Jvm.Cond.code ({ cls := "TypeHouseModel", name := "readFrom", desc := "(IIIZ)V" } : Jvm.MethodName) prog_37_method_170_code (8 : Nat) (Option.none : Option Jvm.ClassFile.FieldType)) ∈ lw_all := lw_g (lw_at lw_m24 45 rfl) rfl
theorem q5991 : (Jvm.Cond.methodLink "TypeHouseModel" (1149 : Nat) ({ cls := "TypeHouseModel", name := "openBox", desc := "(ZIIZ)V" } : Jvm.MethodName)) ∈ lw_all := lw_g (lw_at lw_m24 46 rfl) rfl
theorem q5993 : (Jvm.Cond.instanceMethod ({ cls := "TypeHouseModel", name := "openBox", desc := "(ZIIZ)V" } : Jvm.MethodName)) ∈ lw_all := lw_g (lw_at lw_m24 48 rfl) rfl
theorem q5994 : (Jvm.Cond.code ({ cls := "TypeHouseModel", name := "openBox", desc := "(ZIIZ)V" } : Jvm.MethodName) prog_37_method_171_code (8 : Nat) (Option.none : Option Jvm.ClassFile.FieldType)) ∈ lw_all := lw_g (lw_at lw_m24 49 rfl) rfl
theorem q6003 : (Jvm.Cond.instanceMethod ({ cls := "TypeHouseModel", name := "doList", desc := "(I)V" } : Jvm.MethodName)) ∈ lw_all := lw_g (lw_at lw_m24 58 rfl) rfl
theorem q6004 : (Jvm.Cond.code ({ cls := "TypeHouseModel", name := "doList", desc := "(I)V" } : Jvm.MethodName) prog_37_method_177_code (4 : Nat) (Option.none : Option Jvm.ClassFile.FieldType)) ∈ lw_all := lw_g (lw_at lw_m24 59 rfl) rfl
theorem q6005 : (Jvm.Cond.methodLink "TypeHouseModel" (1184 : Nat) ({ cls := "TypeHouseModel", name := "horizontally", desc := "()Z" } : Jvm.MethodName)) ∈ lw_all := lw_g (lw_at lw_m24 60 rfl) rfl
theorem q6007 : (Jvm.Cond.instanceMethod ({ cls := "TypeHouseModel", name := "horizontally", desc := "()Z" } : Jvm.MethodName)) ∈ lw_all := lw_g (lw_at lw_m24 62 rfl) rfl
theorem q6008 : (Jvm.Cond.code ({ cls := "TypeHouseModel", name := "horizontally", desc := "()Z" } : Jvm.MethodName) prog_37_method_175_code (1 : Nat) (Option.some Jvm.ClassFile.FieldType.boolean)) ∈ lw_all := lw_g (lw_at lw_m24 63 rfl) rfl
theorem q6009 : (Jvm.Cond.methodLink "TypeHouseModel" (1187 : Nat) ({ cls := "TypeHouseModel", name := "skip", desc := "()V" } : Jvm.MethodName)) ∈ lw_all := lw_g (lw_at lw_m24 64 rfl) rfl
theorem q6011 : (Jvm.Cond.instanceMethod ({ cls := "TypeHouseModel", name := "skip", desc := "()V" } : Jvm.MethodName)) ∈ lw_all := lw_g (lw_at lw_m24 66 rfl) rfl
theorem q6012 : (Jvm.Cond.code ({ cls := "TypeHouseModel", name := "skip", desc := "()V" } : Jvm.MethodName) prog_37_method_179_code (1 : Nat) (Option.none : Option Jvm.ClassFile.FieldType)) ∈ lw_all := lw_g (lw_at lw_m24 67 rfl) rfl
theorem q6013 : (Jvm.Cond.methodLink "TypeHouseModel" (1190 : Nat) ({ cls := "TypeHouseModel", name := "vertically", desc := "()Z" } : Jvm.MethodName)) ∈ lw_all := lw_g (lw_at lw_m24 68 rfl) rfl
theorem q6015 : (Jvm.Cond.instanceMethod ({ cls := "TypeHouseModel", name := "vertically", desc := "()Z" } : Jvm.MethodName)) ∈ lw_all := lw_g (lw_at lw_m24 70 rfl) rfl
theorem q6016 : (Jvm.Cond.code ({ cls := "TypeHouseModel", name := "vertically", desc := "()Z" } : Jvm.MethodName) prog_37_method_174_code (1 : Nat) (Option.some Jvm.ClassFile.FieldType.boolean)) ∈ lw_all := lw_g (lw_at lw_m24 71 rfl) rfl
theorem q6017 : (Jvm.Cond.methodLink "TypeHouseModel" (1193 : Nat) ({ cls := "TypeHouseModel", name := "kernItem", desc := "(I)V" } : Jvm.MethodName)) ∈ lw_all := lw_g (lw_at lw_m24 72 rfl) rfl
theorem q6019 : (Jvm.Cond.instanceMethod ({ cls := "TypeHouseModel", name := "kernItem", desc := "(I)V" } : Jvm.MethodName)) ∈ lw_all := lw_g (lw_at lw_m24 74 rfl) rfl
theorem q6020 : (Jvm.Cond.code ({ cls := "TypeHouseModel", name := "kernItem", desc := "(I)V" } : Jvm.MethodName) prog_37_method_110_code (2 : Nat) (Option.none : Option Jvm.ClassFile.FieldType)) ∈ lw_all := lw_g (lw_at lw_m24 75 rfl) rfl
theorem q6021 : (Jvm.Cond.methodLink "TypeHouseModel" (1196 : Nat) ({ cls := "TypeHouseModel", name := "rule", desc := "(III)V" } : Jvm.MethodName)) ∈ lw_all := lw_g (lw_at lw_m24 76 rfl) rfl
theorem q6023 : (Jvm.Cond.instanceMethod ({ cls := "TypeHouseModel", name := "rule", desc := "(III)V" } : Jvm.MethodName)) ∈ lw_all := lw_g (lw_at lw_m24 78 rfl) rfl
theorem q6024 : (Jvm.Cond.code ({ cls := "TypeHouseModel", name := "rule", desc := "(III)V" } : Jvm.MethodName) prog_37_method_180_code (8 : Nat) (Option.none : Option Jvm.ClassFile.FieldType)) ∈ lw_all := lw_g (lw_at lw_m24 79 rfl) rfl
theorem q6028 : (Jvm.Cond.methodLink "TypeHouseModel" (1218 : Nat) ({ cls := "TypeHouseModel", name := "ruleItem", desc := "(III)V" } : Jvm.MethodName)) ∈ lw_all := lw_g (lw_at lw_m24 83 rfl) rfl
theorem q6030 : (Jvm.Cond.instanceMethod ({ cls := "TypeHouseModel", name := "ruleItem", desc := "(III)V" } : Jvm.MethodName)) ∈ lw_all := lw_g (lw_at lw_m24 85 rfl) rfl
theorem q6031 : (Jvm.Cond.code ({ cls := "TypeHouseModel", name := "ruleItem", desc := "(III)V" } : Jvm.MethodName) prog_37_method_114_code (4 : Nat) (Option.none : Option Jvm.ClassFile.FieldType)) ∈ lw_all := lw_g (lw_at lw_m24 86 rfl) rfl
theorem q6032 : (Jvm.Cond.methodLink "TypeHouseModel" (1199 : Nat) ({ cls := "TypeHouseModel", name := "doMore", desc := "(I)V" } : Jvm.MethodName)) ∈ lw_all := lw_g (lw_at lw_m24 87 rfl) rfl
theorem q6034 : (Jvm.Cond.instanceMethod ({ cls := "TypeHouseModel", name := "doMore", desc := "(I)V" } : Jvm.MethodName)) ∈ lw_all := lw_g (lw_at lw_m24 89 rfl) rfl
theorem q6035 : (Jvm.Cond.code ({ cls := "TypeHouseModel", name := "doMore", desc := "(I)V" } : Jvm.MethodName) prog_37_method_178_code (2 : Nat) (Option.none : Option Jvm.ClassFile.FieldType)) ∈ lw_all := lw_g (lw_at lw_m24 90 rfl) rfl
theorem q6036 : (Jvm.Cond.methodLink "TypeHouseModel" (1202 : Nat) ({ cls := "TypeHouseModel", name := "indent", desc := "()V" } : Jvm.MethodName)) ∈ lw_all := lw_g (lw_at lw_m24 91 rfl) rfl
theorem q6038 : (Jvm.Cond.instanceMethod ({ cls := "TypeHouseModel", name := "indent", desc := "()V" } : Jvm.MethodName)) ∈ lw_all := lw_g (lw_at lw_m24 93 rfl) rfl
theorem q6039 : (Jvm.Cond.code ({ cls := "TypeHouseModel", name := "indent", desc := "()V" } : Jvm.MethodName) prog_37_method_181_code (2 : Nat) (Option.none : Option Jvm.ClassFile.FieldType)) ∈ lw_all := lw_g (lw_at lw_m24 94 rfl) rfl
theorem q6040 : (Jvm.Cond.methodLink "TypeHouseModel" (1205 : Nat) ({ cls := "TypeHouseModel", name := "shifted", desc := "(ZZ)V" } : Jvm.MethodName)) ∈ lw_all := lw_g (lw_at lw_m24 95 rfl) rfl
theorem q6042 : (Jvm.Cond.instanceMethod ({ cls := "TypeHouseModel", name := "shifted", desc := "(ZZ)V" } : Jvm.MethodName)) ∈ lw_all := lw_g (lw_at lw_m24 97 rfl) rfl
theorem q6043 : (Jvm.Cond.code ({ cls := "TypeHouseModel", name := "shifted", desc := "(ZZ)V" } : Jvm.MethodName) prog_37_method_182_code (4 : Nat) (Option.none : Option Jvm.ClassFile.FieldType)) ∈ lw_all := lw_g (lw_at lw_m24 98 rfl) rfl
theorem q6044 : (Jvm.Cond.methodLink "TypeHouseModel" (1209 : Nat) ({ cls := "TypeHouseModel", name := "soft", desc := "()V" } : Jvm.MethodName)) ∈ lw_all := lw_g (lw_at lw_m24 99 rfl) rfl
theorem q6046 : (Jvm.Cond.instanceMethod ({ cls := "TypeHouseModel", name := "soft", desc := "()V" } : Jvm.MethodName)) ∈ lw_all := lw_g (lw_at lw_m24 101 rfl) rfl
theorem q6047 : (Jvm.Cond.code ({ cls := "TypeHouseModel", name := "soft", desc := "()V" } : Jvm.MethodName) prog_37_method_183_code (3 : Nat) (Option.none : Option Jvm.ClassFile.FieldType)) ∈ lw_all := lw_g (lw_at lw_m24 102 rfl) rfl
abbrev cX35_digits : ByteArray := prog_37_method_80_code
def yX35_digits : MethodName := ⟨RX35, "digits", "(I)I"⟩
def YX35_digits : eY := (yX35_digits, cX35_digits, 5, (Option.some FieldType.int), [])
theorem mX35_digits : e_mv YX35_digits RX35 1 := ⟨q5237, qs270, q5238, by decide, by decide +kernel, (e_sig (by decide +kernel))⟩
theorem dX35_digits_0 : decode cX35_digits 0 = .ok (.lconst 0, 1) := dc_9 (by decide +kernel)
theorem dX35_digits_1 : decode cX35_digits 1 = .ok (.lstore_n 2, 1) := dc_65 (by decide +kernel)
theorem dX35_digits_2 : decode cX35_digits 2 = .ok (.iload_n 1, 1) := dc_27 (by decide +kernel)
theorem dX35_digits_3 : decode cX35_digits 3 = .ok (.istore 4, 2) := dc_54 (a := 4) (by decide +kernel)
theorem dX35_digits_5 : decode cX35_digits 5 = .ok (.iload 4, 2) := dc_21 (a := 4) (by decide +kernel)
theorem dX35_digits_7 : decode cX35_digits 7 = .ok (.invokestatic 643, 3) := dc_184 (a := 2) (b := 131) (n := 643) (by decide +kernel)
theorem dX35_digits_10 : decode cX35_digits 10 = .ok (.ifCond .eq 51, 3) := dc_153 (a := 0) (b := 51) (v := 51) (by decide +kernel)
theorem dX35_digits_13 : decode cX35_digits 13 = .ok (.aload_n 0, 1) := dc_42 (by decide +kernel)
theorem dX35_digits_14 : decode cX35_digits 14 = .ok (.getfield 321, 3) := dc_180 (a := 1) (b := 65) (n := 321) (by decide +kernel)
theorem dX35_digits_17 : decode cX35_digits 17 = .ok (.ifCond .ne 44, 3) := dc_154 (a := 0) (b := 44) (v := 44) (by decide +kernel)
theorem dX35_digits_20 : decode cX35_digits 20 = .ok (.ldc2_w 562, 3) := dc_20 (a := 2) (b := 50) (n := 562) (by decide +kernel)
theorem dX35_digits_23 : decode cX35_digits 23 = .ok (.lload_n 2, 1) := dc_32 (by decide +kernel)
theorem dX35_digits_24 : decode cX35_digits 24 = .ok (.lmul, 1) := dc_105 (by decide +kernel)
theorem dX35_digits_25 : decode cX35_digits 25 = .ok (.iload 4, 2) := dc_21 (a := 4) (by decide +kernel)
theorem dX35_digits_27 : decode cX35_digits 27 = .ok (.sipush 256, 3) := dc_17 (a := 1) (b := 0) (v := 256) (by decide +kernel)
theorem dX35_digits_30 : decode cX35_digits 30 = .ok (.irem, 1) := dc_112 (by decide +kernel)
theorem dX35_digits_31 : decode cX35_digits 31 = .ok (.i2l, 1) := dc_133 (by decide +kernel)
theorem dX35_digits_32 : decode cX35_digits 32 = .ok (.ladd, 1) := dc_97 (by decide +kernel)
theorem dX35_digits_33 : decode cX35_digits 33 = .ok (.ldc2_w 560, 3) := dc_20 (a := 2) (b := 48) (n := 560) (by decide +kernel)
theorem dX35_digits_36 : decode cX35_digits 36 = .ok (.lsub, 1) := dc_101 (by decide +kernel)
theorem dX35_digits_37 : decode cX35_digits 37 = .ok (.lstore_n 2, 1) := dc_65 (by decide +kernel)
theorem dX35_digits_38 : decode cX35_digits 38 = .ok (.lload_n 2, 1) := dc_32 (by decide +kernel)
theorem dX35_digits_39 : decode cX35_digits 39 = .ok (.ldc2_w 646, 3) := dc_20 (a := 2) (b := 134) (n := 646) (by decide +kernel)
theorem dX35_digits_42 : decode cX35_digits 42 = .ok (.lcmp, 1) := dc_148 (by decide +kernel)
theorem dX35_digits_43 : decode cX35_digits 43 = .ok (.ifCond .le 9, 3) := dc_158 (a := 0) (b := 9) (v := 9) (by decide +kernel)
theorem dX35_digits_46 : decode cX35_digits 46 = .ok (.aload_n 0, 1) := dc_42 (by decide +kernel)
theorem dX35_digits_47 : decode cX35_digits 47 = .ok (.bipush 7, 2) := dc_16 (a := 7) (v := 7) (by decide +kernel)
theorem dX35_digits_49 : decode cX35_digits 49 = .ok (.invokevirtual 428, 3) := dc_182 (a := 1) (b := 172) (n := 428) (by decide +kernel)
theorem dX35_digits_52 : decode cX35_digits 52 = .ok (.aload_n 0, 1) := dc_42 (by decide +kernel)
theorem dX35_digits_53 : decode cX35_digits 53 = .ok (.invokevirtual 487, 3) := dc_182 (a := 1) (b := 231) (n := 487) (by decide +kernel)
theorem dX35_digits_56 : decode cX35_digits 56 = .ok (.istore 4, 2) := dc_54 (a := 4) (by decide +kernel)
theorem dX35_digits_58 : decode cX35_digits 58 = .ok (.goto (-53), 3) := dc_167 (a := 255) (b := 203) (v := -53) (by decide +kernel)
theorem dX35_digits_61 : decode cX35_digits 61 = .ok (.aload_n 0, 1) := dc_42 (by decide +kernel)
theorem dX35_digits_62 : decode cX35_digits 62 = .ok (.getfield 321, 3) := dc_180 (a := 1) (b := 65) (n := 321) (by decide +kernel)
theorem dX35_digits_65 : decode cX35_digits 65 = .ok (.ifCond .ne 19, 3) := dc_154 (a := 0) (b := 19) (v := 19) (by decide +kernel)
theorem dX35_digits_68 : decode cX35_digits 68 = .ok (.iload 4, 2) := dc_21 (a := 4) (by decide +kernel)
theorem dX35_digits_70 : decode cX35_digits 70 = .ok (.bipush 10, 2) := dc_16 (a := 10) (v := 10) (by decide +kernel)
theorem dX35_digits_72 : decode cX35_digits 72 = .ok (.invokestatic 493, 3) := dc_184 (a := 1) (b := 237) (n := 493) (by decide +kernel)
theorem dX35_digits_75 : decode cX35_digits 75 = .ok (.ifCond .ne 9, 3) := dc_154 (a := 0) (b := 9) (v := 9) (by decide +kernel)
theorem dX35_digits_78 : decode cX35_digits 78 = .ok (.aload_n 0, 1) := dc_42 (by decide +kernel)
theorem dX35_digits_79 : decode cX35_digits 79 = .ok (.iload 4, 2) := dc_21 (a := 4) (by decide +kernel)
theorem dX35_digits_81 : decode cX35_digits 81 = .ok (.invokevirtual 509, 3) := dc_182 (a := 1) (b := 253) (n := 509) (by decide +kernel)
theorem dX35_digits_84 : decode cX35_digits 84 = .ok (.aload_n 0, 1) := dc_42 (by decide +kernel)
theorem dX35_digits_85 : decode cX35_digits 85 = .ok (.getfield 321, 3) := dc_180 (a := 1) (b := 65) (n := 321) (by decide +kernel)
theorem dX35_digits_88 : decode cX35_digits 88 = .ok (.ifCond .le 7, 3) := dc_158 (a := 0) (b := 7) (v := 7) (by decide +kernel)
theorem dX35_digits_91 : decode cX35_digits 91 = .ok (.iconst 0, 1) := dc_3 (by decide +kernel)
theorem dX35_digits_92 : decode cX35_digits 92 = .ok (.goto 5, 3) := dc_167 (a := 0) (b := 5) (v := 5) (by decide +kernel)
theorem dX35_digits_95 : decode cX35_digits 95 = .ok (.lload_n 2, 1) := dc_32 (by decide +kernel)
theorem dX35_digits_96 : decode cX35_digits 96 = .ok (.l2i, 1) := dc_136 (by decide +kernel)
theorem dX35_digits_97 : decode cX35_digits 97 = .ok (.ireturn, 1) := dc_172 (by decide +kernel)
def fX35_digits_b52 (N : Nat) (sE : Nat → Int32 → eH → Option (Unit × eH)) (k5 : Nat → Int64 → Int32 → eH → Option (Int32 × eH)) (l0 : Nat) (l2 : Int64) (h : eH) : Option (Int32 × eH) :=
  (k_ok 34 h l0).bind fun _ =>
  (fX35_getExpanded N sE l0 h).bind fun q2 =>
  k5 l0 l2 q2.1 q2.2
theorem pX35_digits_b52 {w : eW} {d : Nat} {dr : Nat} (hd : dr + 6 ≤ d + 1) (hdr : 12 ≤ dr) {N : Nat} {sE : Nat → Int32 → eH → Option (Unit × eH)} (hsE : ∀ a t0 h q, sE a t0 h = some q → wm w dr YX35_expand [.ref a, .int t0] h (e_is (e_rn c_V q))) {k5 : Nat → Int64 → Int32 → eH → Option (Int32 × eH)} (hk5 : ∀ l0 l2 l4 h q, k5 l0 l2 l4 h = some q → wp w (d + 1) YX35_digits 5 [some (.ref l0), none, some (.long l2), none, some (.int l4)] [] h (e_is (e_rn c_I q))) {l0 : Nat} {l2 : Int64} {h : eH} {q} (hf : fX35_digits_b52 N sE k5 l0 l2 h = some q) : wp w (d + 1) YX35_digits 52 [some (.ref l0), none, some (.long l2), none, none] [] h (e_is (e_rn c_I q)) := by
  unfold fX35_digits_b52 at hf
  refine w_aload_n dX35_digits_52 rfl rfl ?_
  obtain ⟨_, b1, hf⟩ := Option.bind_eq_some_iff.mp hf
  refine x_cnI hf (e_stV (Yc := YX35_getExpanded) (ci := 34) (av := []) (st := []) dX35_digits_53 q5077 mX35_getExpanded rfl (k_ok_some b1).1 (k_ok_some b1).2) mX35_getExpanded.2.2.1 mX35_getExpanded.2.2.2.2.1 (Nat.le_of_ble_eq_true rfl) (Nat.le_of_ble_eq_true rfl) (fun q hq => pX35_getExpanded (by omega) hdr hsE hq) (fun q2 hf => ?_)
  refine w_istore dX35_digits_56 (by decide) (ls' := [some (.ref l0), none, some (.long l2), none, some (.int q2.1)]) rfl ?_
  refine w_goto 5 dX35_digits_58 (by decide) ?_
  exact (hk5 _ _ _ _ _ hf).to ⟨rfl, rfl, rfl, trivial⟩
def fX35_digits_b97 (N : Nat) (sE : Nat → Int32 → eH → Option (Unit × eH)) (s0 : Int32) (h : eH) : Option (Int32 × eH) :=
  some (s0, h)
theorem pX35_digits_b97 {w : eW} {d : Nat} {dr : Nat} (hd : dr + 6 ≤ d + 1) (hdr : 12 ≤ dr) {N : Nat} {sE : Nat → Int32 → eH → Option (Unit × eH)} (hsE : ∀ a t0 h q, sE a t0 h = some q → wm w dr YX35_expand [.ref a, .int t0] h (e_is (e_rn c_V q))) {s0 : Int32} {h : eH} {q} (hf : fX35_digits_b97 N sE s0 h = some q) : wp w (d + 1) YX35_digits 97 [none, none, none, none, none] [.int s0] h (e_is (e_rn c_I q)) := by
  unfold fX35_digits_b97 at hf
  cases hf
  exact w_iret dX35_digits_97 rfl rfl rfl
def fX35_digits_b84 (N : Nat) (sE : Nat → Int32 → eH → Option (Unit × eH)) (l0 : Nat) (l2 : Int64) (h : eH) : Option (Int32 × eH) :=
  (g_I 34 h l0 46).bind fun x1 =>
  if x1 ≤ 0 then
    fX35_digits_b97 N sE (l2).toInt32 h
  else
    fX35_digits_b97 N sE (0 : Int32) h
theorem pX35_digits_b84 {w : eW} {d : Nat} {dr : Nat} (hd : dr + 6 ≤ d + 1) (hdr : 12 ≤ dr) {N : Nat} {sE : Nat → Int32 → eH → Option (Unit × eH)} (hsE : ∀ a t0 h q, sE a t0 h = some q → wm w dr YX35_expand [.ref a, .int t0] h (e_is (e_rn c_V q))) {l0 : Nat} {l2 : Int64} {h : eH} {q} (hf : fX35_digits_b84 N sE l0 l2 h = some q) : wp w (d + 1) YX35_digits 84 [some (.ref l0), none, some (.long l2), none, none] [] h (e_is (e_rn c_I q)) := by
  unfold fX35_digits_b84 at hf
  refine w_aload_n dX35_digits_84 rfl rfl ?_
  obtain ⟨x1, b2, hf⟩ := Option.bind_eq_some_iff.mp hf
  refine GX35_321 b2 dX35_digits_85 rfl ?_
  refine w_if_le 95 dX35_digits_88 (by decide) (fun c3 => ?_) (fun c3 => ?_)
  · replace hf := (if_pos (show x1 ≤ 0 from c3)).symm.trans hf
    refine w_lload_n dX35_digits_95 rfl rfl ?_
    refine w_l2i dX35_digits_96 ?_
    exact (pX35_digits_b97 hd hdr hsE hf).to trivial
  · replace hf := (if_neg (show ¬ (x1 ≤ 0) from c3)).symm.trans hf
    refine w_iconst dX35_digits_91 (v := 0) (by decide) ?_
    refine w_goto 97 dX35_digits_92 (by decide) ?_
    exact (pX35_digits_b97 hd hdr hsE hf).to trivial
def fX35_digits_b61 (N : Nat) (sE : Nat → Int32 → eH → Option (Unit × eH)) (l0 : Nat) (l2 : Int64) (l4 : Int32) (h : eH) : Option (Int32 × eH) :=
  (g_I 34 h l0 46).bind fun x1 =>
  if ¬ x1 = 0 then
    fX35_digits_b84 N sE l0 l2 h
  else
    (fX35_isOf l4 (10 : Int32) h).bind fun q4 =>
    if ¬ q4.1 = 0 then
      fX35_digits_b84 N sE l0 l2 q4.2
    else
      (k_ok 34 q4.2 l0).bind fun _ =>
      (fX35_put l0 l4 q4.2).bind fun q7 =>
      fX35_digits_b84 N sE l0 l2 q7.2
theorem pX35_digits_b61 {w : eW} {d : Nat} {dr : Nat} (hd : dr + 6 ≤ d + 1) (hdr : 12 ≤ dr) {N : Nat} {sE : Nat → Int32 → eH → Option (Unit × eH)} (hsE : ∀ a t0 h q, sE a t0 h = some q → wm w dr YX35_expand [.ref a, .int t0] h (e_is (e_rn c_V q))) {l0 : Nat} {l2 : Int64} {l4 : Int32} {h : eH} {q} (hf : fX35_digits_b61 N sE l0 l2 l4 h = some q) : wp w (d + 1) YX35_digits 61 [some (.ref l0), none, some (.long l2), none, some (.int l4)] [] h (e_is (e_rn c_I q)) := by
  unfold fX35_digits_b61 at hf
  refine w_aload_n dX35_digits_61 rfl rfl ?_
  obtain ⟨x1, b2, hf⟩ := Option.bind_eq_some_iff.mp hf
  refine GX35_321 b2 dX35_digits_62 rfl ?_
  refine w_if_ne 84 dX35_digits_65 (by decide) (fun c3 => ?_) (fun c3 => ?_)
  · replace hf := (if_pos (show ¬ x1 = 0 from c3)).symm.trans hf
    exact (pX35_digits_b84 hd hdr hsE hf).to ⟨rfl, rfl, trivial⟩
  · replace hf := (if_neg (show ¬ (¬ x1 = 0) from (fun z => z c3))).symm.trans hf
    refine w_iload dX35_digits_68 rfl ?_
    refine w_bipush dX35_digits_70 (v := 10) (by decide) ?_
    refine x_cnI hf (e_stS (Yc := YX35_isOf) (av := [.int l4, .int (10 : Int32)]) (st := []) dX35_digits_72 q5166 mX35_isOf) mX35_isOf.2.2.1 mX35_isOf.2.2.2.2.1 (Nat.le_of_ble_eq_true rfl) (Nat.le_of_ble_eq_true rfl) (fun q hq => pX35_isOf (by omega) hq) (fun q4 hf => ?_)
    refine w_if_ne 84 dX35_digits_75 (by decide) (fun c5 => ?_) (fun c5 => ?_)
    · replace hf := (if_pos (show ¬ q4.1 = 0 from c5)).symm.trans hf
      exact (pX35_digits_b84 hd hdr hsE hf).to ⟨rfl, rfl, trivial⟩
    · replace hf := (if_neg (show ¬ (¬ q4.1 = 0) from (fun z => z c5))).symm.trans hf
      refine w_aload_n dX35_digits_78 rfl rfl ?_
      refine w_iload dX35_digits_79 rfl ?_
      obtain ⟨_, b6, hf⟩ := Option.bind_eq_some_iff.mp hf
      refine x_cnV hf (e_stV (Yc := YX35_put) (ci := 34) (av := [.int l4]) (st := []) dX35_digits_81 q5181 mX35_put rfl (k_ok_some b6).1 (k_ok_some b6).2) mX35_put.2.2.1 mX35_put.2.2.2.2.1 (Nat.le_of_ble_eq_true rfl) (Nat.le_of_ble_eq_true rfl) (fun q hq => pX35_put (by omega) hq) (fun q7 hf => ?_)
      exact (pX35_digits_b84 hd hdr hsE hf).to ⟨rfl, rfl, trivial⟩
def fX35_digits_b5 (N : Nat) (sE : Nat → Int32 → eH → Option (Unit × eH)) : Nat → Nat → Int64 → Int32 → eH → Option (Int32 × eH)
  | 0, _, _, _, _ => none
  | n + 1, l0, l2, l4, h =>
    (fX35_isDigit l4 h).bind fun q1 =>
    if q1.1 = 0 then
      fX35_digits_b61 N sE l0 l2 l4 q1.2
    else
      (g_I 34 q1.2 l0 46).bind fun x3 =>
      if ¬ x3 = 0 then
        fX35_digits_b61 N sE l0 l2 l4 q1.2
      else
        if (lg_cmp ((((10 : Int64) * l2) + ((l4 - l4 / (256 : Int32) * (256 : Int32))).toInt64) - (48 : Int64)) (2147483647 : Int64)) ≤ 0 then
          fX35_digits_b52 N sE (fX35_digits_b5 N sE n) l0 ((((10 : Int64) * l2) + ((l4 - l4 / (256 : Int32) * (256 : Int32))).toInt64) - (48 : Int64)) q1.2
        else
          (k_ok 34 q1.2 l0).bind fun _ =>
          (fX35_fail l0 (7 : Int32) q1.2).bind fun q8 =>
          fX35_digits_b52 N sE (fX35_digits_b5 N sE n) l0 ((((10 : Int64) * l2) + ((l4 - l4 / (256 : Int32) * (256 : Int32))).toInt64) - (48 : Int64)) q8.2
theorem pX35_digits_b5 {w : eW} {d : Nat} {dr : Nat} (hd : dr + 6 ≤ d + 1) (hdr : 12 ≤ dr) {N : Nat} {sE : Nat → Int32 → eH → Option (Unit × eH)} (hsE : ∀ a t0 h q, sE a t0 h = some q → wm w dr YX35_expand [.ref a, .int t0] h (e_is (e_rn c_V q))) : ∀ (n : Nat) l0 l2 l4 h q, fX35_digits_b5 N sE n l0 l2 l4 h = some q → wp w (d + 1) YX35_digits 5 [some (.ref l0), none, some (.long l2), none, some (.int l4)] [] h (e_is (e_rn c_I q)) := by
  intro n
  induction n with
  | zero => intro l0 l2 l4 h q hf; simp [fX35_digits_b5] at hf
  | succ n ih =>
    intro l0 l2 l4 h q hf
    rw [fX35_digits_b5] at hf
    refine w_iload dX35_digits_5 rfl ?_
    refine x_cnI hf (e_stS (Yc := YX35_isDigit) (av := [.int l4]) (st := []) dX35_digits_7 q5232 mX35_isDigit) mX35_isDigit.2.2.1 mX35_isDigit.2.2.2.2.1 (Nat.le_of_ble_eq_true rfl) (Nat.le_of_ble_eq_true rfl) (fun q hq => pX35_isDigit (by omega) hq) (fun q1 hf => ?_)
    refine w_if_eq 61 dX35_digits_10 (by decide) (fun c2 => ?_) (fun c2 => ?_)
    · replace hf := (if_pos (show q1.1 = 0 from c2)).symm.trans hf
      exact (pX35_digits_b61 hd hdr hsE hf).to ⟨rfl, rfl, rfl, trivial⟩
    · replace hf := (if_neg (show ¬ (q1.1 = 0) from c2)).symm.trans hf
      refine w_aload_n dX35_digits_13 rfl rfl ?_
      obtain ⟨x3, b4, hf⟩ := Option.bind_eq_some_iff.mp hf
      refine GX35_321 b4 dX35_digits_14 rfl ?_
      refine w_if_ne 61 dX35_digits_17 (by decide) (fun c5 => ?_) (fun c5 => ?_)
      · replace hf := (if_pos (show ¬ x3 = 0 from c5)).symm.trans hf
        exact (pX35_digits_b61 hd hdr hsE hf).to ⟨rfl, rfl, rfl, trivial⟩
      · replace hf := (if_neg (show ¬ (¬ x3 = 0) from (fun z => z c5))).symm.trans hf
        refine w_ldc2 dX35_digits_20 q5239 ?_
        refine w_lload_n dX35_digits_23 rfl rfl ?_
        refine w_lmul dX35_digits_24 ?_
        refine w_iload dX35_digits_25 rfl ?_
        refine w_sipush dX35_digits_27 (v := 256) (by decide) ?_
        refine w_irem dX35_digits_30 (by decide) ?_
        refine w_i2l dX35_digits_31 ?_
        refine w_ladd dX35_digits_32 ?_
        refine w_ldc2 dX35_digits_33 q5240 ?_
        refine w_lsub dX35_digits_36 ?_
        refine w_lstore_n dX35_digits_37 rfl (by decide) (ls' := [some (.ref l0), none, some (.long ((((10 : Int64) * l2) + ((l4 - l4 / (256 : Int32) * (256 : Int32))).toInt64) - (48 : Int64))), none, some (.int l4)]) rfl ?_
        refine w_lload_n dX35_digits_38 rfl rfl ?_
        refine w_ldc2 dX35_digits_39 q5241 ?_
        refine w_lcmp dX35_digits_42 ?_
        refine w_if_le 52 dX35_digits_43 (by decide) (fun c6 => ?_) (fun c6 => ?_)
        · replace hf := (if_pos (show (lg_cmp ((((10 : Int64) * l2) + ((l4 - l4 / (256 : Int32) * (256 : Int32))).toInt64) - (48 : Int64)) (2147483647 : Int64)) ≤ 0 from c6)).symm.trans hf
          exact (pX35_digits_b52 hd hdr hsE ih hf).to ⟨rfl, rfl, trivial⟩
        · replace hf := (if_neg (show ¬ ((lg_cmp ((((10 : Int64) * l2) + ((l4 - l4 / (256 : Int32) * (256 : Int32))).toInt64) - (48 : Int64)) (2147483647 : Int64)) ≤ 0) from c6)).symm.trans hf
          refine w_aload_n dX35_digits_46 rfl rfl ?_
          refine w_bipush dX35_digits_47 (v := 7) (by decide) ?_
          obtain ⟨_, b7, hf⟩ := Option.bind_eq_some_iff.mp hf
          refine x_cnV hf (e_stV (Yc := YX35_fail) (ci := 34) (av := [.int (7 : Int32)]) (st := []) dX35_digits_49 q5109 mX35_fail rfl (k_ok_some b7).1 (k_ok_some b7).2) mX35_fail.2.2.1 mX35_fail.2.2.2.2.1 (Nat.le_of_ble_eq_true rfl) (Nat.le_of_ble_eq_true rfl) (fun q hq => pX35_fail (by omega) hq) (fun q8 hf => ?_)
          exact (pX35_digits_b52 hd hdr hsE ih hf).to ⟨rfl, rfl, trivial⟩
def fX35_digits (N : Nat) (sE : Nat → Int32 → eH → Option (Unit × eH)) (this : Nat) (p0 : Int32) (h : eH) : Option (Int32 × eH) :=
  fX35_digits_b5 N sE N this (0 : Int64) p0 h
theorem pX35_digits {w : eW} {d : Nat} {dr : Nat} (hd : dr + 6 ≤ d) (hdr : 12 ≤ dr) {N : Nat} {sE : Nat → Int32 → eH → Option (Unit × eH)} (hsE : ∀ a t0 h q, sE a t0 h = some q → wm w dr YX35_expand [.ref a, .int t0] h (e_is (e_rn c_V q))) {this : Nat} {p0 : Int32} {h : eH} {q} (hf : fX35_digits N sE this p0 h = some q) : wm w d YX35_digits [.ref this, .int p0] h (e_is (e_rn c_I q)) := by
  obtain ⟨d, rfl⟩ : ∃ e, d = e + 1 := ⟨d - 1, by omega⟩
  show wp w (d + 1) YX35_digits 0 [some (.ref this), some (.int p0), none, none, none] [] h _
  unfold fX35_digits at hf
  refine w_lconst dX35_digits_0 (v := 0) (by decide) ?_
  refine w_lstore_n dX35_digits_1 rfl (by decide) (ls' := [some (.ref this), some (.int p0), some (.long (0 : Int64)), none, none]) rfl ?_
  refine w_iload_n dX35_digits_2 rfl rfl ?_
  refine w_istore dX35_digits_3 (by decide) (ls' := [some (.ref this), some (.int p0), some (.long (0 : Int64)), none, some (.int p0)]) rfl ?_
  exact (pX35_digits_b5 hd hdr hsE N _ _ _ _ _ hf).to ⟨rfl, rfl, rfl, trivial⟩
abbrev cX35_openGroup : ByteArray := prog_37_method_164_code
def yX35_openGroup : MethodName := ⟨RX35, "openGroup", "(I)V"⟩
def YX35_openGroup : eY := (yX35_openGroup, cX35_openGroup, 3, none, [])
theorem mX35_openGroup : e_mv YX35_openGroup RX35 1 := ⟨q5732, qs363, q5733, by decide, by decide +kernel, (e_sig (by decide +kernel))⟩
theorem dX35_openGroup_0 : decode cX35_openGroup 0 = .ok (.aload_n 0, 1) := dc_42 (by decide +kernel)
theorem dX35_openGroup_1 : decode cX35_openGroup 1 = .ok (.getfield 323, 3) := dc_180 (a := 1) (b := 67) (n := 323) (by decide +kernel)
theorem dX35_openGroup_4 : decode cX35_openGroup 4 = .ok (.bipush 100, 2) := dc_16 (a := 100) (v := 100) (by decide +kernel)
theorem dX35_openGroup_6 : decode cX35_openGroup 6 = .ok (.if_icmp .ne 8, 3) := dc_160 (a := 0) (b := 8) (v := 8) (by decide +kernel)
theorem dX35_openGroup_9 : decode cX35_openGroup 9 = .ok (.aload_n 0, 1) := dc_42 (by decide +kernel)
theorem dX35_openGroup_10 : decode cX35_openGroup 10 = .ok (.iconst 2, 1) := dc_5 (by decide +kernel)
theorem dX35_openGroup_11 : decode cX35_openGroup 11 = .ok (.invokevirtual 428, 3) := dc_182 (a := 1) (b := 172) (n := 428) (by decide +kernel)
theorem dX35_openGroup_14 : decode cX35_openGroup 14 = .ok (.aload_n 0, 1) := dc_42 (by decide +kernel)
theorem dX35_openGroup_15 : decode cX35_openGroup 15 = .ok (.getfield 321, 3) := dc_180 (a := 1) (b := 65) (n := 321) (by decide +kernel)
theorem dX35_openGroup_18 : decode cX35_openGroup 18 = .ok (.ifCond .le 4, 3) := dc_158 (a := 0) (b := 4) (v := 4) (by decide +kernel)
theorem dX35_openGroup_21 : decode cX35_openGroup 21 = .ok (.return_, 1) := dc_177 (by decide +kernel)
theorem dX35_openGroup_22 : decode cX35_openGroup 22 = .ok (.iconst 0, 1) := dc_3 (by decide +kernel)
theorem dX35_openGroup_23 : decode cX35_openGroup 23 = .ok (.istore_n 2, 1) := dc_61 (by decide +kernel)
theorem dX35_openGroup_24 : decode cX35_openGroup 24 = .ok (.iload_n 2, 1) := dc_28 (by decide +kernel)
theorem dX35_openGroup_25 : decode cX35_openGroup 25 = .ok (.sipush 3812, 3) := dc_17 (a := 14) (b := 228) (v := 3812) (by decide +kernel)
theorem dX35_openGroup_28 : decode cX35_openGroup 28 = .ok (.if_icmp .ge 41, 3) := dc_162 (a := 0) (b := 41) (v := 41) (by decide +kernel)
theorem dX35_openGroup_31 : decode cX35_openGroup 31 = .ok (.aload_n 0, 1) := dc_42 (by decide +kernel)
theorem dX35_openGroup_32 : decode cX35_openGroup 32 = .ok (.getfield 65, 3) := dc_180 (a := 0) (b := 65) (n := 65) (by decide +kernel)
theorem dX35_openGroup_35 : decode cX35_openGroup 35 = .ok (.sipush 3812, 3) := dc_17 (a := 14) (b := 228) (v := 3812) (by decide +kernel)
theorem dX35_openGroup_38 : decode cX35_openGroup 38 = .ok (.aload_n 0, 1) := dc_42 (by decide +kernel)
theorem dX35_openGroup_39 : decode cX35_openGroup 39 = .ok (.getfield 323, 3) := dc_180 (a := 1) (b := 67) (n := 323) (by decide +kernel)
theorem dX35_openGroup_42 : decode cX35_openGroup 42 = .ok (.iconst 1, 1) := dc_4 (by decide +kernel)
theorem dX35_openGroup_43 : decode cX35_openGroup 43 = .ok (.iadd, 1) := dc_96 (by decide +kernel)
theorem dX35_openGroup_44 : decode cX35_openGroup 44 = .ok (.imul, 1) := dc_104 (by decide +kernel)
theorem dX35_openGroup_45 : decode cX35_openGroup 45 = .ok (.iload_n 2, 1) := dc_28 (by decide +kernel)
theorem dX35_openGroup_46 : decode cX35_openGroup 46 = .ok (.iadd, 1) := dc_96 (by decide +kernel)
theorem dX35_openGroup_47 : decode cX35_openGroup 47 = .ok (.aload_n 0, 1) := dc_42 (by decide +kernel)
theorem dX35_openGroup_48 : decode cX35_openGroup 48 = .ok (.getfield 65, 3) := dc_180 (a := 0) (b := 65) (n := 65) (by decide +kernel)
theorem dX35_openGroup_51 : decode cX35_openGroup 51 = .ok (.sipush 3812, 3) := dc_17 (a := 14) (b := 228) (v := 3812) (by decide +kernel)
theorem dX35_openGroup_54 : decode cX35_openGroup 54 = .ok (.aload_n 0, 1) := dc_42 (by decide +kernel)
theorem dX35_openGroup_55 : decode cX35_openGroup 55 = .ok (.getfield 323, 3) := dc_180 (a := 1) (b := 67) (n := 323) (by decide +kernel)
theorem dX35_openGroup_58 : decode cX35_openGroup 58 = .ok (.imul, 1) := dc_104 (by decide +kernel)
theorem dX35_openGroup_59 : decode cX35_openGroup 59 = .ok (.iload_n 2, 1) := dc_28 (by decide +kernel)
theorem dX35_openGroup_60 : decode cX35_openGroup 60 = .ok (.iadd, 1) := dc_96 (by decide +kernel)
theorem dX35_openGroup_61 : decode cX35_openGroup 61 = .ok (.iaload, 1) := dc_46 (by decide +kernel)
theorem dX35_openGroup_62 : decode cX35_openGroup 62 = .ok (.iastore, 1) := dc_79 (by decide +kernel)
theorem dX35_openGroup_63 : decode cX35_openGroup 63 = .ok (.iinc 2 1, 3) := dc_132 (a := 2) (b := 1) (v := 1) (by decide +kernel)
theorem dX35_openGroup_66 : decode cX35_openGroup 66 = .ok (.goto (-42), 3) := dc_167 (a := 255) (b := 214) (v := -42) (by decide +kernel)
theorem dX35_openGroup_69 : decode cX35_openGroup 69 = .ok (.aload_n 0, 1) := dc_42 (by decide +kernel)
theorem dX35_openGroup_70 : decode cX35_openGroup 70 = .ok (.dup, 1) := dc_89 (by decide +kernel)
theorem dX35_openGroup_71 : decode cX35_openGroup 71 = .ok (.getfield 323, 3) := dc_180 (a := 1) (b := 67) (n := 323) (by decide +kernel)
theorem dX35_openGroup_74 : decode cX35_openGroup 74 = .ok (.iconst 1, 1) := dc_4 (by decide +kernel)
theorem dX35_openGroup_75 : decode cX35_openGroup 75 = .ok (.iadd, 1) := dc_96 (by decide +kernel)
theorem dX35_openGroup_76 : decode cX35_openGroup 76 = .ok (.putfield 323, 3) := dc_181 (a := 1) (b := 67) (n := 323) (by decide +kernel)
theorem dX35_openGroup_79 : decode cX35_openGroup 79 = .ok (.aload_n 0, 1) := dc_42 (by decide +kernel)
theorem dX35_openGroup_80 : decode cX35_openGroup 80 = .ok (.getfield 68, 3) := dc_180 (a := 0) (b := 68) (n := 68) (by decide +kernel)
theorem dX35_openGroup_83 : decode cX35_openGroup 83 = .ok (.aload_n 0, 1) := dc_42 (by decide +kernel)
theorem dX35_openGroup_84 : decode cX35_openGroup 84 = .ok (.getfield 323, 3) := dc_180 (a := 1) (b := 67) (n := 323) (by decide +kernel)
theorem dX35_openGroup_87 : decode cX35_openGroup 87 = .ok (.iload_n 1, 1) := dc_27 (by decide +kernel)
theorem dX35_openGroup_88 : decode cX35_openGroup 88 = .ok (.iastore, 1) := dc_79 (by decide +kernel)
theorem dX35_openGroup_89 : decode cX35_openGroup 89 = .ok (.return_, 1) := dc_177 (by decide +kernel)
def fX35_openGroup_b24 (N : Nat) : Nat → Nat → Int32 → Int32 → eH → Option (Unit × eH)
  | 0, _, _, _, _ => none
  | n + 1, l0, l1, l2, h =>
    if (3812 : Int32) ≤ l2 then
      (g_I 34 h l0 21).bind fun x2 =>
      (p_V 34 h l0 21 (.int (x2 + (1 : Int32)))).bind fun h4 =>
      (g_A 34 h4 l0 23).bind fun a6 =>
      (g_I 34 h4 l0 21).bind fun x8 =>
      (q_V 100 h4 a6 x8 (.int l1)).bind fun h10 =>
      some ((), h10)
    else
      (g_A 34 h l0 22).bind fun a12 =>
      (g_I 34 h l0 21).bind fun x14 =>
      (g_A 34 h l0 22).bind fun a16 =>
      (g_I 34 h l0 21).bind fun x18 =>
      (r_I 100 h a16 (((3812 : Int32) * x18) + l2)).bind fun x20 =>
      (q_V 100 h a12 (((3812 : Int32) * (x14 + (1 : Int32))) + l2) (.int x20)).bind fun h22 =>
      fX35_openGroup_b24 N n l0 l1 (l2 + (1 : Int32)) h22
theorem pX35_openGroup_b24 {w : eW} {d : Nat} (hd : 1 ≤ d + 1) {N : Nat} : ∀ (n : Nat) l0 l1 l2 h q, fX35_openGroup_b24 N n l0 l1 l2 h = some q → wp w (d + 1) YX35_openGroup 24 [some (.ref l0), some (.int l1), some (.int l2)] [] h (e_is (e_rn c_V q)) := by
  intro n
  induction n with
  | zero => intro l0 l1 l2 h q hf; simp [fX35_openGroup_b24] at hf
  | succ n ih =>
    intro l0 l1 l2 h q hf
    rw [fX35_openGroup_b24] at hf
    refine w_iload_n dX35_openGroup_24 rfl rfl ?_
    refine w_sipush dX35_openGroup_25 (v := 3812) (by decide) ?_
    refine w_icmp_ge 69 dX35_openGroup_28 (by decide) (fun c1 => ?_) (fun c1 => ?_)
    · replace hf := (if_pos (show (3812 : Int32) ≤ l2 from c1)).symm.trans hf
      refine w_aload_n dX35_openGroup_69 rfl rfl ?_
      refine w_dup dX35_openGroup_70 rfl ?_
      obtain ⟨x2, b3, hf⟩ := Option.bind_eq_some_iff.mp hf
      refine GX35_323 b3 dX35_openGroup_71 rfl ?_
      refine w_iconst dX35_openGroup_74 (v := 1) (by decide) ?_
      refine w_iadd dX35_openGroup_75 ?_
      obtain ⟨h4, b5, hf⟩ := Option.bind_eq_some_iff.mp hf
      refine SX35_323 b5 dX35_openGroup_76 rfl ?_
      refine w_aload_n dX35_openGroup_79 rfl rfl ?_
      obtain ⟨a6, b7, hf⟩ := Option.bind_eq_some_iff.mp hf
      refine GX35_68 b7 dX35_openGroup_80 rfl ?_
      refine w_aload_n dX35_openGroup_83 rfl rfl ?_
      obtain ⟨x8, b9, hf⟩ := Option.bind_eq_some_iff.mp hf
      refine GX35_323 b9 dX35_openGroup_84 rfl ?_
      refine w_iload_n dX35_openGroup_87 rfl rfl ?_
      obtain ⟨h10, b11, hf⟩ := Option.bind_eq_some_iff.mp hf
      refine x_qI b11 dX35_openGroup_88 ?_
      cases hf
      exact w_vret dX35_openGroup_89 rfl rfl
    · replace hf := (if_neg (show ¬ ((3812 : Int32) ≤ l2) from c1)).symm.trans hf
      refine w_aload_n dX35_openGroup_31 rfl rfl ?_
      obtain ⟨a12, b13, hf⟩ := Option.bind_eq_some_iff.mp hf
      refine GX35_65 b13 dX35_openGroup_32 rfl ?_
      refine w_sipush dX35_openGroup_35 (v := 3812) (by decide) ?_
      refine w_aload_n dX35_openGroup_38 rfl rfl ?_
      obtain ⟨x14, b15, hf⟩ := Option.bind_eq_some_iff.mp hf
      refine GX35_323 b15 dX35_openGroup_39 rfl ?_
      refine w_iconst dX35_openGroup_42 (v := 1) (by decide) ?_
      refine w_iadd dX35_openGroup_43 ?_
      refine w_imul dX35_openGroup_44 ?_
      refine w_iload_n dX35_openGroup_45 rfl rfl ?_
      refine w_iadd dX35_openGroup_46 ?_
      refine w_aload_n dX35_openGroup_47 rfl rfl ?_
      obtain ⟨a16, b17, hf⟩ := Option.bind_eq_some_iff.mp hf
      refine GX35_65 b17 dX35_openGroup_48 rfl ?_
      refine w_sipush dX35_openGroup_51 (v := 3812) (by decide) ?_
      refine w_aload_n dX35_openGroup_54 rfl rfl ?_
      obtain ⟨x18, b19, hf⟩ := Option.bind_eq_some_iff.mp hf
      refine GX35_323 b19 dX35_openGroup_55 rfl ?_
      refine w_imul dX35_openGroup_58 ?_
      refine w_iload_n dX35_openGroup_59 rfl rfl ?_
      refine w_iadd dX35_openGroup_60 ?_
      obtain ⟨x20, b21, hf⟩ := Option.bind_eq_some_iff.mp hf
      refine x_rI b21 dX35_openGroup_61 ?_
      obtain ⟨h22, b23, hf⟩ := Option.bind_eq_some_iff.mp hf
      refine x_qI b23 dX35_openGroup_62 ?_
      refine w_iinc dX35_openGroup_63 (v := (l2 + (1 : Int32))) rfl rfl (by decide) (ls' := [some (.ref l0), some (.int l1), some (.int (l2 + (1 : Int32)))]) rfl ?_
      refine w_goto 24 dX35_openGroup_66 (by decide) ?_
      exact (ih _ _ _ _ _ hf).to ⟨rfl, rfl, rfl, trivial⟩
def fX35_openGroup_b14 (N : Nat) (l0 : Nat) (l1 : Int32) (h : eH) : Option (Unit × eH) :=
  (g_I 34 h l0 46).bind fun x1 =>
  if x1 ≤ 0 then
    fX35_openGroup_b24 N N l0 l1 (0 : Int32) h
  else
    some ((), h)
theorem pX35_openGroup_b14 {w : eW} {d : Nat} (hd : 1 ≤ d + 1) {N : Nat} {l0 : Nat} {l1 : Int32} {h : eH} {q} (hf : fX35_openGroup_b14 N l0 l1 h = some q) : wp w (d + 1) YX35_openGroup 14 [some (.ref l0), some (.int l1), none] [] h (e_is (e_rn c_V q)) := by
  unfold fX35_openGroup_b14 at hf
  refine w_aload_n dX35_openGroup_14 rfl rfl ?_
  obtain ⟨x1, b2, hf⟩ := Option.bind_eq_some_iff.mp hf
  refine GX35_321 b2 dX35_openGroup_15 rfl ?_
  refine w_if_le 22 dX35_openGroup_18 (by decide) (fun c3 => ?_) (fun c3 => ?_)
  · replace hf := (if_pos (show x1 ≤ 0 from c3)).symm.trans hf
    refine w_iconst dX35_openGroup_22 (v := 0) (by decide) ?_
    refine w_istore_n dX35_openGroup_23 rfl (by decide) (ls' := [some (.ref l0), some (.int l1), some (.int (0 : Int32))]) rfl ?_
    exact (pX35_openGroup_b24 hd N _ _ _ _ _ hf).to ⟨rfl, rfl, rfl, trivial⟩
  · replace hf := (if_neg (show ¬ (x1 ≤ 0) from c3)).symm.trans hf
    cases hf
    exact w_vret dX35_openGroup_21 rfl rfl
def fX35_openGroup (N : Nat) (this : Nat) (p0 : Int32) (h : eH) : Option (Unit × eH) :=
  (g_I 34 h this 21).bind fun x1 =>
  if ¬ x1 = (100 : Int32) then
    fX35_openGroup_b14 N this p0 h
  else
    (k_ok 34 h this).bind fun _ =>
    (fX35_fail this (2 : Int32) h).bind fun q5 =>
    fX35_openGroup_b14 N this p0 q5.2
theorem pX35_openGroup {w : eW} {d : Nat} (hd : 1 ≤ d) {N : Nat} {this : Nat} {p0 : Int32} {h : eH} {q} (hf : fX35_openGroup N this p0 h = some q) : wm w d YX35_openGroup [.ref this, .int p0] h (e_is (e_rn c_V q)) := by
  obtain ⟨d, rfl⟩ : ∃ e, d = e + 1 := ⟨d - 1, by omega⟩
  show wp w (d + 1) YX35_openGroup 0 [some (.ref this), some (.int p0), none] [] h _
  unfold fX35_openGroup at hf
  refine w_aload_n dX35_openGroup_0 rfl rfl ?_
  obtain ⟨x1, b2, hf⟩ := Option.bind_eq_some_iff.mp hf
  refine GX35_323 b2 dX35_openGroup_1 rfl ?_
  refine w_bipush dX35_openGroup_4 (v := 100) (by decide) ?_
  refine w_icmp_ne 14 dX35_openGroup_6 (by decide) (fun c3 => ?_) (fun c3 => ?_)
  · replace hf := (if_pos (show ¬ x1 = (100 : Int32) from c3)).symm.trans hf
    exact (pX35_openGroup_b14 hd hf).to ⟨rfl, rfl, trivial⟩
  · replace hf := (if_neg (show ¬ (¬ x1 = (100 : Int32)) from (fun z => z c3))).symm.trans hf
    refine w_aload_n dX35_openGroup_9 rfl rfl ?_
    refine w_iconst dX35_openGroup_10 (v := 2) (by decide) ?_
    obtain ⟨_, b4, hf⟩ := Option.bind_eq_some_iff.mp hf
    refine x_cnV hf (e_stV (Yc := YX35_fail) (ci := 34) (av := [.int (2 : Int32)]) (st := []) dX35_openGroup_11 q5109 mX35_fail rfl (k_ok_some b4).1 (k_ok_some b4).2) mX35_fail.2.2.1 mX35_fail.2.2.2.2.1 (Nat.le_of_ble_eq_true rfl) (Nat.le_of_ble_eq_true rfl) (fun q hq => pX35_fail (by omega) hq) (fun q5 hf => ?_)
    exact (pX35_openGroup_b14 hd hf).to ⟨rfl, rfl, trivial⟩
abbrev cX35_space : ByteArray := prog_37_method_121_code
def yX35_space : MethodName := ⟨RX35, "space", "()V"⟩
def YX35_space : eY := (yX35_space, cX35_space, 4, none, [])
theorem mX35_space : e_mv YX35_space RX35 0 := ⟨q5901, qs394, q5902, by decide, by decide +kernel, (e_sig (by decide +kernel))⟩
theorem dX35_space_0 : decode cX35_space 0 = .ok (.aload_n 0, 1) := dc_42 (by decide +kernel)
theorem dX35_space_1 : decode cX35_space 1 = .ok (.invokevirtual 810, 3) := dc_182 (a := 3) (b := 42) (n := 810) (by decide +kernel)
theorem dX35_space_4 : decode cX35_space 4 = .ok (.ifCond .eq 4, 3) := dc_153 (a := 0) (b := 4) (v := 4) (by decide +kernel)
theorem dX35_space_7 : decode cX35_space 7 = .ok (.return_, 1) := dc_177 (by decide +kernel)
theorem dX35_space_8 : decode cX35_space 8 = .ok (.aload_n 0, 1) := dc_42 (by decide +kernel)
theorem dX35_space_9 : decode cX35_space 9 = .ok (.sipush 3811, 3) := dc_17 (a := 14) (b := 227) (v := 3811) (by decide +kernel)
theorem dX35_space_12 : decode cX35_space 12 = .ok (.invokevirtual 431, 3) := dc_182 (a := 1) (b := 175) (n := 431) (by decide +kernel)
theorem dX35_space_15 : decode cX35_space 15 = .ok (.istore_n 1, 1) := dc_60 (by decide +kernel)
theorem dX35_space_16 : decode cX35_space 16 = .ok (.iload_n 1, 1) := dc_27 (by decide +kernel)
theorem dX35_space_17 : decode cX35_space 17 = .ok (.ifCond .ge 10, 3) := dc_156 (a := 0) (b := 10) (v := 10) (by decide +kernel)
theorem dX35_space_20 : decode cX35_space 20 = .ok (.aload_n 0, 1) := dc_42 (by decide +kernel)
theorem dX35_space_21 : decode cX35_space 21 = .ok (.bipush 14, 2) := dc_16 (a := 14) (v := 14) (by decide +kernel)
theorem dX35_space_23 : decode cX35_space 23 = .ok (.invokevirtual 428, 3) := dc_182 (a := 1) (b := 172) (n := 428) (by decide +kernel)
theorem dX35_space_26 : decode cX35_space 26 = .ok (.return_, 1) := dc_177 (by decide +kernel)
theorem dX35_space_27 : decode cX35_space 27 = .ok (.aload_n 0, 1) := dc_42 (by decide +kernel)
theorem dX35_space_28 : decode cX35_space 28 = .ok (.iconst 3, 1) := dc_6 (by decide +kernel)
theorem dX35_space_29 : decode cX35_space 29 = .ok (.invokevirtual 720, 3) := dc_182 (a := 2) (b := 208) (n := 720) (by decide +kernel)
theorem dX35_space_32 : decode cX35_space 32 = .ok (.istore_n 2, 1) := dc_61 (by decide +kernel)
theorem dX35_space_33 : decode cX35_space 33 = .ok (.aload_n 0, 1) := dc_42 (by decide +kernel)
theorem dX35_space_34 : decode cX35_space 34 = .ok (.iconst 4, 1) := dc_7 (by decide +kernel)
theorem dX35_space_35 : decode cX35_space 35 = .ok (.invokevirtual 720, 3) := dc_182 (a := 2) (b := 208) (n := 720) (by decide +kernel)
theorem dX35_space_38 : decode cX35_space 38 = .ok (.istore_n 3, 1) := dc_62 (by decide +kernel)
theorem dX35_space_39 : decode cX35_space 39 = .ok (.aload_n 0, 1) := dc_42 (by decide +kernel)
theorem dX35_space_40 : decode cX35_space 40 = .ok (.aload_n 0, 1) := dc_42 (by decide +kernel)
theorem dX35_space_41 : decode cX35_space 41 = .ok (.iconst 2, 1) := dc_5 (by decide +kernel)
theorem dX35_space_42 : decode cX35_space 42 = .ok (.invokevirtual 720, 3) := dc_182 (a := 2) (b := 208) (n := 720) (by decide +kernel)
theorem dX35_space_45 : decode cX35_space 45 = .ok (.iload_n 2, 1) := dc_28 (by decide +kernel)
theorem dX35_space_46 : decode cX35_space 46 = .ok (.ifCond .ge 7, 3) := dc_156 (a := 0) (b := 7) (v := 7) (by decide +kernel)
theorem dX35_space_49 : decode cX35_space 49 = .ok (.iconst 0, 1) := dc_3 (by decide +kernel)
theorem dX35_space_50 : decode cX35_space 50 = .ok (.goto 4, 3) := dc_167 (a := 0) (b := 4) (v := 4) (by decide +kernel)
theorem dX35_space_53 : decode cX35_space 53 = .ok (.iload_n 2, 1) := dc_28 (by decide +kernel)
theorem dX35_space_54 : decode cX35_space 54 = .ok (.iconst 0, 1) := dc_3 (by decide +kernel)
theorem dX35_space_55 : decode cX35_space 55 = .ok (.iload_n 3, 1) := dc_29 (by decide +kernel)
theorem dX35_space_56 : decode cX35_space 56 = .ok (.ifCond .ge 7, 3) := dc_156 (a := 0) (b := 7) (v := 7) (by decide +kernel)
theorem dX35_space_59 : decode cX35_space 59 = .ok (.iconst 0, 1) := dc_3 (by decide +kernel)
theorem dX35_space_60 : decode cX35_space 60 = .ok (.goto 4, 3) := dc_167 (a := 0) (b := 4) (v := 4) (by decide +kernel)
theorem dX35_space_63 : decode cX35_space 63 = .ok (.iload_n 3, 1) := dc_29 (by decide +kernel)
theorem dX35_space_64 : decode cX35_space 64 = .ok (.invokevirtual 802, 3) := dc_182 (a := 3) (b := 34) (n := 802) (by decide +kernel)
theorem dX35_space_67 : decode cX35_space 67 = .ok (.return_, 1) := dc_177 (by decide +kernel)
def fX35_space_b64 (N : Nat) (sL : Nat → Int32 → Int64 → Int64 → eH → Option (Int32 × eH)) (s0 : Nat) (s1 : Int32) (s2 : Int32) (s3 : Int32) (s4 : Int32) (h : eH) : Option (Unit × eH) :=
  (k_ok 34 h s0).bind fun _ =>
  (fX35_glueItem N sL s0 s1 s2 s3 s4 h).bind fun q2 =>
  some ((), q2.2)
theorem pX35_space_b64 {w : eW} {d : Nat} {dr : Nat} (hd : dr + 10 ≤ d + 1) (hdr : 12 ≤ dr) {N : Nat} {sL : Nat → Int32 → Int64 → Int64 → eH → Option (Int32 × eH)} (hsL : ∀ a t0 t1 t2 h q, sL a t0 t1 t2 h = some q → wm w dr YX35_layBox [.ref a, .int t0, .long t1, .long t2] h (e_is (e_rn c_I q))) {s0 : Nat} {s1 : Int32} {s2 : Int32} {s3 : Int32} {s4 : Int32} {h : eH} {q} (hf : fX35_space_b64 N sL s0 s1 s2 s3 s4 h = some q) : wp w (d + 1) YX35_space 64 [none, none, none, none] [.int s4, .int s3, .int s2, .int s1, .ref s0] h (e_is (e_rn c_V q)) := by
  unfold fX35_space_b64 at hf
  obtain ⟨_, b1, hf⟩ := Option.bind_eq_some_iff.mp hf
  refine x_cnV hf (e_stV (Yc := YX35_glueItem) (ci := 34) (av := [.int s1, .int s2, .int s3, .int s4]) (st := []) dX35_space_64 q5461 mX35_glueItem rfl (k_ok_some b1).1 (k_ok_some b1).2) mX35_glueItem.2.2.1 mX35_glueItem.2.2.2.2.1 (Nat.le_of_ble_eq_true rfl) (Nat.le_of_ble_eq_true rfl) (fun q hq => pX35_glueItem (by omega) hdr hsL hq) (fun q2 hf => ?_)
  cases hf
  exact w_vret dX35_space_67 rfl rfl
def fX35_space_b54 (N : Nat) (sL : Nat → Int32 → Int64 → Int64 → eH → Option (Int32 × eH)) (l3 : Int32) (s0 : Nat) (s1 : Int32) (s2 : Int32) (h : eH) : Option (Unit × eH) :=
  if 0 ≤ l3 then
    fX35_space_b64 N sL s0 s1 s2 (0 : Int32) l3 h
  else
    fX35_space_b64 N sL s0 s1 s2 (0 : Int32) (0 : Int32) h
theorem pX35_space_b54 {w : eW} {d : Nat} {dr : Nat} (hd : dr + 10 ≤ d + 1) (hdr : 12 ≤ dr) {N : Nat} {sL : Nat → Int32 → Int64 → Int64 → eH → Option (Int32 × eH)} (hsL : ∀ a t0 t1 t2 h q, sL a t0 t1 t2 h = some q → wm w dr YX35_layBox [.ref a, .int t0, .long t1, .long t2] h (e_is (e_rn c_I q))) {l3 : Int32} {s0 : Nat} {s1 : Int32} {s2 : Int32} {h : eH} {q} (hf : fX35_space_b54 N sL l3 s0 s1 s2 h = some q) : wp w (d + 1) YX35_space 54 [none, none, none, some (.int l3)] [.int s2, .int s1, .ref s0] h (e_is (e_rn c_V q)) := by
  unfold fX35_space_b54 at hf
  refine w_iconst dX35_space_54 (v := 0) (by decide) ?_
  refine w_iload_n dX35_space_55 rfl rfl ?_
  refine w_if_ge 63 dX35_space_56 (by decide) (fun c1 => ?_) (fun c1 => ?_)
  · replace hf := (if_pos (show 0 ≤ l3 from c1)).symm.trans hf
    refine w_iload_n dX35_space_63 rfl rfl ?_
    exact (pX35_space_b64 hd hdr hsL hf).to trivial
  · replace hf := (if_neg (show ¬ (0 ≤ l3) from c1)).symm.trans hf
    refine w_iconst dX35_space_59 (v := 0) (by decide) ?_
    refine w_goto 64 dX35_space_60 (by decide) ?_
    exact (pX35_space_b64 hd hdr hsL hf).to trivial
def fX35_space (N : Nat) (sL : Nat → Int32 → Int64 → Int64 → eH → Option (Int32 × eH)) (this : Nat) (h : eH) : Option (Unit × eH) :=
  (k_ok 34 h this).bind fun _ =>
  (fX35_isVertical this h).bind fun q2 =>
  if q2.1 = 0 then
    (k_ok 34 q2.2 this).bind fun _ =>
    (fX35_now this (3811 : Int32) q2.2).bind fun q5 =>
    if 0 ≤ q5.1 then
      (k_ok 34 q5.2 this).bind fun _ =>
      (fX35_parameter N this (3 : Int32) q5.2).bind fun q8 =>
      (k_ok 34 q8.2 this).bind fun _ =>
      (fX35_parameter N this (4 : Int32) q8.2).bind fun q10 =>
      (k_ok 34 q10.2 this).bind fun _ =>
      (fX35_parameter N this (2 : Int32) q10.2).bind fun q12 =>
      if 0 ≤ q8.1 then
        fX35_space_b54 N sL q10.1 this q12.1 q8.1 q12.2
      else
        fX35_space_b54 N sL q10.1 this q12.1 (0 : Int32) q12.2
    else
      (k_ok 34 q5.2 this).bind fun _ =>
      (fX35_fail this (14 : Int32) q5.2).bind fun q15 =>
      some ((), q15.2)
  else
    some ((), q2.2)
theorem pX35_space {w : eW} {d : Nat} {dr : Nat} (hd : dr + 10 ≤ d) (hdr : 12 ≤ dr) {N : Nat} {sL : Nat → Int32 → Int64 → Int64 → eH → Option (Int32 × eH)} (hsL : ∀ a t0 t1 t2 h q, sL a t0 t1 t2 h = some q → wm w dr YX35_layBox [.ref a, .int t0, .long t1, .long t2] h (e_is (e_rn c_I q))) {this : Nat} {h : eH} {q} (hf : fX35_space N sL this h = some q) : wm w d YX35_space [.ref this] h (e_is (e_rn c_V q)) := by
  obtain ⟨d, rfl⟩ : ∃ e, d = e + 1 := ⟨d - 1, by omega⟩
  show wp w (d + 1) YX35_space 0 [some (.ref this), none, none, none] [] h _
  unfold fX35_space at hf
  refine w_aload_n dX35_space_0 rfl rfl ?_
  obtain ⟨_, b1, hf⟩ := Option.bind_eq_some_iff.mp hf
  refine x_cnI hf (e_stV (Yc := YX35_isVertical) (ci := 34) (av := []) (st := []) dX35_space_1 q5449 mX35_isVertical rfl (k_ok_some b1).1 (k_ok_some b1).2) mX35_isVertical.2.2.1 mX35_isVertical.2.2.2.2.1 (Nat.le_of_ble_eq_true rfl) (Nat.le_of_ble_eq_true rfl) (fun q hq => pX35_isVertical (by omega) hq) (fun q2 hf => ?_)
  refine w_if_eq 8 dX35_space_4 (by decide) (fun c3 => ?_) (fun c3 => ?_)
  · replace hf := (if_pos (show q2.1 = 0 from c3)).symm.trans hf
    refine w_aload_n dX35_space_8 rfl rfl ?_
    refine w_sipush dX35_space_9 (v := 3811) (by decide) ?_
    obtain ⟨_, b4, hf⟩ := Option.bind_eq_some_iff.mp hf
    refine x_cnI hf (e_stV (Yc := YX35_now) (ci := 34) (av := [.int (3811 : Int32)]) (st := []) dX35_space_12 q5097 mX35_now rfl (k_ok_some b4).1 (k_ok_some b4).2) mX35_now.2.2.1 mX35_now.2.2.2.2.1 (Nat.le_of_ble_eq_true rfl) (Nat.le_of_ble_eq_true rfl) (fun q hq => pX35_now (by omega) hq) (fun q5 hf => ?_)
    refine w_istore_n dX35_space_15 rfl (by decide) (ls' := [some (.ref this), some (.int q5.1), none, none]) rfl ?_
    refine w_iload_n dX35_space_16 rfl rfl ?_
    refine w_if_ge 27 dX35_space_17 (by decide) (fun c6 => ?_) (fun c6 => ?_)
    · replace hf := (if_pos (show 0 ≤ q5.1 from c6)).symm.trans hf
      refine w_aload_n dX35_space_27 rfl rfl ?_
      refine w_iconst dX35_space_28 (v := 3) (by decide) ?_
      obtain ⟨_, b7, hf⟩ := Option.bind_eq_some_iff.mp hf
      refine x_cnI hf (e_stV (Yc := YX35_parameter) (ci := 34) (av := [.int (3 : Int32)]) (st := []) dX35_space_29 q5387 mX35_parameter rfl (k_ok_some b7).1 (k_ok_some b7).2) mX35_parameter.2.2.1 mX35_parameter.2.2.2.2.1 (Nat.le_of_ble_eq_true rfl) (Nat.le_of_ble_eq_true rfl) (fun q hq => pX35_parameter (by omega) hq) (fun q8 hf => ?_)
      refine w_istore_n dX35_space_32 rfl (by decide) (ls' := [some (.ref this), some (.int q5.1), some (.int q8.1), none]) rfl ?_
      refine w_aload_n dX35_space_33 rfl rfl ?_
      refine w_iconst dX35_space_34 (v := 4) (by decide) ?_
      obtain ⟨_, b9, hf⟩ := Option.bind_eq_some_iff.mp hf
      refine x_cnI hf (e_stV (Yc := YX35_parameter) (ci := 34) (av := [.int (4 : Int32)]) (st := []) dX35_space_35 q5387 mX35_parameter rfl (k_ok_some b9).1 (k_ok_some b9).2) mX35_parameter.2.2.1 mX35_parameter.2.2.2.2.1 (Nat.le_of_ble_eq_true rfl) (Nat.le_of_ble_eq_true rfl) (fun q hq => pX35_parameter (by omega) hq) (fun q10 hf => ?_)
      refine w_istore_n dX35_space_38 rfl (by decide) (ls' := [some (.ref this), some (.int q5.1), some (.int q8.1), some (.int q10.1)]) rfl ?_
      refine w_aload_n dX35_space_39 rfl rfl ?_
      refine w_aload_n dX35_space_40 rfl rfl ?_
      refine w_iconst dX35_space_41 (v := 2) (by decide) ?_
      obtain ⟨_, b11, hf⟩ := Option.bind_eq_some_iff.mp hf
      refine x_cnI hf (e_stV (Yc := YX35_parameter) (ci := 34) (av := [.int (2 : Int32)]) (st := [.ref this]) dX35_space_42 q5387 mX35_parameter rfl (k_ok_some b11).1 (k_ok_some b11).2) mX35_parameter.2.2.1 mX35_parameter.2.2.2.2.1 (Nat.le_of_ble_eq_true rfl) (Nat.le_of_ble_eq_true rfl) (fun q hq => pX35_parameter (by omega) hq) (fun q12 hf => ?_)
      refine w_iload_n dX35_space_45 rfl rfl ?_
      refine w_if_ge 53 dX35_space_46 (by decide) (fun c13 => ?_) (fun c13 => ?_)
      · replace hf := (if_pos (show 0 ≤ q8.1 from c13)).symm.trans hf
        refine w_iload_n dX35_space_53 rfl rfl ?_
        exact (pX35_space_b54 hd hdr hsL hf).to ⟨rfl, trivial⟩
      · replace hf := (if_neg (show ¬ (0 ≤ q8.1) from c13)).symm.trans hf
        refine w_iconst dX35_space_49 (v := 0) (by decide) ?_
        refine w_goto 54 dX35_space_50 (by decide) ?_
        exact (pX35_space_b54 hd hdr hsL hf).to ⟨rfl, trivial⟩
    · replace hf := (if_neg (show ¬ (0 ≤ q5.1) from c6)).symm.trans hf
      refine w_aload_n dX35_space_20 rfl rfl ?_
      refine w_bipush dX35_space_21 (v := 14) (by decide) ?_
      obtain ⟨_, b14, hf⟩ := Option.bind_eq_some_iff.mp hf
      refine x_cnV hf (e_stV (Yc := YX35_fail) (ci := 34) (av := [.int (14 : Int32)]) (st := []) dX35_space_23 q5109 mX35_fail rfl (k_ok_some b14).1 (k_ok_some b14).2) mX35_fail.2.2.1 mX35_fail.2.2.2.2.1 (Nat.le_of_ble_eq_true rfl) (Nat.le_of_ble_eq_true rfl) (fun q hq => pX35_fail (by omega) hq) (fun q15 hf => ?_)
      cases hf
      exact w_vret dX35_space_26 rfl rfl
  · replace hf := (if_neg (show ¬ (q2.1 = 0) from c3)).symm.trans hf
    cases hf
    exact w_vret dX35_space_7 rfl rfl
abbrev cX35_doCharacter : ByteArray := prog_37_method_172_code
def yX35_doCharacter : MethodName := ⟨RX35, "doCharacter", "(I)V"⟩
def YX35_doCharacter : eY := (yX35_doCharacter, cX35_doCharacter, 3, none, [])
theorem mX35_doCharacter : e_mv YX35_doCharacter RX35 1 := ⟨q5443, qs307, q5444, by decide, by decide +kernel, (e_sig (by decide +kernel))⟩
theorem dX35_doCharacter_0 : decode cX35_doCharacter 0 = .ok (.iload_n 1, 1) := dc_27 (by decide +kernel)
theorem dX35_doCharacter_1 : decode cX35_doCharacter 1 = .ok (.sipush 256, 3) := dc_17 (a := 1) (b := 0) (v := 256) (by decide +kernel)
theorem dX35_doCharacter_4 : decode cX35_doCharacter 4 = .ok (.idiv, 1) := dc_108 (by decide +kernel)
theorem dX35_doCharacter_5 : decode cX35_doCharacter 5 = .ok (.istore_n 2, 1) := dc_61 (by decide +kernel)
theorem dX35_doCharacter_6 : decode cX35_doCharacter 6 = .ok (.iload_n 2, 1) := dc_28 (by decide +kernel)
theorem dX35_doCharacter_7 : decode cX35_doCharacter 7 = .ok (.bipush 11, 2) := dc_16 (a := 11) (v := 11) (by decide +kernel)
theorem dX35_doCharacter_9 : decode cX35_doCharacter 9 = .ok (.if_icmp .eq 9, 3) := dc_159 (a := 0) (b := 9) (v := 9) (by decide +kernel)
theorem dX35_doCharacter_12 : decode cX35_doCharacter 12 = .ok (.iload_n 2, 1) := dc_28 (by decide +kernel)
theorem dX35_doCharacter_13 : decode cX35_doCharacter 13 = .ok (.bipush 12, 2) := dc_16 (a := 12) (v := 12) (by decide +kernel)
theorem dX35_doCharacter_15 : decode cX35_doCharacter 15 = .ok (.if_icmp .ne 13, 3) := dc_160 (a := 0) (b := 13) (v := 13) (by decide +kernel)
theorem dX35_doCharacter_18 : decode cX35_doCharacter 18 = .ok (.aload_n 0, 1) := dc_42 (by decide +kernel)
theorem dX35_doCharacter_19 : decode cX35_doCharacter 19 = .ok (.iload_n 1, 1) := dc_27 (by decide +kernel)
theorem dX35_doCharacter_20 : decode cX35_doCharacter 20 = .ok (.sipush 256, 3) := dc_17 (a := 1) (b := 0) (v := 256) (by decide +kernel)
theorem dX35_doCharacter_23 : decode cX35_doCharacter 23 = .ok (.irem, 1) := dc_112 (by decide +kernel)
theorem dX35_doCharacter_24 : decode cX35_doCharacter 24 = .ok (.invokevirtual 1160, 3) := dc_182 (a := 4) (b := 136) (n := 1160) (by decide +kernel)
theorem dX35_doCharacter_27 : decode cX35_doCharacter 27 = .ok (.return_, 1) := dc_177 (by decide +kernel)
theorem dX35_doCharacter_28 : decode cX35_doCharacter 28 = .ok (.aload_n 0, 1) := dc_42 (by decide +kernel)
theorem dX35_doCharacter_29 : decode cX35_doCharacter 29 = .ok (.invokevirtual 873, 3) := dc_182 (a := 3) (b := 105) (n := 873) (by decide +kernel)
theorem dX35_doCharacter_32 : decode cX35_doCharacter 32 = .ok (.aload_n 0, 1) := dc_42 (by decide +kernel)
theorem dX35_doCharacter_33 : decode cX35_doCharacter 33 = .ok (.getfield 321, 3) := dc_180 (a := 1) (b := 65) (n := 321) (by decide +kernel)
theorem dX35_doCharacter_36 : decode cX35_doCharacter 36 = .ok (.ifCond .le 4, 3) := dc_158 (a := 0) (b := 4) (v := 4) (by decide +kernel)
theorem dX35_doCharacter_39 : decode cX35_doCharacter 39 = .ok (.return_, 1) := dc_177 (by decide +kernel)
theorem dX35_doCharacter_40 : decode cX35_doCharacter 40 = .ok (.iload_n 2, 1) := dc_28 (by decide +kernel)
theorem dX35_doCharacter_41 : decode cX35_doCharacter 41 = .ok (.iconst 1, 1) := dc_4 (by decide +kernel)
theorem dX35_doCharacter_42 : decode cX35_doCharacter 42 = .ok (.if_icmp .ne 11, 3) := dc_160 (a := 0) (b := 11) (v := 11) (by decide +kernel)
theorem dX35_doCharacter_45 : decode cX35_doCharacter 45 = .ok (.aload_n 0, 1) := dc_42 (by decide +kernel)
theorem dX35_doCharacter_46 : decode cX35_doCharacter 46 = .ok (.iconst 1, 1) := dc_4 (by decide +kernel)
theorem dX35_doCharacter_47 : decode cX35_doCharacter 47 = .ok (.invokevirtual 1157, 3) := dc_182 (a := 4) (b := 133) (n := 1157) (by decide +kernel)
theorem dX35_doCharacter_50 : decode cX35_doCharacter 50 = .ok (.goto 45, 3) := dc_167 (a := 0) (b := 45) (v := 45) (by decide +kernel)
theorem dX35_doCharacter_53 : decode cX35_doCharacter 53 = .ok (.iload_n 2, 1) := dc_28 (by decide +kernel)
theorem dX35_doCharacter_54 : decode cX35_doCharacter 54 = .ok (.iconst 2, 1) := dc_5 (by decide +kernel)
theorem dX35_doCharacter_55 : decode cX35_doCharacter 55 = .ok (.if_icmp .ne 10, 3) := dc_160 (a := 0) (b := 10) (v := 10) (by decide +kernel)
theorem dX35_doCharacter_58 : decode cX35_doCharacter 58 = .ok (.aload_n 0, 1) := dc_42 (by decide +kernel)
theorem dX35_doCharacter_59 : decode cX35_doCharacter 59 = .ok (.invokevirtual 1163, 3) := dc_182 (a := 4) (b := 139) (n := 1163) (by decide +kernel)
theorem dX35_doCharacter_62 : decode cX35_doCharacter 62 = .ok (.goto 33, 3) := dc_167 (a := 0) (b := 33) (v := 33) (by decide +kernel)
theorem dX35_doCharacter_65 : decode cX35_doCharacter 65 = .ok (.iload_n 2, 1) := dc_28 (by decide +kernel)
theorem dX35_doCharacter_66 : decode cX35_doCharacter 66 = .ok (.bipush 10, 2) := dc_16 (a := 10) (v := 10) (by decide +kernel)
theorem dX35_doCharacter_68 : decode cX35_doCharacter 68 = .ok (.if_icmp .ne 10, 3) := dc_160 (a := 0) (b := 10) (v := 10) (by decide +kernel)
theorem dX35_doCharacter_71 : decode cX35_doCharacter 71 = .ok (.aload_n 0, 1) := dc_42 (by decide +kernel)
theorem dX35_doCharacter_72 : decode cX35_doCharacter 72 = .ok (.invokevirtual 1166, 3) := dc_182 (a := 4) (b := 142) (n := 1166) (by decide +kernel)
theorem dX35_doCharacter_75 : decode cX35_doCharacter 75 = .ok (.goto 20, 3) := dc_167 (a := 0) (b := 20) (v := 20) (by decide +kernel)
theorem dX35_doCharacter_78 : decode cX35_doCharacter 78 = .ok (.aload_n 0, 1) := dc_42 (by decide +kernel)
theorem dX35_doCharacter_79 : decode cX35_doCharacter 79 = .ok (.iload_n 2, 1) := dc_28 (by decide +kernel)
theorem dX35_doCharacter_80 : decode cX35_doCharacter 80 = .ok (.bipush 6, 2) := dc_16 (a := 6) (v := 6) (by decide +kernel)
theorem dX35_doCharacter_82 : decode cX35_doCharacter 82 = .ok (.if_icmp .ne 8, 3) := dc_160 (a := 0) (b := 8) (v := 8) (by decide +kernel)
theorem dX35_doCharacter_85 : decode cX35_doCharacter 85 = .ok (.bipush 12, 2) := dc_16 (a := 12) (v := 12) (by decide +kernel)
theorem dX35_doCharacter_87 : decode cX35_doCharacter 87 = .ok (.goto 5, 3) := dc_167 (a := 0) (b := 5) (v := 5) (by decide +kernel)
theorem dX35_doCharacter_90 : decode cX35_doCharacter 90 = .ok (.bipush 15, 2) := dc_16 (a := 15) (v := 15) (by decide +kernel)
theorem dX35_doCharacter_92 : decode cX35_doCharacter 92 = .ok (.invokevirtual 428, 3) := dc_182 (a := 1) (b := 172) (n := 428) (by decide +kernel)
theorem dX35_doCharacter_95 : decode cX35_doCharacter 95 = .ok (.return_, 1) := dc_177 (by decide +kernel)
def fX35_doCharacter_b18 (N : Nat) (sL : Nat → Int32 → Int64 → Int64 → eH → Option (Int32 × eH)) (l0 : Nat) (l1 : Int32) (h : eH) : Option (Unit × eH) :=
  (k_ok 34 h l0).bind fun _ =>
  (fX35_character N sL l0 (l1 - l1 / (256 : Int32) * (256 : Int32)) h).bind fun q2 =>
  some ((), q2.2)
theorem pX35_doCharacter_b18 {w : eW} {d : Nat} {dr : Nat} (hd : dr + 16 ≤ d + 1) (hdr : 12 ≤ dr) {N : Nat} {sL : Nat → Int32 → Int64 → Int64 → eH → Option (Int32 × eH)} (hsL : ∀ a t0 t1 t2 h q, sL a t0 t1 t2 h = some q → wm w dr YX35_layBox [.ref a, .int t0, .long t1, .long t2] h (e_is (e_rn c_I q))) {l0 : Nat} {l1 : Int32} {h : eH} {q} (hf : fX35_doCharacter_b18 N sL l0 l1 h = some q) : wp w (d + 1) YX35_doCharacter 18 [some (.ref l0), some (.int l1), none] [] h (e_is (e_rn c_V q)) := by
  unfold fX35_doCharacter_b18 at hf
  refine w_aload_n dX35_doCharacter_18 rfl rfl ?_
  refine w_iload_n dX35_doCharacter_19 rfl rfl ?_
  refine w_sipush dX35_doCharacter_20 (v := 256) (by decide) ?_
  refine w_irem dX35_doCharacter_23 (by decide) ?_
  obtain ⟨_, b1, hf⟩ := Option.bind_eq_some_iff.mp hf
  refine x_cnV hf (e_stV (Yc := YX35_character) (ci := 34) (av := [.int (l1 - l1 / (256 : Int32) * (256 : Int32))]) (st := []) dX35_doCharacter_24 q5445 mX35_character rfl (k_ok_some b1).1 (k_ok_some b1).2) mX35_character.2.2.1 mX35_character.2.2.2.2.1 (Nat.le_of_ble_eq_true rfl) (Nat.le_of_ble_eq_true rfl) (fun q hq => pX35_character (by omega) hdr hsL hq) (fun q2 hf => ?_)
  cases hf
  exact w_vret dX35_doCharacter_27 rfl rfl
def fX35_doCharacter_b95 (N : Nat) (sL : Nat → Int32 → Int64 → Int64 → eH → Option (Int32 × eH))  (h : eH) : Option (Unit × eH) :=
  some ((), h)
theorem pX35_doCharacter_b95 {w : eW} {d : Nat} {dr : Nat} (hd : dr + 16 ≤ d + 1) (hdr : 12 ≤ dr) {N : Nat} {sL : Nat → Int32 → Int64 → Int64 → eH → Option (Int32 × eH)} (hsL : ∀ a t0 t1 t2 h q, sL a t0 t1 t2 h = some q → wm w dr YX35_layBox [.ref a, .int t0, .long t1, .long t2] h (e_is (e_rn c_I q)))  {h : eH} {q} (hf : fX35_doCharacter_b95 N sL h = some q) : wp w (d + 1) YX35_doCharacter 95 [none, none, none] [] h (e_is (e_rn c_V q)) := by
  unfold fX35_doCharacter_b95 at hf
  cases hf
  exact w_vret dX35_doCharacter_95 rfl rfl
def fX35_doCharacter_b92 (N : Nat) (sL : Nat → Int32 → Int64 → Int64 → eH → Option (Int32 × eH)) (s0 : Nat) (s1 : Int32) (h : eH) : Option (Unit × eH) :=
  (k_ok 34 h s0).bind fun _ =>
  (fX35_fail s0 s1 h).bind fun q2 =>
  fX35_doCharacter_b95 N sL q2.2
theorem pX35_doCharacter_b92 {w : eW} {d : Nat} {dr : Nat} (hd : dr + 16 ≤ d + 1) (hdr : 12 ≤ dr) {N : Nat} {sL : Nat → Int32 → Int64 → Int64 → eH → Option (Int32 × eH)} (hsL : ∀ a t0 t1 t2 h q, sL a t0 t1 t2 h = some q → wm w dr YX35_layBox [.ref a, .int t0, .long t1, .long t2] h (e_is (e_rn c_I q))) {s0 : Nat} {s1 : Int32} {h : eH} {q} (hf : fX35_doCharacter_b92 N sL s0 s1 h = some q) : wp w (d + 1) YX35_doCharacter 92 [none, none, none] [.int s1, .ref s0] h (e_is (e_rn c_V q)) := by
  unfold fX35_doCharacter_b92 at hf
  obtain ⟨_, b1, hf⟩ := Option.bind_eq_some_iff.mp hf
  refine x_cnV hf (e_stV (Yc := YX35_fail) (ci := 34) (av := [.int s1]) (st := []) dX35_doCharacter_92 q5109 mX35_fail rfl (k_ok_some b1).1 (k_ok_some b1).2) mX35_fail.2.2.1 mX35_fail.2.2.2.2.1 (Nat.le_of_ble_eq_true rfl) (Nat.le_of_ble_eq_true rfl) (fun q hq => pX35_fail (by omega) hq) (fun q2 hf => ?_)
  exact (pX35_doCharacter_b95 hd hdr hsL hf).to trivial
def fX35_doCharacter (N : Nat) (sL : Nat → Int32 → Int64 → Int64 → eH → Option (Int32 × eH)) (this : Nat) (p0 : Int32) (h : eH) : Option (Unit × eH) :=
  if (p0 / (256 : Int32)) = (11 : Int32) then
    fX35_doCharacter_b18 N sL this p0 h
  else
    if ¬ (p0 / (256 : Int32)) = (12 : Int32) then
      (k_ok 34 h this).bind fun _ =>
      (fX35_endWord N this h).bind fun q4 =>
      (g_I 34 q4.2 this 46).bind fun x5 =>
      if x5 ≤ 0 then
        if ¬ (p0 / (256 : Int32)) = (1 : Int32) then
          if ¬ (p0 / (256 : Int32)) = (2 : Int32) then
            if ¬ (p0 / (256 : Int32)) = (10 : Int32) then
              if ¬ (p0 / (256 : Int32)) = (6 : Int32) then
                fX35_doCharacter_b92 N sL this (15 : Int32) q4.2
              else
                fX35_doCharacter_b92 N sL this (12 : Int32) q4.2
            else
              (k_ok 34 q4.2 this).bind fun _ =>
              (fX35_space N sL this q4.2).bind fun q13 =>
              fX35_doCharacter_b95 N sL q13.2
          else
            (k_ok 34 q4.2 this).bind fun _ =>
            (fX35_closeBrace N sL this q4.2).bind fun q15 =>
            fX35_doCharacter_b95 N sL q15.2
        else
          (k_ok 34 q4.2 this).bind fun _ =>
          (fX35_openGroup N this (1 : Int32) q4.2).bind fun q17 =>
          fX35_doCharacter_b95 N sL q17.2
      else
        some ((), q4.2)
    else
      fX35_doCharacter_b18 N sL this p0 h
theorem pX35_doCharacter {w : eW} {d : Nat} {dr : Nat} (hd : dr + 16 ≤ d) (hdr : 12 ≤ dr) {N : Nat} {sL : Nat → Int32 → Int64 → Int64 → eH → Option (Int32 × eH)} (hsL : ∀ a t0 t1 t2 h q, sL a t0 t1 t2 h = some q → wm w dr YX35_layBox [.ref a, .int t0, .long t1, .long t2] h (e_is (e_rn c_I q))) {this : Nat} {p0 : Int32} {h : eH} {q} (hf : fX35_doCharacter N sL this p0 h = some q) : wm w d YX35_doCharacter [.ref this, .int p0] h (e_is (e_rn c_V q)) := by
  obtain ⟨d, rfl⟩ : ∃ e, d = e + 1 := ⟨d - 1, by omega⟩
  show wp w (d + 1) YX35_doCharacter 0 [some (.ref this), some (.int p0), none] [] h _
  unfold fX35_doCharacter at hf
  refine w_iload_n dX35_doCharacter_0 rfl rfl ?_
  refine w_sipush dX35_doCharacter_1 (v := 256) (by decide) ?_
  refine w_idiv dX35_doCharacter_4 (by decide) ?_
  refine w_istore_n dX35_doCharacter_5 rfl (by decide) (ls' := [some (.ref this), some (.int p0), some (.int (p0 / (256 : Int32)))]) rfl ?_
  refine w_iload_n dX35_doCharacter_6 rfl rfl ?_
  refine w_bipush dX35_doCharacter_7 (v := 11) (by decide) ?_
  refine w_icmp_eq 18 dX35_doCharacter_9 (by decide) (fun c1 => ?_) (fun c1 => ?_)
  · replace hf := (if_pos (show (p0 / (256 : Int32)) = (11 : Int32) from c1)).symm.trans hf
    exact (pX35_doCharacter_b18 hd hdr hsL hf).to ⟨rfl, rfl, trivial⟩
  · replace hf := (if_neg (show ¬ ((p0 / (256 : Int32)) = (11 : Int32)) from c1)).symm.trans hf
    refine w_iload_n dX35_doCharacter_12 rfl rfl ?_
    refine w_bipush dX35_doCharacter_13 (v := 12) (by decide) ?_
    refine w_icmp_ne 28 dX35_doCharacter_15 (by decide) (fun c2 => ?_) (fun c2 => ?_)
    · replace hf := (if_pos (show ¬ (p0 / (256 : Int32)) = (12 : Int32) from c2)).symm.trans hf
      refine w_aload_n dX35_doCharacter_28 rfl rfl ?_
      obtain ⟨_, b3, hf⟩ := Option.bind_eq_some_iff.mp hf
      refine x_cnV hf (e_stV (Yc := YX35_endWord) (ci := 34) (av := []) (st := []) dX35_doCharacter_29 q5675 mX35_endWord rfl (k_ok_some b3).1 (k_ok_some b3).2) mX35_endWord.2.2.1 mX35_endWord.2.2.2.2.1 (Nat.le_of_ble_eq_true rfl) (Nat.le_of_ble_eq_true rfl) (fun q hq => pX35_endWord (by omega) hq) (fun q4 hf => ?_)
      refine w_aload_n dX35_doCharacter_32 rfl rfl ?_
      obtain ⟨x5, b6, hf⟩ := Option.bind_eq_some_iff.mp hf
      refine GX35_321 b6 dX35_doCharacter_33 rfl ?_
      refine w_if_le 40 dX35_doCharacter_36 (by decide) (fun c7 => ?_) (fun c7 => ?_)
      · replace hf := (if_pos (show x5 ≤ 0 from c7)).symm.trans hf
        refine w_iload_n dX35_doCharacter_40 rfl rfl ?_
        refine w_iconst dX35_doCharacter_41 (v := 1) (by decide) ?_
        refine w_icmp_ne 53 dX35_doCharacter_42 (by decide) (fun c8 => ?_) (fun c8 => ?_)
        · replace hf := (if_pos (show ¬ (p0 / (256 : Int32)) = (1 : Int32) from c8)).symm.trans hf
          refine w_iload_n dX35_doCharacter_53 rfl rfl ?_
          refine w_iconst dX35_doCharacter_54 (v := 2) (by decide) ?_
          refine w_icmp_ne 65 dX35_doCharacter_55 (by decide) (fun c9 => ?_) (fun c9 => ?_)
          · replace hf := (if_pos (show ¬ (p0 / (256 : Int32)) = (2 : Int32) from c9)).symm.trans hf
            refine w_iload_n dX35_doCharacter_65 rfl rfl ?_
            refine w_bipush dX35_doCharacter_66 (v := 10) (by decide) ?_
            refine w_icmp_ne 78 dX35_doCharacter_68 (by decide) (fun c10 => ?_) (fun c10 => ?_)
            · replace hf := (if_pos (show ¬ (p0 / (256 : Int32)) = (10 : Int32) from c10)).symm.trans hf
              refine w_aload_n dX35_doCharacter_78 rfl rfl ?_
              refine w_iload_n dX35_doCharacter_79 rfl rfl ?_
              refine w_bipush dX35_doCharacter_80 (v := 6) (by decide) ?_
              refine w_icmp_ne 90 dX35_doCharacter_82 (by decide) (fun c11 => ?_) (fun c11 => ?_)
              · replace hf := (if_pos (show ¬ (p0 / (256 : Int32)) = (6 : Int32) from c11)).symm.trans hf
                refine w_bipush dX35_doCharacter_90 (v := 15) (by decide) ?_
                exact (pX35_doCharacter_b92 hd hdr hsL hf).to trivial
              · replace hf := (if_neg (show ¬ (¬ (p0 / (256 : Int32)) = (6 : Int32)) from (fun z => z c11))).symm.trans hf
                refine w_bipush dX35_doCharacter_85 (v := 12) (by decide) ?_
                refine w_goto 92 dX35_doCharacter_87 (by decide) ?_
                exact (pX35_doCharacter_b92 hd hdr hsL hf).to trivial
            · replace hf := (if_neg (show ¬ (¬ (p0 / (256 : Int32)) = (10 : Int32)) from (fun z => z c10))).symm.trans hf
              refine w_aload_n dX35_doCharacter_71 rfl rfl ?_
              obtain ⟨_, b12, hf⟩ := Option.bind_eq_some_iff.mp hf
              refine x_cnV hf (e_stV (Yc := YX35_space) (ci := 34) (av := []) (st := []) dX35_doCharacter_72 q5899 mX35_space rfl (k_ok_some b12).1 (k_ok_some b12).2) mX35_space.2.2.1 mX35_space.2.2.2.2.1 (Nat.le_of_ble_eq_true rfl) (Nat.le_of_ble_eq_true rfl) (fun q hq => pX35_space (by omega) hdr hsL hq) (fun q13 hf => ?_)
              refine w_goto 95 dX35_doCharacter_75 (by decide) ?_
              exact (pX35_doCharacter_b95 hd hdr hsL hf).to trivial
          · replace hf := (if_neg (show ¬ (¬ (p0 / (256 : Int32)) = (2 : Int32)) from (fun z => z c9))).symm.trans hf
            refine w_aload_n dX35_doCharacter_58 rfl rfl ?_
            obtain ⟨_, b14, hf⟩ := Option.bind_eq_some_iff.mp hf
            refine x_cnV hf (e_stV (Yc := YX35_closeBrace) (ci := 34) (av := []) (st := []) dX35_doCharacter_59 q5734 mX35_closeBrace rfl (k_ok_some b14).1 (k_ok_some b14).2) mX35_closeBrace.2.2.1 mX35_closeBrace.2.2.2.2.1 (Nat.le_of_ble_eq_true rfl) (Nat.le_of_ble_eq_true rfl) (fun q hq => pX35_closeBrace (by omega) hdr hsL hq) (fun q15 hf => ?_)
            refine w_goto 95 dX35_doCharacter_62 (by decide) ?_
            exact (pX35_doCharacter_b95 hd hdr hsL hf).to trivial
        · replace hf := (if_neg (show ¬ (¬ (p0 / (256 : Int32)) = (1 : Int32)) from (fun z => z c8))).symm.trans hf
          refine w_aload_n dX35_doCharacter_45 rfl rfl ?_
          refine w_iconst dX35_doCharacter_46 (v := 1) (by decide) ?_
          obtain ⟨_, b16, hf⟩ := Option.bind_eq_some_iff.mp hf
          refine x_cnV hf (e_stV (Yc := YX35_openGroup) (ci := 34) (av := [.int (1 : Int32)]) (st := []) dX35_doCharacter_47 q5730 mX35_openGroup rfl (k_ok_some b16).1 (k_ok_some b16).2) mX35_openGroup.2.2.1 mX35_openGroup.2.2.2.2.1 (Nat.le_of_ble_eq_true rfl) (Nat.le_of_ble_eq_true rfl) (fun q hq => pX35_openGroup (by omega) hq) (fun q17 hf => ?_)
          refine w_goto 95 dX35_doCharacter_50 (by decide) ?_
          exact (pX35_doCharacter_b95 hd hdr hsL hf).to trivial
      · replace hf := (if_neg (show ¬ (x5 ≤ 0) from c7)).symm.trans hf
        cases hf
        exact w_vret dX35_doCharacter_39 rfl rfl
    · replace hf := (if_neg (show ¬ (¬ (p0 / (256 : Int32)) = (12 : Int32)) from (fun z => z c2))).symm.trans hf
      exact (pX35_doCharacter_b18 hd hdr hsL hf).to ⟨rfl, rfl, trivial⟩
abbrev cX35_needSolid : ByteArray := prog_37_method_168_code
def yX35_needSolid : MethodName := ⟨RX35, "needSolid", "()I"⟩
def YX35_needSolid : eY := (yX35_needSolid, cX35_needSolid, 2, (Option.some FieldType.int), [])
theorem mX35_needSolid : e_mv YX35_needSolid RX35 0 := ⟨q5913, qs397, q5914, by decide, by decide +kernel, (e_sig (by decide +kernel))⟩
theorem dX35_needSolid_0 : decode cX35_needSolid 0 = .ok (.aload_n 0, 1) := dc_42 (by decide +kernel)
theorem dX35_needSolid_1 : decode cX35_needSolid 1 = .ok (.invokevirtual 490, 3) := dc_182 (a := 1) (b := 234) (n := 490) (by decide +kernel)
theorem dX35_needSolid_4 : decode cX35_needSolid 4 = .ok (.istore_n 1, 1) := dc_60 (by decide +kernel)
theorem dX35_needSolid_5 : decode cX35_needSolid 5 = .ok (.iload_n 1, 1) := dc_27 (by decide +kernel)
theorem dX35_needSolid_6 : decode cX35_needSolid 6 = .ok (.bipush 10, 2) := dc_16 (a := 10) (v := 10) (by decide +kernel)
theorem dX35_needSolid_8 : decode cX35_needSolid 8 = .ok (.invokestatic 493, 3) := dc_184 (a := 1) (b := 237) (n := 493) (by decide +kernel)
theorem dX35_needSolid_11 : decode cX35_needSolid 11 = .ok (.ifCond .ne 13, 3) := dc_154 (a := 0) (b := 13) (v := 13) (by decide +kernel)
theorem dX35_needSolid_14 : decode cX35_needSolid 14 = .ok (.aload_n 0, 1) := dc_42 (by decide +kernel)
theorem dX35_needSolid_15 : decode cX35_needSolid 15 = .ok (.iload_n 1, 1) := dc_27 (by decide +kernel)
theorem dX35_needSolid_16 : decode cX35_needSolid 16 = .ok (.bipush 22, 2) := dc_16 (a := 22) (v := 22) (by decide +kernel)
theorem dX35_needSolid_18 : decode cX35_needSolid 18 = .ok (.invokevirtual 554, 3) := dc_182 (a := 2) (b := 42) (n := 554) (by decide +kernel)
theorem dX35_needSolid_21 : decode cX35_needSolid 21 = .ok (.ifCond .eq 11, 3) := dc_153 (a := 0) (b := 11) (v := 11) (by decide +kernel)
theorem dX35_needSolid_24 : decode cX35_needSolid 24 = .ok (.aload_n 0, 1) := dc_42 (by decide +kernel)
theorem dX35_needSolid_25 : decode cX35_needSolid 25 = .ok (.invokevirtual 490, 3) := dc_182 (a := 1) (b := 234) (n := 490) (by decide +kernel)
theorem dX35_needSolid_28 : decode cX35_needSolid 28 = .ok (.istore_n 1, 1) := dc_60 (by decide +kernel)
theorem dX35_needSolid_29 : decode cX35_needSolid 29 = .ok (.goto (-24), 3) := dc_167 (a := 255) (b := 232) (v := -24) (by decide +kernel)
theorem dX35_needSolid_32 : decode cX35_needSolid 32 = .ok (.iload_n 1, 1) := dc_27 (by decide +kernel)
theorem dX35_needSolid_33 : decode cX35_needSolid 33 = .ok (.ireturn, 1) := dc_172 (by decide +kernel)
def fX35_needSolid_b24 (N : Nat) (sE : Nat → Int32 → eH → Option (Unit × eH)) (k5 : Nat → Int32 → eH → Option (Int32 × eH)) (l0 : Nat) (h : eH) : Option (Int32 × eH) :=
  (k_ok 34 h l0).bind fun _ =>
  (fX35_needExpanded N sE l0 h).bind fun q2 =>
  k5 l0 q2.1 q2.2
theorem pX35_needSolid_b24 {w : eW} {d : Nat} {dr : Nat} (hd : dr + 7 ≤ d + 1) (hdr : 12 ≤ dr) {N : Nat} {sE : Nat → Int32 → eH → Option (Unit × eH)} (hsE : ∀ a t0 h q, sE a t0 h = some q → wm w dr YX35_expand [.ref a, .int t0] h (e_is (e_rn c_V q))) {k5 : Nat → Int32 → eH → Option (Int32 × eH)} (hk5 : ∀ l0 l1 h q, k5 l0 l1 h = some q → wp w (d + 1) YX35_needSolid 5 [some (.ref l0), some (.int l1)] [] h (e_is (e_rn c_I q))) {l0 : Nat} {h : eH} {q} (hf : fX35_needSolid_b24 N sE k5 l0 h = some q) : wp w (d + 1) YX35_needSolid 24 [some (.ref l0), none] [] h (e_is (e_rn c_I q)) := by
  unfold fX35_needSolid_b24 at hf
  refine w_aload_n dX35_needSolid_24 rfl rfl ?_
  obtain ⟨_, b1, hf⟩ := Option.bind_eq_some_iff.mp hf
  refine x_cnI hf (e_stV (Yc := YX35_needExpanded) (ci := 34) (av := []) (st := []) dX35_needSolid_25 q5193 mX35_needExpanded rfl (k_ok_some b1).1 (k_ok_some b1).2) mX35_needExpanded.2.2.1 mX35_needExpanded.2.2.2.2.1 (Nat.le_of_ble_eq_true rfl) (Nat.le_of_ble_eq_true rfl) (fun q hq => pX35_needExpanded (by omega) hdr hsE hq) (fun q2 hf => ?_)
  refine w_istore_n dX35_needSolid_28 rfl (by decide) (ls' := [some (.ref l0), some (.int q2.1)]) rfl ?_
  refine w_goto 5 dX35_needSolid_29 (by decide) ?_
  exact (hk5 _ _ _ _ hf).to ⟨rfl, rfl, trivial⟩
def fX35_needSolid_b5 (N : Nat) (sE : Nat → Int32 → eH → Option (Unit × eH)) : Nat → Nat → Int32 → eH → Option (Int32 × eH)
  | 0, _, _, _ => none
  | n + 1, l0, l1, h =>
    (fX35_isOf l1 (10 : Int32) h).bind fun q1 =>
    if ¬ q1.1 = 0 then
      fX35_needSolid_b24 N sE (fX35_needSolid_b5 N sE n) l0 q1.2
    else
      (k_ok 34 q1.2 l0).bind fun _ =>
      (fX35_means l0 l1 (22 : Int32) q1.2).bind fun q4 =>
      if q4.1 = 0 then
        some (l1, q4.2)
      else
        fX35_needSolid_b24 N sE (fX35_needSolid_b5 N sE n) l0 q4.2
theorem pX35_needSolid_b5 {w : eW} {d : Nat} {dr : Nat} (hd : dr + 7 ≤ d + 1) (hdr : 12 ≤ dr) {N : Nat} {sE : Nat → Int32 → eH → Option (Unit × eH)} (hsE : ∀ a t0 h q, sE a t0 h = some q → wm w dr YX35_expand [.ref a, .int t0] h (e_is (e_rn c_V q))) : ∀ (n : Nat) l0 l1 h q, fX35_needSolid_b5 N sE n l0 l1 h = some q → wp w (d + 1) YX35_needSolid 5 [some (.ref l0), some (.int l1)] [] h (e_is (e_rn c_I q)) := by
  intro n
  induction n with
  | zero => intro l0 l1 h q hf; simp [fX35_needSolid_b5] at hf
  | succ n ih =>
    intro l0 l1 h q hf
    rw [fX35_needSolid_b5] at hf
    refine w_iload_n dX35_needSolid_5 rfl rfl ?_
    refine w_bipush dX35_needSolid_6 (v := 10) (by decide) ?_
    refine x_cnI hf (e_stS (Yc := YX35_isOf) (av := [.int l1, .int (10 : Int32)]) (st := []) dX35_needSolid_8 q5166 mX35_isOf) mX35_isOf.2.2.1 mX35_isOf.2.2.2.2.1 (Nat.le_of_ble_eq_true rfl) (Nat.le_of_ble_eq_true rfl) (fun q hq => pX35_isOf (by omega) hq) (fun q1 hf => ?_)
    refine w_if_ne 24 dX35_needSolid_11 (by decide) (fun c2 => ?_) (fun c2 => ?_)
    · replace hf := (if_pos (show ¬ q1.1 = 0 from c2)).symm.trans hf
      exact (pX35_needSolid_b24 hd hdr hsE ih hf).to ⟨rfl, trivial⟩
    · replace hf := (if_neg (show ¬ (¬ q1.1 = 0) from (fun z => z c2))).symm.trans hf
      refine w_aload_n dX35_needSolid_14 rfl rfl ?_
      refine w_iload_n dX35_needSolid_15 rfl rfl ?_
      refine w_bipush dX35_needSolid_16 (v := 22) (by decide) ?_
      obtain ⟨_, b3, hf⟩ := Option.bind_eq_some_iff.mp hf
      refine x_cnI hf (e_stV (Yc := YX35_means) (ci := 34) (av := [.int l1, .int (22 : Int32)]) (st := []) dX35_needSolid_18 q5197 mX35_means rfl (k_ok_some b3).1 (k_ok_some b3).2) mX35_means.2.2.1 mX35_means.2.2.2.2.1 (Nat.le_of_ble_eq_true rfl) (Nat.le_of_ble_eq_true rfl) (fun q hq => pX35_means (by omega) hq) (fun q4 hf => ?_)
      refine w_if_eq 32 dX35_needSolid_21 (by decide) (fun c5 => ?_) (fun c5 => ?_)
      · replace hf := (if_pos (show q4.1 = 0 from c5)).symm.trans hf
        refine w_iload_n dX35_needSolid_32 rfl rfl ?_
        cases hf
        exact w_iret dX35_needSolid_33 rfl rfl rfl
      · replace hf := (if_neg (show ¬ (q4.1 = 0) from c5)).symm.trans hf
        exact (pX35_needSolid_b24 hd hdr hsE ih hf).to ⟨rfl, trivial⟩
def fX35_needSolid (N : Nat) (sE : Nat → Int32 → eH → Option (Unit × eH)) (this : Nat) (h : eH) : Option (Int32 × eH) :=
  (k_ok 34 h this).bind fun _ =>
  (fX35_needExpanded N sE this h).bind fun q2 =>
  fX35_needSolid_b5 N sE N this q2.1 q2.2
theorem pX35_needSolid {w : eW} {d : Nat} {dr : Nat} (hd : dr + 7 ≤ d) (hdr : 12 ≤ dr) {N : Nat} {sE : Nat → Int32 → eH → Option (Unit × eH)} (hsE : ∀ a t0 h q, sE a t0 h = some q → wm w dr YX35_expand [.ref a, .int t0] h (e_is (e_rn c_V q))) {this : Nat} {h : eH} {q} (hf : fX35_needSolid N sE this h = some q) : wm w d YX35_needSolid [.ref this] h (e_is (e_rn c_I q)) := by
  obtain ⟨d, rfl⟩ : ∃ e, d = e + 1 := ⟨d - 1, by omega⟩
  show wp w (d + 1) YX35_needSolid 0 [some (.ref this), none] [] h _
  unfold fX35_needSolid at hf
  refine w_aload_n dX35_needSolid_0 rfl rfl ?_
  obtain ⟨_, b1, hf⟩ := Option.bind_eq_some_iff.mp hf
  refine x_cnI hf (e_stV (Yc := YX35_needExpanded) (ci := 34) (av := []) (st := []) dX35_needSolid_1 q5193 mX35_needExpanded rfl (k_ok_some b1).1 (k_ok_some b1).2) mX35_needExpanded.2.2.1 mX35_needExpanded.2.2.2.2.1 (Nat.le_of_ble_eq_true rfl) (Nat.le_of_ble_eq_true rfl) (fun q hq => pX35_needExpanded (by omega) hdr hsE hq) (fun q2 hf => ?_)
  refine w_istore_n dX35_needSolid_4 rfl (by decide) (ls' := [some (.ref this), some (.int q2.1)]) rfl ?_
  exact (pX35_needSolid_b5 hd hdr hsE N _ _ _ _ hf).to ⟨rfl, rfl, trivial⟩
abbrev cX35_openBox : ByteArray := prog_37_method_171_code
def yX35_openBox : MethodName := ⟨RX35, "openBox", "(ZIIZ)V"⟩
def YX35_openBox : eY := (yX35_openBox, cX35_openBox, 8, none, [])
theorem mX35_openBox : e_mv YX35_openBox RX35 4 := ⟨q5993, qs412, q5994, by decide, by decide +kernel, (e_sig (by decide +kernel))⟩
theorem dX35_openBox_0 : decode cX35_openBox 0 = .ok (.aload_n 0, 1) := dc_42 (by decide +kernel)
theorem dX35_openBox_1 : decode cX35_openBox 1 = .ok (.ldc_w 1153, 3) := dc_19 (a := 4) (b := 129) (n := 1153) (by decide +kernel)
theorem dX35_openBox_4 : decode cX35_openBox 4 = .ok (.invokevirtual 707, 3) := dc_182 (a := 2) (b := 195) (n := 707) (by decide +kernel)
theorem dX35_openBox_7 : decode cX35_openBox 7 = .ok (.ifCond .eq 7, 3) := dc_153 (a := 0) (b := 7) (v := 7) (by decide +kernel)
theorem dX35_openBox_10 : decode cX35_openBox 10 = .ok (.iconst 1, 1) := dc_4 (by decide +kernel)
theorem dX35_openBox_11 : decode cX35_openBox 11 = .ok (.goto 18, 3) := dc_167 (a := 0) (b := 18) (v := 18) (by decide +kernel)
theorem dX35_openBox_14 : decode cX35_openBox 14 = .ok (.aload_n 0, 1) := dc_42 (by decide +kernel)
theorem dX35_openBox_15 : decode cX35_openBox 15 = .ok (.ldc_w 1155, 3) := dc_19 (a := 4) (b := 131) (n := 1155) (by decide +kernel)
theorem dX35_openBox_18 : decode cX35_openBox 18 = .ok (.invokevirtual 707, 3) := dc_182 (a := 2) (b := 195) (n := 707) (by decide +kernel)
theorem dX35_openBox_21 : decode cX35_openBox 21 = .ok (.ifCond .eq 7, 3) := dc_153 (a := 0) (b := 7) (v := 7) (by decide +kernel)
theorem dX35_openBox_24 : decode cX35_openBox 24 = .ok (.iconst 2, 1) := dc_5 (by decide +kernel)
theorem dX35_openBox_25 : decode cX35_openBox 25 = .ok (.goto 4, 3) := dc_167 (a := 0) (b := 4) (v := 4) (by decide +kernel)
theorem dX35_openBox_28 : decode cX35_openBox 28 = .ok (.iconst 0, 1) := dc_3 (by decide +kernel)
theorem dX35_openBox_29 : decode cX35_openBox 29 = .ok (.istore 5, 2) := dc_54 (a := 5) (by decide +kernel)
theorem dX35_openBox_31 : decode cX35_openBox 31 = .ok (.aload_n 0, 1) := dc_42 (by decide +kernel)
theorem dX35_openBox_32 : decode cX35_openBox 32 = .ok (.getfield 321, 3) := dc_180 (a := 1) (b := 65) (n := 321) (by decide +kernel)
theorem dX35_openBox_35 : decode cX35_openBox 35 = .ok (.ifCond .ne 15, 3) := dc_154 (a := 0) (b := 15) (v := 15) (by decide +kernel)
theorem dX35_openBox_38 : decode cX35_openBox 38 = .ok (.iload 5, 2) := dc_21 (a := 5) (by decide +kernel)
theorem dX35_openBox_40 : decode cX35_openBox 40 = .ok (.ifCond .le 10, 3) := dc_158 (a := 0) (b := 10) (v := 10) (by decide +kernel)
theorem dX35_openBox_43 : decode cX35_openBox 43 = .ok (.aload_n 0, 1) := dc_42 (by decide +kernel)
theorem dX35_openBox_44 : decode cX35_openBox 44 = .ok (.invokevirtual 614, 3) := dc_182 (a := 2) (b := 102) (n := 614) (by decide +kernel)
theorem dX35_openBox_47 : decode cX35_openBox 47 = .ok (.goto 4, 3) := dc_167 (a := 0) (b := 4) (v := 4) (by decide +kernel)
theorem dX35_openBox_50 : decode cX35_openBox 50 = .ok (.iconst 0, 1) := dc_3 (by decide +kernel)
theorem dX35_openBox_51 : decode cX35_openBox 51 = .ok (.istore 6, 2) := dc_54 (a := 6) (by decide +kernel)
theorem dX35_openBox_53 : decode cX35_openBox 53 = .ok (.aload_n 0, 1) := dc_42 (by decide +kernel)
theorem dX35_openBox_54 : decode cX35_openBox 54 = .ok (.invokevirtual 1143, 3) := dc_182 (a := 4) (b := 119) (n := 1143) (by decide +kernel)
theorem dX35_openBox_57 : decode cX35_openBox 57 = .ok (.istore 7, 2) := dc_54 (a := 7) (by decide +kernel)
theorem dX35_openBox_59 : decode cX35_openBox 59 = .ok (.aload_n 0, 1) := dc_42 (by decide +kernel)
theorem dX35_openBox_60 : decode cX35_openBox 60 = .ok (.getfield 321, 3) := dc_180 (a := 1) (b := 65) (n := 321) (by decide +kernel)
theorem dX35_openBox_63 : decode cX35_openBox 63 = .ok (.ifCond .ne 51, 3) := dc_154 (a := 0) (b := 51) (v := 51) (by decide +kernel)
theorem dX35_openBox_66 : decode cX35_openBox 66 = .ok (.aload_n 0, 1) := dc_42 (by decide +kernel)
theorem dX35_openBox_67 : decode cX35_openBox 67 = .ok (.iload 7, 2) := dc_21 (a := 7) (by decide +kernel)
theorem dX35_openBox_69 : decode cX35_openBox 69 = .ok (.invokevirtual 474, 3) := dc_182 (a := 1) (b := 218) (n := 474) (by decide +kernel)
theorem dX35_openBox_72 : decode cX35_openBox 72 = .ok (.ldc_w 470, 3) := dc_19 (a := 1) (b := 214) (n := 470) (by decide +kernel)
theorem dX35_openBox_75 : decode cX35_openBox 75 = .ok (.if_icmp .lt 33, 3) := dc_161 (a := 0) (b := 33) (v := 33) (by decide +kernel)
theorem dX35_openBox_78 : decode cX35_openBox 78 = .ok (.aload_n 0, 1) := dc_42 (by decide +kernel)
theorem dX35_openBox_79 : decode cX35_openBox 79 = .ok (.iload 7, 2) := dc_21 (a := 7) (by decide +kernel)
theorem dX35_openBox_81 : decode cX35_openBox 81 = .ok (.invokevirtual 474, 3) := dc_182 (a := 1) (b := 218) (n := 474) (by decide +kernel)
theorem dX35_openBox_84 : decode cX35_openBox 84 = .ok (.ldc_w 606, 3) := dc_19 (a := 2) (b := 94) (n := 606) (by decide +kernel)
theorem dX35_openBox_87 : decode cX35_openBox 87 = .ok (.if_icmp .ge 21, 3) := dc_162 (a := 0) (b := 21) (v := 21) (by decide +kernel)
theorem dX35_openBox_90 : decode cX35_openBox 90 = .ok (.aload_n 0, 1) := dc_42 (by decide +kernel)
theorem dX35_openBox_91 : decode cX35_openBox 91 = .ok (.iload 7, 2) := dc_21 (a := 7) (by decide +kernel)
theorem dX35_openBox_93 : decode cX35_openBox 93 = .ok (.invokevirtual 474, 3) := dc_182 (a := 1) (b := 218) (n := 474) (by decide +kernel)
theorem dX35_openBox_96 : decode cX35_openBox 96 = .ok (.ldc_w 470, 3) := dc_19 (a := 1) (b := 214) (n := 470) (by decide +kernel)
theorem dX35_openBox_99 : decode cX35_openBox 99 = .ok (.isub, 1) := dc_100 (by decide +kernel)
theorem dX35_openBox_100 : decode cX35_openBox 100 = .ok (.sipush 256, 3) := dc_17 (a := 1) (b := 0) (v := 256) (by decide +kernel)
theorem dX35_openBox_103 : decode cX35_openBox 103 = .ok (.idiv, 1) := dc_108 (by decide +kernel)
theorem dX35_openBox_104 : decode cX35_openBox 104 = .ok (.iconst 1, 1) := dc_4 (by decide +kernel)
theorem dX35_openBox_105 : decode cX35_openBox 105 = .ok (.if_icmp .eq 9, 3) := dc_159 (a := 0) (b := 9) (v := 9) (by decide +kernel)
theorem dX35_openBox_108 : decode cX35_openBox 108 = .ok (.aload_n 0, 1) := dc_42 (by decide +kernel)
theorem dX35_openBox_109 : decode cX35_openBox 109 = .ok (.bipush 6, 2) := dc_16 (a := 6) (v := 6) (by decide +kernel)
theorem dX35_openBox_111 : decode cX35_openBox 111 = .ok (.invokevirtual 428, 3) := dc_182 (a := 1) (b := 172) (n := 428) (by decide +kernel)
theorem dX35_openBox_114 : decode cX35_openBox 114 = .ok (.aload_n 0, 1) := dc_42 (by decide +kernel)
theorem dX35_openBox_115 : decode cX35_openBox 115 = .ok (.iconst 3, 1) := dc_6 (by decide +kernel)
theorem dX35_openBox_116 : decode cX35_openBox 116 = .ok (.invokevirtual 1157, 3) := dc_182 (a := 4) (b := 133) (n := 1157) (by decide +kernel)
theorem dX35_openBox_119 : decode cX35_openBox 119 = .ok (.aload_n 0, 1) := dc_42 (by decide +kernel)
theorem dX35_openBox_120 : decode cX35_openBox 120 = .ok (.getfield 321, 3) := dc_180 (a := 1) (b := 65) (n := 321) (by decide +kernel)
theorem dX35_openBox_123 : decode cX35_openBox 123 = .ok (.ifCond .le 4, 3) := dc_158 (a := 0) (b := 4) (v := 4) (by decide +kernel)
theorem dX35_openBox_126 : decode cX35_openBox 126 = .ok (.return_, 1) := dc_177 (by decide +kernel)
theorem dX35_openBox_127 : decode cX35_openBox 127 = .ok (.aload_n 0, 1) := dc_42 (by decide +kernel)
theorem dX35_openBox_128 : decode cX35_openBox 128 = .ok (.getfield 71, 3) := dc_180 (a := 0) (b := 71) (n := 71) (by decide +kernel)
theorem dX35_openBox_131 : decode cX35_openBox 131 = .ok (.aload_n 0, 1) := dc_42 (by decide +kernel)
theorem dX35_openBox_132 : decode cX35_openBox 132 = .ok (.getfield 323, 3) := dc_180 (a := 1) (b := 67) (n := 323) (by decide +kernel)
theorem dX35_openBox_135 : decode cX35_openBox 135 = .ok (.iload_n 1, 1) := dc_27 (by decide +kernel)
theorem dX35_openBox_136 : decode cX35_openBox 136 = .ok (.bastore, 1) := dc_84 (by decide +kernel)
theorem dX35_openBox_137 : decode cX35_openBox 137 = .ok (.aload_n 0, 1) := dc_42 (by decide +kernel)
theorem dX35_openBox_138 : decode cX35_openBox 138 = .ok (.getfield 75, 3) := dc_180 (a := 0) (b := 75) (n := 75) (by decide +kernel)
theorem dX35_openBox_141 : decode cX35_openBox 141 = .ok (.aload_n 0, 1) := dc_42 (by decide +kernel)
theorem dX35_openBox_142 : decode cX35_openBox 142 = .ok (.getfield 323, 3) := dc_180 (a := 1) (b := 67) (n := 323) (by decide +kernel)
theorem dX35_openBox_145 : decode cX35_openBox 145 = .ok (.iload 5, 2) := dc_21 (a := 5) (by decide +kernel)
theorem dX35_openBox_147 : decode cX35_openBox 147 = .ok (.iastore, 1) := dc_79 (by decide +kernel)
theorem dX35_openBox_148 : decode cX35_openBox 148 = .ok (.aload_n 0, 1) := dc_42 (by decide +kernel)
theorem dX35_openBox_149 : decode cX35_openBox 149 = .ok (.getfield 78, 3) := dc_180 (a := 0) (b := 78) (n := 78) (by decide +kernel)
theorem dX35_openBox_152 : decode cX35_openBox 152 = .ok (.aload_n 0, 1) := dc_42 (by decide +kernel)
theorem dX35_openBox_153 : decode cX35_openBox 153 = .ok (.getfield 323, 3) := dc_180 (a := 1) (b := 67) (n := 323) (by decide +kernel)
theorem dX35_openBox_156 : decode cX35_openBox 156 = .ok (.iload 6, 2) := dc_21 (a := 6) (by decide +kernel)
theorem dX35_openBox_158 : decode cX35_openBox 158 = .ok (.iastore, 1) := dc_79 (by decide +kernel)
theorem dX35_openBox_159 : decode cX35_openBox 159 = .ok (.aload_n 0, 1) := dc_42 (by decide +kernel)
theorem dX35_openBox_160 : decode cX35_openBox 160 = .ok (.getfield 81, 3) := dc_180 (a := 0) (b := 81) (n := 81) (by decide +kernel)
theorem dX35_openBox_163 : decode cX35_openBox 163 = .ok (.aload_n 0, 1) := dc_42 (by decide +kernel)
theorem dX35_openBox_164 : decode cX35_openBox 164 = .ok (.getfield 323, 3) := dc_180 (a := 1) (b := 67) (n := 323) (by decide +kernel)
theorem dX35_openBox_167 : decode cX35_openBox 167 = .ok (.iload_n 2, 1) := dc_28 (by decide +kernel)
theorem dX35_openBox_168 : decode cX35_openBox 168 = .ok (.iastore, 1) := dc_79 (by decide +kernel)
theorem dX35_openBox_169 : decode cX35_openBox 169 = .ok (.aload_n 0, 1) := dc_42 (by decide +kernel)
theorem dX35_openBox_170 : decode cX35_openBox 170 = .ok (.getfield 84, 3) := dc_180 (a := 0) (b := 84) (n := 84) (by decide +kernel)
theorem dX35_openBox_173 : decode cX35_openBox 173 = .ok (.aload_n 0, 1) := dc_42 (by decide +kernel)
theorem dX35_openBox_174 : decode cX35_openBox 174 = .ok (.getfield 323, 3) := dc_180 (a := 1) (b := 67) (n := 323) (by decide +kernel)
theorem dX35_openBox_177 : decode cX35_openBox 177 = .ok (.iload_n 3, 1) := dc_29 (by decide +kernel)
theorem dX35_openBox_178 : decode cX35_openBox 178 = .ok (.iastore, 1) := dc_79 (by decide +kernel)
theorem dX35_openBox_179 : decode cX35_openBox 179 = .ok (.aload_n 0, 1) := dc_42 (by decide +kernel)
theorem dX35_openBox_180 : decode cX35_openBox 180 = .ok (.getfield 87, 3) := dc_180 (a := 0) (b := 87) (n := 87) (by decide +kernel)
theorem dX35_openBox_183 : decode cX35_openBox 183 = .ok (.aload_n 0, 1) := dc_42 (by decide +kernel)
theorem dX35_openBox_184 : decode cX35_openBox 184 = .ok (.getfield 323, 3) := dc_180 (a := 1) (b := 67) (n := 323) (by decide +kernel)
theorem dX35_openBox_187 : decode cX35_openBox 187 = .ok (.iload 4, 2) := dc_21 (a := 4) (by decide +kernel)
theorem dX35_openBox_189 : decode cX35_openBox 189 = .ok (.bastore, 1) := dc_84 (by decide +kernel)
theorem dX35_openBox_190 : decode cX35_openBox 190 = .ok (.aload_n 0, 1) := dc_42 (by decide +kernel)
theorem dX35_openBox_191 : decode cX35_openBox 191 = .ok (.iload_n 1, 1) := dc_27 (by decide +kernel)
theorem dX35_openBox_192 : decode cX35_openBox 192 = .ok (.ifCond .eq 7, 3) := dc_153 (a := 0) (b := 7) (v := 7) (by decide +kernel)
theorem dX35_openBox_195 : decode cX35_openBox 195 = .ok (.iconst 1, 1) := dc_4 (by decide +kernel)
theorem dX35_openBox_196 : decode cX35_openBox 196 = .ok (.goto 4, 3) := dc_167 (a := 0) (b := 4) (v := 4) (by decide +kernel)
theorem dX35_openBox_199 : decode cX35_openBox 199 = .ok (.iconst 3, 1) := dc_6 (by decide +kernel)
theorem dX35_openBox_200 : decode cX35_openBox 200 = .ok (.invokevirtual 876, 3) := dc_182 (a := 3) (b := 108) (n := 876) (by decide +kernel)
theorem dX35_openBox_203 : decode cX35_openBox 203 = .ok (.return_, 1) := dc_177 (by decide +kernel)
def fX35_openBox_b200 (N : Nat) (sE : Nat → Int32 → eH → Option (Unit × eH)) (sN : Nat → eH → Option (Int32 × eH)) (s0 : Nat) (s1 : Int32) (h : eH) : Option (Unit × eH) :=
  (k_ok 34 h s0).bind fun _ =>
  (fX35_openList s0 s1 h).bind fun q2 =>
  some ((), q2.2)
theorem pX35_openBox_b200 {w : eW} {d : Nat} {dr : Nat} (hd : dr + 11 ≤ d + 1) (hdr : 12 ≤ dr) {N : Nat} {sE : Nat → Int32 → eH → Option (Unit × eH)} {sN : Nat → eH → Option (Int32 × eH)} (hsE : ∀ a t0 h q, sE a t0 h = some q → wm w dr YX35_expand [.ref a, .int t0] h (e_is (e_rn c_V q))) (hsN : ∀ a h q, sN a h = some q → wm w dr YX35_number [.ref a] h (e_is (e_rn c_I q))) {s0 : Nat} {s1 : Int32} {h : eH} {q} (hf : fX35_openBox_b200 N sE sN s0 s1 h = some q) : wp w (d + 1) YX35_openBox 200 [none, none, none, none, none, none, none, none] [.int s1, .ref s0] h (e_is (e_rn c_V q)) := by
  unfold fX35_openBox_b200 at hf
  obtain ⟨_, b1, hf⟩ := Option.bind_eq_some_iff.mp hf
  refine x_cnV hf (e_stV (Yc := YX35_openList) (ci := 34) (av := [.int s1]) (st := []) dX35_openBox_200 q5650 mX35_openList rfl (k_ok_some b1).1 (k_ok_some b1).2) mX35_openList.2.2.1 mX35_openList.2.2.2.2.1 (Nat.le_of_ble_eq_true rfl) (Nat.le_of_ble_eq_true rfl) (fun q hq => pX35_openList (by omega) hq) (fun q2 hf => ?_)
  cases hf
  exact w_vret dX35_openBox_203 rfl rfl
def fX35_openBox_b114 (N : Nat) (sE : Nat → Int32 → eH → Option (Unit × eH)) (sN : Nat → eH → Option (Int32 × eH)) (l0 : Nat) (l1 : Int32) (l2 : Int32) (l3 : Int32) (l4 : Int32) (l5 : Int32) (l6 : Int32) (h : eH) : Option (Unit × eH) :=
  (k_ok 34 h l0).bind fun _ =>
  (fX35_openGroup N l0 (3 : Int32) h).bind fun q2 =>
  (g_I 34 q2.2 l0 46).bind fun x3 =>
  if x3 ≤ 0 then
    (g_A 34 q2.2 l0 24).bind fun a6 =>
    (g_I 34 q2.2 l0 21).bind fun x8 =>
    (q_V 103 q2.2 a6 x8 (.int (l1 &&& 1))).bind fun h10 =>
    (g_A 34 h10 l0 25).bind fun a12 =>
    (g_I 34 h10 l0 21).bind fun x14 =>
    (q_V 100 h10 a12 x14 (.int l5)).bind fun h16 =>
    (g_A 34 h16 l0 26).bind fun a18 =>
    (g_I 34 h16 l0 21).bind fun x20 =>
    (q_V 100 h16 a18 x20 (.int l6)).bind fun h22 =>
    (g_A 34 h22 l0 27).bind fun a24 =>
    (g_I 34 h22 l0 21).bind fun x26 =>
    (q_V 100 h22 a24 x26 (.int l2)).bind fun h28 =>
    (g_A 34 h28 l0 28).bind fun a30 =>
    (g_I 34 h28 l0 21).bind fun x32 =>
    (q_V 100 h28 a30 x32 (.int l3)).bind fun h34 =>
    (g_A 34 h34 l0 29).bind fun a36 =>
    (g_I 34 h34 l0 21).bind fun x38 =>
    (q_V 103 h34 a36 x38 (.int (l4 &&& 1))).bind fun h40 =>
    if l1 = 0 then
      fX35_openBox_b200 N sE sN l0 (3 : Int32) h40
    else
      fX35_openBox_b200 N sE sN l0 (1 : Int32) h40
  else
    some ((), q2.2)
theorem pX35_openBox_b114 {w : eW} {d : Nat} {dr : Nat} (hd : dr + 11 ≤ d + 1) (hdr : 12 ≤ dr) {N : Nat} {sE : Nat → Int32 → eH → Option (Unit × eH)} {sN : Nat → eH → Option (Int32 × eH)} (hsE : ∀ a t0 h q, sE a t0 h = some q → wm w dr YX35_expand [.ref a, .int t0] h (e_is (e_rn c_V q))) (hsN : ∀ a h q, sN a h = some q → wm w dr YX35_number [.ref a] h (e_is (e_rn c_I q))) {l0 : Nat} {l1 : Int32} {l2 : Int32} {l3 : Int32} {l4 : Int32} {l5 : Int32} {l6 : Int32} {h : eH} {q} (hf : fX35_openBox_b114 N sE sN l0 l1 l2 l3 l4 l5 l6 h = some q) : wp w (d + 1) YX35_openBox 114 [some (.ref l0), some (.int l1), some (.int l2), some (.int l3), some (.int l4), some (.int l5), some (.int l6), none] [] h (e_is (e_rn c_V q)) := by
  unfold fX35_openBox_b114 at hf
  refine w_aload_n dX35_openBox_114 rfl rfl ?_
  refine w_iconst dX35_openBox_115 (v := 3) (by decide) ?_
  obtain ⟨_, b1, hf⟩ := Option.bind_eq_some_iff.mp hf
  refine x_cnV hf (e_stV (Yc := YX35_openGroup) (ci := 34) (av := [.int (3 : Int32)]) (st := []) dX35_openBox_116 q5730 mX35_openGroup rfl (k_ok_some b1).1 (k_ok_some b1).2) mX35_openGroup.2.2.1 mX35_openGroup.2.2.2.2.1 (Nat.le_of_ble_eq_true rfl) (Nat.le_of_ble_eq_true rfl) (fun q hq => pX35_openGroup (by omega) hq) (fun q2 hf => ?_)
  refine w_aload_n dX35_openBox_119 rfl rfl ?_
  obtain ⟨x3, b4, hf⟩ := Option.bind_eq_some_iff.mp hf
  refine GX35_321 b4 dX35_openBox_120 rfl ?_
  refine w_if_le 127 dX35_openBox_123 (by decide) (fun c5 => ?_) (fun c5 => ?_)
  · replace hf := (if_pos (show x3 ≤ 0 from c5)).symm.trans hf
    refine w_aload_n dX35_openBox_127 rfl rfl ?_
    obtain ⟨a6, b7, hf⟩ := Option.bind_eq_some_iff.mp hf
    refine GX35_71 b7 dX35_openBox_128 rfl ?_
    refine w_aload_n dX35_openBox_131 rfl rfl ?_
    obtain ⟨x8, b9, hf⟩ := Option.bind_eq_some_iff.mp hf
    refine GX35_323 b9 dX35_openBox_132 rfl ?_
    refine w_iload_n dX35_openBox_135 rfl rfl ?_
    obtain ⟨h10, b11, hf⟩ := Option.bind_eq_some_iff.mp hf
    refine x_qZ b11 dX35_openBox_136 ?_
    refine w_aload_n dX35_openBox_137 rfl rfl ?_
    obtain ⟨a12, b13, hf⟩ := Option.bind_eq_some_iff.mp hf
    refine GX35_75 b13 dX35_openBox_138 rfl ?_
    refine w_aload_n dX35_openBox_141 rfl rfl ?_
    obtain ⟨x14, b15, hf⟩ := Option.bind_eq_some_iff.mp hf
    refine GX35_323 b15 dX35_openBox_142 rfl ?_
    refine w_iload dX35_openBox_145 rfl ?_
    obtain ⟨h16, b17, hf⟩ := Option.bind_eq_some_iff.mp hf
    refine x_qI b17 dX35_openBox_147 ?_
    refine w_aload_n dX35_openBox_148 rfl rfl ?_
    obtain ⟨a18, b19, hf⟩ := Option.bind_eq_some_iff.mp hf
    refine GX35_78 b19 dX35_openBox_149 rfl ?_
    refine w_aload_n dX35_openBox_152 rfl rfl ?_
    obtain ⟨x20, b21, hf⟩ := Option.bind_eq_some_iff.mp hf
    refine GX35_323 b21 dX35_openBox_153 rfl ?_
    refine w_iload dX35_openBox_156 rfl ?_
    obtain ⟨h22, b23, hf⟩ := Option.bind_eq_some_iff.mp hf
    refine x_qI b23 dX35_openBox_158 ?_
    refine w_aload_n dX35_openBox_159 rfl rfl ?_
    obtain ⟨a24, b25, hf⟩ := Option.bind_eq_some_iff.mp hf
    refine GX35_81 b25 dX35_openBox_160 rfl ?_
    refine w_aload_n dX35_openBox_163 rfl rfl ?_
    obtain ⟨x26, b27, hf⟩ := Option.bind_eq_some_iff.mp hf
    refine GX35_323 b27 dX35_openBox_164 rfl ?_
    refine w_iload_n dX35_openBox_167 rfl rfl ?_
    obtain ⟨h28, b29, hf⟩ := Option.bind_eq_some_iff.mp hf
    refine x_qI b29 dX35_openBox_168 ?_
    refine w_aload_n dX35_openBox_169 rfl rfl ?_
    obtain ⟨a30, b31, hf⟩ := Option.bind_eq_some_iff.mp hf
    refine GX35_84 b31 dX35_openBox_170 rfl ?_
    refine w_aload_n dX35_openBox_173 rfl rfl ?_
    obtain ⟨x32, b33, hf⟩ := Option.bind_eq_some_iff.mp hf
    refine GX35_323 b33 dX35_openBox_174 rfl ?_
    refine w_iload_n dX35_openBox_177 rfl rfl ?_
    obtain ⟨h34, b35, hf⟩ := Option.bind_eq_some_iff.mp hf
    refine x_qI b35 dX35_openBox_178 ?_
    refine w_aload_n dX35_openBox_179 rfl rfl ?_
    obtain ⟨a36, b37, hf⟩ := Option.bind_eq_some_iff.mp hf
    refine GX35_87 b37 dX35_openBox_180 rfl ?_
    refine w_aload_n dX35_openBox_183 rfl rfl ?_
    obtain ⟨x38, b39, hf⟩ := Option.bind_eq_some_iff.mp hf
    refine GX35_323 b39 dX35_openBox_184 rfl ?_
    refine w_iload dX35_openBox_187 rfl ?_
    obtain ⟨h40, b41, hf⟩ := Option.bind_eq_some_iff.mp hf
    refine x_qZ b41 dX35_openBox_189 ?_
    refine w_aload_n dX35_openBox_190 rfl rfl ?_
    refine w_iload_n dX35_openBox_191 rfl rfl ?_
    refine w_if_eq 199 dX35_openBox_192 (by decide) (fun c42 => ?_) (fun c42 => ?_)
    · replace hf := (if_pos (show l1 = 0 from c42)).symm.trans hf
      refine w_iconst dX35_openBox_199 (v := 3) (by decide) ?_
      exact (pX35_openBox_b200 hd hdr hsE hsN hf).to trivial
    · replace hf := (if_neg (show ¬ (l1 = 0) from c42)).symm.trans hf
      refine w_iconst dX35_openBox_195 (v := 1) (by decide) ?_
      refine w_goto 200 dX35_openBox_196 (by decide) ?_
      exact (pX35_openBox_b200 hd hdr hsE hsN hf).to trivial
  · replace hf := (if_neg (show ¬ (x3 ≤ 0) from c5)).symm.trans hf
    cases hf
    exact w_vret dX35_openBox_126 rfl rfl
def fX35_openBox_b108 (N : Nat) (sE : Nat → Int32 → eH → Option (Unit × eH)) (sN : Nat → eH → Option (Int32 × eH)) (l0 : Nat) (l1 : Int32) (l2 : Int32) (l3 : Int32) (l4 : Int32) (l5 : Int32) (l6 : Int32) (h : eH) : Option (Unit × eH) :=
  (k_ok 34 h l0).bind fun _ =>
  (fX35_fail l0 (6 : Int32) h).bind fun q2 =>
  fX35_openBox_b114 N sE sN l0 l1 l2 l3 l4 l5 l6 q2.2
theorem pX35_openBox_b108 {w : eW} {d : Nat} {dr : Nat} (hd : dr + 11 ≤ d + 1) (hdr : 12 ≤ dr) {N : Nat} {sE : Nat → Int32 → eH → Option (Unit × eH)} {sN : Nat → eH → Option (Int32 × eH)} (hsE : ∀ a t0 h q, sE a t0 h = some q → wm w dr YX35_expand [.ref a, .int t0] h (e_is (e_rn c_V q))) (hsN : ∀ a h q, sN a h = some q → wm w dr YX35_number [.ref a] h (e_is (e_rn c_I q))) {l0 : Nat} {l1 : Int32} {l2 : Int32} {l3 : Int32} {l4 : Int32} {l5 : Int32} {l6 : Int32} {h : eH} {q} (hf : fX35_openBox_b108 N sE sN l0 l1 l2 l3 l4 l5 l6 h = some q) : wp w (d + 1) YX35_openBox 108 [some (.ref l0), some (.int l1), some (.int l2), some (.int l3), some (.int l4), some (.int l5), some (.int l6), none] [] h (e_is (e_rn c_V q)) := by
  unfold fX35_openBox_b108 at hf
  refine w_aload_n dX35_openBox_108 rfl rfl ?_
  refine w_bipush dX35_openBox_109 (v := 6) (by decide) ?_
  obtain ⟨_, b1, hf⟩ := Option.bind_eq_some_iff.mp hf
  refine x_cnV hf (e_stV (Yc := YX35_fail) (ci := 34) (av := [.int (6 : Int32)]) (st := []) dX35_openBox_111 q5109 mX35_fail rfl (k_ok_some b1).1 (k_ok_some b1).2) mX35_fail.2.2.1 mX35_fail.2.2.2.2.1 (Nat.le_of_ble_eq_true rfl) (Nat.le_of_ble_eq_true rfl) (fun q hq => pX35_fail (by omega) hq) (fun q2 hf => ?_)
  exact (pX35_openBox_b114 hd hdr hsE hsN hf).to ⟨rfl, rfl, rfl, rfl, rfl, rfl, rfl, trivial⟩
def fX35_openBox_b51 (N : Nat) (sE : Nat → Int32 → eH → Option (Unit × eH)) (sN : Nat → eH → Option (Int32 × eH)) (l0 : Nat) (l1 : Int32) (l2 : Int32) (l3 : Int32) (l4 : Int32) (l5 : Int32) (s0 : Int32) (h : eH) : Option (Unit × eH) :=
  (k_ok 34 h l0).bind fun _ =>
  (fX35_needSolid N sE l0 h).bind fun q2 =>
  (g_I 34 q2.2 l0 46).bind fun x3 =>
  if ¬ x3 = 0 then
    fX35_openBox_b114 N sE sN l0 l1 l2 l3 l4 l5 s0 q2.2
  else
    (k_ok 34 q2.2 l0).bind fun _ =>
    (fX35_meaning l0 q2.1 q2.2).bind fun q7 =>
    if q7.1 < (2000000 : Int32) then
      fX35_openBox_b108 N sE sN l0 l1 l2 l3 l4 l5 s0 q7.2
    else
      (k_ok 34 q7.2 l0).bind fun _ =>
      (fX35_meaning l0 q2.1 q7.2).bind fun q10 =>
      if (3000000 : Int32) ≤ q10.1 then
        fX35_openBox_b108 N sE sN l0 l1 l2 l3 l4 l5 s0 q10.2
      else
        (k_ok 34 q10.2 l0).bind fun _ =>
        (fX35_meaning l0 q2.1 q10.2).bind fun q13 =>
        if ((q13.1 - (2000000 : Int32)) / (256 : Int32)) = (1 : Int32) then
          fX35_openBox_b114 N sE sN l0 l1 l2 l3 l4 l5 s0 q13.2
        else
          fX35_openBox_b108 N sE sN l0 l1 l2 l3 l4 l5 s0 q13.2
theorem pX35_openBox_b51 {w : eW} {d : Nat} {dr : Nat} (hd : dr + 11 ≤ d + 1) (hdr : 12 ≤ dr) {N : Nat} {sE : Nat → Int32 → eH → Option (Unit × eH)} {sN : Nat → eH → Option (Int32 × eH)} (hsE : ∀ a t0 h q, sE a t0 h = some q → wm w dr YX35_expand [.ref a, .int t0] h (e_is (e_rn c_V q))) (hsN : ∀ a h q, sN a h = some q → wm w dr YX35_number [.ref a] h (e_is (e_rn c_I q))) {l0 : Nat} {l1 : Int32} {l2 : Int32} {l3 : Int32} {l4 : Int32} {l5 : Int32} {s0 : Int32} {h : eH} {q} (hf : fX35_openBox_b51 N sE sN l0 l1 l2 l3 l4 l5 s0 h = some q) : wp w (d + 1) YX35_openBox 51 [some (.ref l0), some (.int l1), some (.int l2), some (.int l3), some (.int l4), some (.int l5), none, none] [.int s0] h (e_is (e_rn c_V q)) := by
  unfold fX35_openBox_b51 at hf
  refine w_istore dX35_openBox_51 (by decide) (ls' := [some (.ref l0), some (.int l1), some (.int l2), some (.int l3), some (.int l4), some (.int l5), some (.int s0), none]) rfl ?_
  refine w_aload_n dX35_openBox_53 rfl rfl ?_
  obtain ⟨_, b1, hf⟩ := Option.bind_eq_some_iff.mp hf
  refine x_cnI hf (e_stV (Yc := YX35_needSolid) (ci := 34) (av := []) (st := []) dX35_openBox_54 q5911 mX35_needSolid rfl (k_ok_some b1).1 (k_ok_some b1).2) mX35_needSolid.2.2.1 mX35_needSolid.2.2.2.2.1 (Nat.le_of_ble_eq_true rfl) (Nat.le_of_ble_eq_true rfl) (fun q hq => pX35_needSolid (by omega) hdr hsE hq) (fun q2 hf => ?_)
  refine w_istore dX35_openBox_57 (by decide) (ls' := [some (.ref l0), some (.int l1), some (.int l2), some (.int l3), some (.int l4), some (.int l5), some (.int s0), some (.int q2.1)]) rfl ?_
  refine w_aload_n dX35_openBox_59 rfl rfl ?_
  obtain ⟨x3, b4, hf⟩ := Option.bind_eq_some_iff.mp hf
  refine GX35_321 b4 dX35_openBox_60 rfl ?_
  refine w_if_ne 114 dX35_openBox_63 (by decide) (fun c5 => ?_) (fun c5 => ?_)
  · replace hf := (if_pos (show ¬ x3 = 0 from c5)).symm.trans hf
    exact (pX35_openBox_b114 hd hdr hsE hsN hf).to ⟨rfl, rfl, rfl, rfl, rfl, rfl, rfl, trivial⟩
  · replace hf := (if_neg (show ¬ (¬ x3 = 0) from (fun z => z c5))).symm.trans hf
    refine w_aload_n dX35_openBox_66 rfl rfl ?_
    refine w_iload dX35_openBox_67 rfl ?_
    obtain ⟨_, b6, hf⟩ := Option.bind_eq_some_iff.mp hf
    refine x_cnI hf (e_stV (Yc := YX35_meaning) (ci := 34) (av := [.int q2.1]) (st := []) dX35_openBox_69 q5130 mX35_meaning rfl (k_ok_some b6).1 (k_ok_some b6).2) mX35_meaning.2.2.1 mX35_meaning.2.2.2.2.1 (Nat.le_of_ble_eq_true rfl) (Nat.le_of_ble_eq_true rfl) (fun q hq => pX35_meaning (by omega) hq) (fun q7 hf => ?_)
    refine w_ldc_w dX35_openBox_72 q5134 ?_
    refine w_icmp_lt 108 dX35_openBox_75 (by decide) (fun c8 => ?_) (fun c8 => ?_)
    · replace hf := (if_pos (show q7.1 < (2000000 : Int32) from c8)).symm.trans hf
      exact (pX35_openBox_b108 hd hdr hsE hsN hf).to ⟨rfl, rfl, rfl, rfl, rfl, rfl, rfl, trivial⟩
    · replace hf := (if_neg (show ¬ (q7.1 < (2000000 : Int32)) from c8)).symm.trans hf
      refine w_aload_n dX35_openBox_78 rfl rfl ?_
      refine w_iload dX35_openBox_79 rfl ?_
      obtain ⟨_, b9, hf⟩ := Option.bind_eq_some_iff.mp hf
      refine x_cnI hf (e_stV (Yc := YX35_meaning) (ci := 34) (av := [.int q2.1]) (st := []) dX35_openBox_81 q5130 mX35_meaning rfl (k_ok_some b9).1 (k_ok_some b9).2) mX35_meaning.2.2.1 mX35_meaning.2.2.2.2.1 (Nat.le_of_ble_eq_true rfl) (Nat.le_of_ble_eq_true rfl) (fun q hq => pX35_meaning (by omega) hq) (fun q10 hf => ?_)
      refine w_ldc_w dX35_openBox_84 q5265 ?_
      refine w_icmp_ge 108 dX35_openBox_87 (by decide) (fun c11 => ?_) (fun c11 => ?_)
      · replace hf := (if_pos (show (3000000 : Int32) ≤ q10.1 from c11)).symm.trans hf
        exact (pX35_openBox_b108 hd hdr hsE hsN hf).to ⟨rfl, rfl, rfl, rfl, rfl, rfl, rfl, trivial⟩
      · replace hf := (if_neg (show ¬ ((3000000 : Int32) ≤ q10.1) from c11)).symm.trans hf
        refine w_aload_n dX35_openBox_90 rfl rfl ?_
        refine w_iload dX35_openBox_91 rfl ?_
        obtain ⟨_, b12, hf⟩ := Option.bind_eq_some_iff.mp hf
        refine x_cnI hf (e_stV (Yc := YX35_meaning) (ci := 34) (av := [.int q2.1]) (st := []) dX35_openBox_93 q5130 mX35_meaning rfl (k_ok_some b12).1 (k_ok_some b12).2) mX35_meaning.2.2.1 mX35_meaning.2.2.2.2.1 (Nat.le_of_ble_eq_true rfl) (Nat.le_of_ble_eq_true rfl) (fun q hq => pX35_meaning (by omega) hq) (fun q13 hf => ?_)
        refine w_ldc_w dX35_openBox_96 q5134 ?_
        refine w_isub dX35_openBox_99 ?_
        refine w_sipush dX35_openBox_100 (v := 256) (by decide) ?_
        refine w_idiv dX35_openBox_103 (by decide) ?_
        refine w_iconst dX35_openBox_104 (v := 1) (by decide) ?_
        refine w_icmp_eq 114 dX35_openBox_105 (by decide) (fun c14 => ?_) (fun c14 => ?_)
        · replace hf := (if_pos (show ((q13.1 - (2000000 : Int32)) / (256 : Int32)) = (1 : Int32) from c14)).symm.trans hf
          exact (pX35_openBox_b114 hd hdr hsE hsN hf).to ⟨rfl, rfl, rfl, rfl, rfl, rfl, rfl, trivial⟩
        · replace hf := (if_neg (show ¬ (((q13.1 - (2000000 : Int32)) / (256 : Int32)) = (1 : Int32)) from c14)).symm.trans hf
          exact (pX35_openBox_b108 hd hdr hsE hsN hf).to ⟨rfl, rfl, rfl, rfl, rfl, rfl, rfl, trivial⟩
def fX35_openBox_b50 (N : Nat) (sE : Nat → Int32 → eH → Option (Unit × eH)) (sN : Nat → eH → Option (Int32 × eH)) (l0 : Nat) (l1 : Int32) (l2 : Int32) (l3 : Int32) (l4 : Int32) (l5 : Int32) (h : eH) : Option (Unit × eH) :=
  fX35_openBox_b51 N sE sN l0 l1 l2 l3 l4 l5 (0 : Int32) h
theorem pX35_openBox_b50 {w : eW} {d : Nat} {dr : Nat} (hd : dr + 11 ≤ d + 1) (hdr : 12 ≤ dr) {N : Nat} {sE : Nat → Int32 → eH → Option (Unit × eH)} {sN : Nat → eH → Option (Int32 × eH)} (hsE : ∀ a t0 h q, sE a t0 h = some q → wm w dr YX35_expand [.ref a, .int t0] h (e_is (e_rn c_V q))) (hsN : ∀ a h q, sN a h = some q → wm w dr YX35_number [.ref a] h (e_is (e_rn c_I q))) {l0 : Nat} {l1 : Int32} {l2 : Int32} {l3 : Int32} {l4 : Int32} {l5 : Int32} {h : eH} {q} (hf : fX35_openBox_b50 N sE sN l0 l1 l2 l3 l4 l5 h = some q) : wp w (d + 1) YX35_openBox 50 [some (.ref l0), some (.int l1), some (.int l2), some (.int l3), some (.int l4), some (.int l5), none, none] [] h (e_is (e_rn c_V q)) := by
  unfold fX35_openBox_b50 at hf
  refine w_iconst dX35_openBox_50 (v := 0) (by decide) ?_
  exact (pX35_openBox_b51 hd hdr hsE hsN hf).to ⟨rfl, rfl, rfl, rfl, rfl, rfl, trivial⟩
def fX35_openBox_b29 (N : Nat) (sE : Nat → Int32 → eH → Option (Unit × eH)) (sN : Nat → eH → Option (Int32 × eH)) (l0 : Nat) (l1 : Int32) (l2 : Int32) (l3 : Int32) (l4 : Int32) (s0 : Int32) (h : eH) : Option (Unit × eH) :=
  (g_I 34 h l0 46).bind fun x1 =>
  if ¬ x1 = 0 then
    fX35_openBox_b50 N sE sN l0 l1 l2 l3 l4 s0 h
  else
    if s0 ≤ 0 then
      fX35_openBox_b50 N sE sN l0 l1 l2 l3 l4 s0 h
    else
      (k_ok 34 h l0).bind fun _ =>
      (fX35_dimension N sE sN l0 h).bind fun q6 =>
      fX35_openBox_b51 N sE sN l0 l1 l2 l3 l4 s0 q6.1 q6.2
theorem pX35_openBox_b29 {w : eW} {d : Nat} {dr : Nat} (hd : dr + 11 ≤ d + 1) (hdr : 12 ≤ dr) {N : Nat} {sE : Nat → Int32 → eH → Option (Unit × eH)} {sN : Nat → eH → Option (Int32 × eH)} (hsE : ∀ a t0 h q, sE a t0 h = some q → wm w dr YX35_expand [.ref a, .int t0] h (e_is (e_rn c_V q))) (hsN : ∀ a h q, sN a h = some q → wm w dr YX35_number [.ref a] h (e_is (e_rn c_I q))) {l0 : Nat} {l1 : Int32} {l2 : Int32} {l3 : Int32} {l4 : Int32} {s0 : Int32} {h : eH} {q} (hf : fX35_openBox_b29 N sE sN l0 l1 l2 l3 l4 s0 h = some q) : wp w (d + 1) YX35_openBox 29 [some (.ref l0), some (.int l1), some (.int l2), some (.int l3), some (.int l4), none, none, none] [.int s0] h (e_is (e_rn c_V q)) := by
  unfold fX35_openBox_b29 at hf
  refine w_istore dX35_openBox_29 (by decide) (ls' := [some (.ref l0), some (.int l1), some (.int l2), some (.int l3), some (.int l4), some (.int s0), none, none]) rfl ?_
  refine w_aload_n dX35_openBox_31 rfl rfl ?_
  obtain ⟨x1, b2, hf⟩ := Option.bind_eq_some_iff.mp hf
  refine GX35_321 b2 dX35_openBox_32 rfl ?_
  refine w_if_ne 50 dX35_openBox_35 (by decide) (fun c3 => ?_) (fun c3 => ?_)
  · replace hf := (if_pos (show ¬ x1 = 0 from c3)).symm.trans hf
    exact (pX35_openBox_b50 hd hdr hsE hsN hf).to ⟨rfl, rfl, rfl, rfl, rfl, rfl, trivial⟩
  · replace hf := (if_neg (show ¬ (¬ x1 = 0) from (fun z => z c3))).symm.trans hf
    refine w_iload dX35_openBox_38 rfl ?_
    refine w_if_le 50 dX35_openBox_40 (by decide) (fun c4 => ?_) (fun c4 => ?_)
    · replace hf := (if_pos (show s0 ≤ 0 from c4)).symm.trans hf
      exact (pX35_openBox_b50 hd hdr hsE hsN hf).to ⟨rfl, rfl, rfl, rfl, rfl, rfl, trivial⟩
    · replace hf := (if_neg (show ¬ (s0 ≤ 0) from c4)).symm.trans hf
      refine w_aload_n dX35_openBox_43 rfl rfl ?_
      obtain ⟨_, b5, hf⟩ := Option.bind_eq_some_iff.mp hf
      refine x_cnI hf (e_stV (Yc := YX35_dimension) (ci := 34) (av := []) (st := []) dX35_openBox_44 q5333 mX35_dimension rfl (k_ok_some b5).1 (k_ok_some b5).2) mX35_dimension.2.2.1 mX35_dimension.2.2.2.2.1 (Nat.le_of_ble_eq_true rfl) (Nat.le_of_ble_eq_true rfl) (fun q hq => pX35_dimension (by omega) hdr hsE hsN hq) (fun q6 hf => ?_)
      refine w_goto 51 dX35_openBox_47 (by decide) ?_
      exact (pX35_openBox_b51 hd hdr hsE hsN hf).to ⟨rfl, rfl, rfl, rfl, rfl, rfl, trivial⟩
def fX35_openBox (N : Nat) (sE : Nat → Int32 → eH → Option (Unit × eH)) (sN : Nat → eH → Option (Int32 × eH)) (this : Nat) (p0 : Int32) (p1 : Int32) (p2 : Int32) (p3 : Int32) (h : eH) : Option (Unit × eH) :=
  (k_ok 34 h this).bind fun _ =>
  (fX35_keyword N sE this 1000000139 h).bind fun q2 =>
  if q2.1 = 0 then
    (k_ok 34 q2.2 this).bind fun _ =>
    (fX35_keyword N sE this 1000000140 q2.2).bind fun q5 =>
    if q5.1 = 0 then
      fX35_openBox_b29 N sE sN this p0 p1 p2 p3 (0 : Int32) q5.2
    else
      fX35_openBox_b29 N sE sN this p0 p1 p2 p3 (2 : Int32) q5.2
  else
    fX35_openBox_b29 N sE sN this p0 p1 p2 p3 (1 : Int32) q2.2
theorem pX35_openBox {w : eW} {d : Nat} {dr : Nat} (hd : dr + 11 ≤ d) (hdr : 12 ≤ dr) {N : Nat} {sE : Nat → Int32 → eH → Option (Unit × eH)} {sN : Nat → eH → Option (Int32 × eH)} (hsE : ∀ a t0 h q, sE a t0 h = some q → wm w dr YX35_expand [.ref a, .int t0] h (e_is (e_rn c_V q))) (hsN : ∀ a h q, sN a h = some q → wm w dr YX35_number [.ref a] h (e_is (e_rn c_I q))) {this : Nat} {p0 : Int32} {p1 : Int32} {p2 : Int32} {p3 : Int32} {h : eH} {q} (hf : fX35_openBox N sE sN this p0 p1 p2 p3 h = some q) : wm w d YX35_openBox [.ref this, .int p0, .int p1, .int p2, .int p3] h (e_is (e_rn c_V q)) := by
  obtain ⟨d, rfl⟩ : ∃ e, d = e + 1 := ⟨d - 1, by omega⟩
  show wp w (d + 1) YX35_openBox 0 [some (.ref this), some (.int p0), some (.int p1), some (.int p2), some (.int p3), none, none, none] [] h _
  unfold fX35_openBox at hf
  refine w_aload_n dX35_openBox_0 rfl rfl ?_
  refine x_ldcSw (k := 39) dX35_openBox_1 rfl ?_
  obtain ⟨_, b1, hf⟩ := Option.bind_eq_some_iff.mp hf
  refine x_cnI hf (e_stV (Yc := YX35_keyword) (ci := 34) (av := [.ref 1000000139]) (st := []) dX35_openBox_4 q5347 mX35_keyword rfl (k_ok_some b1).1 (k_ok_some b1).2) mX35_keyword.2.2.1 mX35_keyword.2.2.2.2.1 (Nat.le_of_ble_eq_true rfl) (Nat.le_of_ble_eq_true rfl) (fun q hq => pX35_keyword (by omega) hdr hsE hq) (fun q2 hf => ?_)
  refine w_if_eq 14 dX35_openBox_7 (by decide) (fun c3 => ?_) (fun c3 => ?_)
  · replace hf := (if_pos (show q2.1 = 0 from c3)).symm.trans hf
    refine w_aload_n dX35_openBox_14 rfl rfl ?_
    refine x_ldcSw (k := 40) dX35_openBox_15 rfl ?_
    obtain ⟨_, b4, hf⟩ := Option.bind_eq_some_iff.mp hf
    refine x_cnI hf (e_stV (Yc := YX35_keyword) (ci := 34) (av := [.ref 1000000140]) (st := []) dX35_openBox_18 q5347 mX35_keyword rfl (k_ok_some b4).1 (k_ok_some b4).2) mX35_keyword.2.2.1 mX35_keyword.2.2.2.2.1 (Nat.le_of_ble_eq_true rfl) (Nat.le_of_ble_eq_true rfl) (fun q hq => pX35_keyword (by omega) hdr hsE hq) (fun q5 hf => ?_)
    refine w_if_eq 28 dX35_openBox_21 (by decide) (fun c6 => ?_) (fun c6 => ?_)
    · replace hf := (if_pos (show q5.1 = 0 from c6)).symm.trans hf
      refine w_iconst dX35_openBox_28 (v := 0) (by decide) ?_
      exact (pX35_openBox_b29 hd hdr hsE hsN hf).to ⟨rfl, rfl, rfl, rfl, rfl, trivial⟩
    · replace hf := (if_neg (show ¬ (q5.1 = 0) from c6)).symm.trans hf
      refine w_iconst dX35_openBox_24 (v := 2) (by decide) ?_
      refine w_goto 29 dX35_openBox_25 (by decide) ?_
      exact (pX35_openBox_b29 hd hdr hsE hsN hf).to ⟨rfl, rfl, rfl, rfl, rfl, trivial⟩
  · replace hf := (if_neg (show ¬ (q2.1 = 0) from c3)).symm.trans hf
    refine w_iconst dX35_openBox_10 (v := 1) (by decide) ?_
    refine w_goto 29 dX35_openBox_11 (by decide) ?_
    exact (pX35_openBox_b29 hd hdr hsE hsN hf).to ⟨rfl, rfl, rfl, rfl, rfl, trivial⟩
abbrev cX35_readFrom : ByteArray := prog_37_method_170_code
def yX35_readFrom : MethodName := ⟨RX35, "readFrom", "(IIIZ)V"⟩
def YX35_readFrom : eY := (yX35_readFrom, cX35_readFrom, 8, none, [])
theorem mX35_readFrom : e_mv YX35_readFrom RX35 4 := ⟨q5989, qs411, q5990, by decide, by decide +kernel, (e_sig (by decide +kernel))⟩
theorem dX35_readFrom_0 : decode cX35_readFrom 0 = .ok (.iload_n 1, 1) := dc_27 (by decide +kernel)
theorem dX35_readFrom_1 : decode cX35_readFrom 1 = .ok (.bipush 49, 2) := dc_16 (a := 49) (v := 49) (by decide +kernel)
theorem dX35_readFrom_3 : decode cX35_readFrom 3 = .ok (.if_icmp .eq 9, 3) := dc_159 (a := 0) (b := 9) (v := 9) (by decide +kernel)
theorem dX35_readFrom_6 : decode cX35_readFrom 6 = .ok (.iload_n 1, 1) := dc_27 (by decide +kernel)
theorem dX35_readFrom_7 : decode cX35_readFrom 7 = .ok (.bipush 50, 2) := dc_16 (a := 50) (v := 50) (by decide +kernel)
theorem dX35_readFrom_9 : decode cX35_readFrom 9 = .ok (.if_icmp .ne 97, 3) := dc_160 (a := 0) (b := 97) (v := 97) (by decide +kernel)
theorem dX35_readFrom_12 : decode cX35_readFrom 12 = .ok (.aload_n 0, 1) := dc_42 (by decide +kernel)
theorem dX35_readFrom_13 : decode cX35_readFrom 13 = .ok (.sipush 255, 3) := dc_17 (a := 0) (b := 255) (v := 255) (by decide +kernel)
theorem dX35_readFrom_16 : decode cX35_readFrom 16 = .ok (.invokevirtual 590, 3) := dc_182 (a := 2) (b := 78) (n := 590) (by decide +kernel)
theorem dX35_readFrom_19 : decode cX35_readFrom 19 = .ok (.istore 5, 2) := dc_54 (a := 5) (by decide +kernel)
theorem dX35_readFrom_21 : decode cX35_readFrom 21 = .ok (.aload_n 0, 1) := dc_42 (by decide +kernel)
theorem dX35_readFrom_22 : decode cX35_readFrom 22 = .ok (.getfield 321, 3) := dc_180 (a := 1) (b := 65) (n := 321) (by decide +kernel)
theorem dX35_readFrom_25 : decode cX35_readFrom 25 = .ok (.ifCond .le 4, 3) := dc_158 (a := 0) (b := 4) (v := 4) (by decide +kernel)
theorem dX35_readFrom_28 : decode cX35_readFrom 28 = .ok (.return_, 1) := dc_177 (by decide +kernel)
theorem dX35_readFrom_29 : decode cX35_readFrom 29 = .ok (.aload_n 0, 1) := dc_42 (by decide +kernel)
theorem dX35_readFrom_30 : decode cX35_readFrom 30 = .ok (.sipush 3299, 3) := dc_17 (a := 12) (b := 227) (v := 3299) (by decide +kernel)
theorem dX35_readFrom_33 : decode cX35_readFrom 33 = .ok (.iload 5, 2) := dc_21 (a := 5) (by decide +kernel)
theorem dX35_readFrom_35 : decode cX35_readFrom 35 = .ok (.iadd, 1) := dc_96 (by decide +kernel)
theorem dX35_readFrom_36 : decode cX35_readFrom 36 = .ok (.invokevirtual 431, 3) := dc_182 (a := 1) (b := 175) (n := 431) (by decide +kernel)
theorem dX35_readFrom_39 : decode cX35_readFrom 39 = .ok (.istore 6, 2) := dc_54 (a := 6) (by decide +kernel)
theorem dX35_readFrom_41 : decode cX35_readFrom 41 = .ok (.aload_n 0, 1) := dc_42 (by decide +kernel)
theorem dX35_readFrom_42 : decode cX35_readFrom 42 = .ok (.sipush 3555, 3) := dc_17 (a := 13) (b := 227) (v := 3555) (by decide +kernel)
theorem dX35_readFrom_45 : decode cX35_readFrom 45 = .ok (.iload 5, 2) := dc_21 (a := 5) (by decide +kernel)
theorem dX35_readFrom_47 : decode cX35_readFrom 47 = .ok (.iadd, 1) := dc_96 (by decide +kernel)
theorem dX35_readFrom_48 : decode cX35_readFrom 48 = .ok (.invokevirtual 431, 3) := dc_182 (a := 1) (b := 175) (n := 431) (by decide +kernel)
theorem dX35_readFrom_51 : decode cX35_readFrom 51 = .ok (.istore 7, 2) := dc_54 (a := 7) (by decide +kernel)
theorem dX35_readFrom_53 : decode cX35_readFrom 53 = .ok (.iload 7, 2) := dc_21 (a := 7) (by decide +kernel)
theorem dX35_readFrom_55 : decode cX35_readFrom 55 = .ok (.aload_n 0, 1) := dc_42 (by decide +kernel)
theorem dX35_readFrom_56 : decode cX35_readFrom 56 = .ok (.getfield 323, 3) := dc_180 (a := 1) (b := 67) (n := 323) (by decide +kernel)
theorem dX35_readFrom_59 : decode cX35_readFrom 59 = .ok (.if_icmp .gt 34, 3) := dc_163 (a := 0) (b := 34) (v := 34) (by decide +kernel)
theorem dX35_readFrom_62 : decode cX35_readFrom 62 = .ok (.iload_n 1, 1) := dc_27 (by decide +kernel)
theorem dX35_readFrom_63 : decode cX35_readFrom 63 = .ok (.bipush 49, 2) := dc_16 (a := 49) (v := 49) (by decide +kernel)
theorem dX35_readFrom_65 : decode cX35_readFrom 65 = .ok (.if_icmp .ne 28, 3) := dc_160 (a := 0) (b := 28) (v := 28) (by decide +kernel)
theorem dX35_readFrom_68 : decode cX35_readFrom 68 = .ok (.aload_n 0, 1) := dc_42 (by decide +kernel)
theorem dX35_readFrom_69 : decode cX35_readFrom 69 = .ok (.getfield 65, 3) := dc_180 (a := 0) (b := 65) (n := 65) (by decide +kernel)
theorem dX35_readFrom_72 : decode cX35_readFrom 72 = .ok (.sipush 3812, 3) := dc_17 (a := 14) (b := 228) (v := 3812) (by decide +kernel)
theorem dX35_readFrom_75 : decode cX35_readFrom 75 = .ok (.iload 7, 2) := dc_21 (a := 7) (by decide +kernel)
theorem dX35_readFrom_77 : decode cX35_readFrom 77 = .ok (.imul, 1) := dc_104 (by decide +kernel)
theorem dX35_readFrom_78 : decode cX35_readFrom 78 = .ok (.sipush 3299, 3) := dc_17 (a := 12) (b := 227) (v := 3299) (by decide +kernel)
theorem dX35_readFrom_81 : decode cX35_readFrom 81 = .ok (.iadd, 1) := dc_96 (by decide +kernel)
theorem dX35_readFrom_82 : decode cX35_readFrom 82 = .ok (.iload 5, 2) := dc_21 (a := 5) (by decide +kernel)
theorem dX35_readFrom_84 : decode cX35_readFrom 84 = .ok (.iadd, 1) := dc_96 (by decide +kernel)
theorem dX35_readFrom_85 : decode cX35_readFrom 85 = .ok (.iconst (-1), 1) := dc_2 (by decide +kernel)
theorem dX35_readFrom_86 : decode cX35_readFrom 86 = .ok (.iastore, 1) := dc_79 (by decide +kernel)
theorem dX35_readFrom_87 : decode cX35_readFrom 87 = .ok (.iinc 7 1, 3) := dc_132 (a := 7) (b := 1) (v := 1) (by decide +kernel)
theorem dX35_readFrom_90 : decode cX35_readFrom 90 = .ok (.goto (-37), 3) := dc_167 (a := 255) (b := 219) (v := -37) (by decide +kernel)
theorem dX35_readFrom_93 : decode cX35_readFrom 93 = .ok (.aload_n 0, 1) := dc_42 (by decide +kernel)
theorem dX35_readFrom_94 : decode cX35_readFrom 94 = .ok (.iload 6, 2) := dc_21 (a := 6) (by decide +kernel)
theorem dX35_readFrom_96 : decode cX35_readFrom 96 = .ok (.iload_n 2, 1) := dc_28 (by decide +kernel)
theorem dX35_readFrom_97 : decode cX35_readFrom 97 = .ok (.iload_n 3, 1) := dc_29 (by decide +kernel)
theorem dX35_readFrom_98 : decode cX35_readFrom 98 = .ok (.iload 4, 2) := dc_21 (a := 4) (by decide +kernel)
theorem dX35_readFrom_100 : decode cX35_readFrom 100 = .ok (.invokevirtual 1139, 3) := dc_182 (a := 4) (b := 115) (n := 1139) (by decide +kernel)
theorem dX35_readFrom_103 : decode cX35_readFrom 103 = .ok (.goto 43, 3) := dc_167 (a := 0) (b := 43) (v := 43) (by decide +kernel)
theorem dX35_readFrom_106 : decode cX35_readFrom 106 = .ok (.iload_n 1, 1) := dc_27 (by decide +kernel)
theorem dX35_readFrom_107 : decode cX35_readFrom 107 = .ok (.bipush 47, 2) := dc_16 (a := 47) (v := 47) (by decide +kernel)
theorem dX35_readFrom_109 : decode cX35_readFrom 109 = .ok (.if_icmp .eq 9, 3) := dc_159 (a := 0) (b := 9) (v := 9) (by decide +kernel)
theorem dX35_readFrom_112 : decode cX35_readFrom 112 = .ok (.iload_n 1, 1) := dc_27 (by decide +kernel)
theorem dX35_readFrom_113 : decode cX35_readFrom 113 = .ok (.bipush 48, 2) := dc_16 (a := 48) (v := 48) (by decide +kernel)
theorem dX35_readFrom_115 : decode cX35_readFrom 115 = .ok (.if_icmp .ne 25, 3) := dc_160 (a := 0) (b := 25) (v := 25) (by decide +kernel)
theorem dX35_readFrom_118 : decode cX35_readFrom 118 = .ok (.aload_n 0, 1) := dc_42 (by decide +kernel)
theorem dX35_readFrom_119 : decode cX35_readFrom 119 = .ok (.iload_n 1, 1) := dc_27 (by decide +kernel)
theorem dX35_readFrom_120 : decode cX35_readFrom 120 = .ok (.bipush 48, 2) := dc_16 (a := 48) (v := 48) (by decide +kernel)
theorem dX35_readFrom_122 : decode cX35_readFrom 122 = .ok (.if_icmp .ne 7, 3) := dc_160 (a := 0) (b := 7) (v := 7) (by decide +kernel)
theorem dX35_readFrom_125 : decode cX35_readFrom 125 = .ok (.iconst 1, 1) := dc_4 (by decide +kernel)
theorem dX35_readFrom_126 : decode cX35_readFrom 126 = .ok (.goto 4, 3) := dc_167 (a := 0) (b := 4) (v := 4) (by decide +kernel)
theorem dX35_readFrom_129 : decode cX35_readFrom 129 = .ok (.iconst 0, 1) := dc_3 (by decide +kernel)
theorem dX35_readFrom_130 : decode cX35_readFrom 130 = .ok (.iload_n 2, 1) := dc_28 (by decide +kernel)
theorem dX35_readFrom_131 : decode cX35_readFrom 131 = .ok (.iload_n 3, 1) := dc_29 (by decide +kernel)
theorem dX35_readFrom_132 : decode cX35_readFrom 132 = .ok (.iload 4, 2) := dc_21 (a := 4) (by decide +kernel)
theorem dX35_readFrom_134 : decode cX35_readFrom 134 = .ok (.invokevirtual 1149, 3) := dc_182 (a := 4) (b := 125) (n := 1149) (by decide +kernel)
theorem dX35_readFrom_137 : decode cX35_readFrom 137 = .ok (.goto 9, 3) := dc_167 (a := 0) (b := 9) (v := 9) (by decide +kernel)
theorem dX35_readFrom_140 : decode cX35_readFrom 140 = .ok (.aload_n 0, 1) := dc_42 (by decide +kernel)
theorem dX35_readFrom_141 : decode cX35_readFrom 141 = .ok (.bipush 6, 2) := dc_16 (a := 6) (v := 6) (by decide +kernel)
theorem dX35_readFrom_143 : decode cX35_readFrom 143 = .ok (.invokevirtual 428, 3) := dc_182 (a := 1) (b := 172) (n := 428) (by decide +kernel)
theorem dX35_readFrom_146 : decode cX35_readFrom 146 = .ok (.return_, 1) := dc_177 (by decide +kernel)
def fX35_readFrom_b146 (N : Nat) (sE : Nat → Int32 → eH → Option (Unit × eH)) (sL : Nat → Int32 → Int64 → Int64 → eH → Option (Int32 × eH)) (sN : Nat → eH → Option (Int32 × eH))  (h : eH) : Option (Unit × eH) :=
  some ((), h)
theorem pX35_readFrom_b146 {w : eW} {d : Nat} {dr : Nat} (hd : dr + 13 ≤ d + 1) (hdr : 12 ≤ dr) {N : Nat} {sE : Nat → Int32 → eH → Option (Unit × eH)} {sL : Nat → Int32 → Int64 → Int64 → eH → Option (Int32 × eH)} {sN : Nat → eH → Option (Int32 × eH)} (hsE : ∀ a t0 h q, sE a t0 h = some q → wm w dr YX35_expand [.ref a, .int t0] h (e_is (e_rn c_V q))) (hsL : ∀ a t0 t1 t2 h q, sL a t0 t1 t2 h = some q → wm w dr YX35_layBox [.ref a, .int t0, .long t1, .long t2] h (e_is (e_rn c_I q))) (hsN : ∀ a h q, sN a h = some q → wm w dr YX35_number [.ref a] h (e_is (e_rn c_I q)))  {h : eH} {q} (hf : fX35_readFrom_b146 N sE sL sN h = some q) : wp w (d + 1) YX35_readFrom 146 [none, none, none, none, none, none, none, none] [] h (e_is (e_rn c_V q)) := by
  unfold fX35_readFrom_b146 at hf
  cases hf
  exact w_vret dX35_readFrom_146 rfl rfl
def fX35_readFrom_b93 (N : Nat) (sE : Nat → Int32 → eH → Option (Unit × eH)) (sL : Nat → Int32 → Int64 → Int64 → eH → Option (Int32 × eH)) (sN : Nat → eH → Option (Int32 × eH)) (l0 : Nat) (l2 : Int32) (l3 : Int32) (l4 : Int32) (l6 : Int32) (h : eH) : Option (Unit × eH) :=
  (k_ok 34 h l0).bind fun _ =>
  (fX35_goesTo N sL l0 l6 l2 l3 l4 h).bind fun q2 =>
  fX35_readFrom_b146 N sE sL sN q2.2
theorem pX35_readFrom_b93 {w : eW} {d : Nat} {dr : Nat} (hd : dr + 13 ≤ d + 1) (hdr : 12 ≤ dr) {N : Nat} {sE : Nat → Int32 → eH → Option (Unit × eH)} {sL : Nat → Int32 → Int64 → Int64 → eH → Option (Int32 × eH)} {sN : Nat → eH → Option (Int32 × eH)} (hsE : ∀ a t0 h q, sE a t0 h = some q → wm w dr YX35_expand [.ref a, .int t0] h (e_is (e_rn c_V q))) (hsL : ∀ a t0 t1 t2 h q, sL a t0 t1 t2 h = some q → wm w dr YX35_layBox [.ref a, .int t0, .long t1, .long t2] h (e_is (e_rn c_I q))) (hsN : ∀ a h q, sN a h = some q → wm w dr YX35_number [.ref a] h (e_is (e_rn c_I q))) {l0 : Nat} {l2 : Int32} {l3 : Int32} {l4 : Int32} {l6 : Int32} {h : eH} {q} (hf : fX35_readFrom_b93 N sE sL sN l0 l2 l3 l4 l6 h = some q) : wp w (d + 1) YX35_readFrom 93 [some (.ref l0), none, some (.int l2), some (.int l3), some (.int l4), none, some (.int l6), none] [] h (e_is (e_rn c_V q)) := by
  unfold fX35_readFrom_b93 at hf
  refine w_aload_n dX35_readFrom_93 rfl rfl ?_
  refine w_iload dX35_readFrom_94 rfl ?_
  refine w_iload_n dX35_readFrom_96 rfl rfl ?_
  refine w_iload_n dX35_readFrom_97 rfl rfl ?_
  refine w_iload dX35_readFrom_98 rfl ?_
  obtain ⟨_, b1, hf⟩ := Option.bind_eq_some_iff.mp hf
  refine x_cnV hf (e_stV (Yc := YX35_goesTo) (ci := 34) (av := [.int l6, .int l2, .int l3, .int l4]) (st := []) dX35_readFrom_100 q5895 mX35_goesTo rfl (k_ok_some b1).1 (k_ok_some b1).2) mX35_goesTo.2.2.1 mX35_goesTo.2.2.2.2.1 (Nat.le_of_ble_eq_true rfl) (Nat.le_of_ble_eq_true rfl) (fun q hq => pX35_goesTo (by omega) hdr hsL hq) (fun q2 hf => ?_)
  refine w_goto 146 dX35_readFrom_103 (by decide) ?_
  exact (pX35_readFrom_b146 hd hdr hsE hsL hsN hf).to trivial
def fX35_readFrom_b53 (N : Nat) (sE : Nat → Int32 → eH → Option (Unit × eH)) (sL : Nat → Int32 → Int64 → Int64 → eH → Option (Int32 × eH)) (sN : Nat → eH → Option (Int32 × eH)) : Nat → Nat → Int32 → Int32 → Int32 → Int32 → Int32 → Int32 → Int32 → eH → Option (Unit × eH)
  | 0, _, _, _, _, _, _, _, _, _ => none
  | n + 1, l0, l1, l2, l3, l4, l5, l6, l7, h =>
    (g_I 34 h l0 21).bind fun x1 =>
    if x1 < l7 then
      fX35_readFrom_b93 N sE sL sN l0 l2 l3 l4 l6 h
    else
      if ¬ l1 = (49 : Int32) then
        fX35_readFrom_b93 N sE sL sN l0 l2 l3 l4 l6 h
      else
        (g_A 34 h l0 22).bind fun a5 =>
        (q_V 100 h a5 ((((3812 : Int32) * l7) + (3299 : Int32)) + l5) (.int (-1 : Int32))).bind fun h7 =>
        fX35_readFrom_b53 N sE sL sN n l0 l1 l2 l3 l4 l5 l6 (l7 + (1 : Int32)) h7
theorem pX35_readFrom_b53 {w : eW} {d : Nat} {dr : Nat} (hd : dr + 13 ≤ d + 1) (hdr : 12 ≤ dr) {N : Nat} {sE : Nat → Int32 → eH → Option (Unit × eH)} {sL : Nat → Int32 → Int64 → Int64 → eH → Option (Int32 × eH)} {sN : Nat → eH → Option (Int32 × eH)} (hsE : ∀ a t0 h q, sE a t0 h = some q → wm w dr YX35_expand [.ref a, .int t0] h (e_is (e_rn c_V q))) (hsL : ∀ a t0 t1 t2 h q, sL a t0 t1 t2 h = some q → wm w dr YX35_layBox [.ref a, .int t0, .long t1, .long t2] h (e_is (e_rn c_I q))) (hsN : ∀ a h q, sN a h = some q → wm w dr YX35_number [.ref a] h (e_is (e_rn c_I q))) : ∀ (n : Nat) l0 l1 l2 l3 l4 l5 l6 l7 h q, fX35_readFrom_b53 N sE sL sN n l0 l1 l2 l3 l4 l5 l6 l7 h = some q → wp w (d + 1) YX35_readFrom 53 [some (.ref l0), some (.int l1), some (.int l2), some (.int l3), some (.int l4), some (.int l5), some (.int l6), some (.int l7)] [] h (e_is (e_rn c_V q)) := by
  intro n
  induction n with
  | zero => intro l0 l1 l2 l3 l4 l5 l6 l7 h q hf; simp [fX35_readFrom_b53] at hf
  | succ n ih =>
    intro l0 l1 l2 l3 l4 l5 l6 l7 h q hf
    rw [fX35_readFrom_b53] at hf
    refine w_iload dX35_readFrom_53 rfl ?_
    refine w_aload_n dX35_readFrom_55 rfl rfl ?_
    obtain ⟨x1, b2, hf⟩ := Option.bind_eq_some_iff.mp hf
    refine GX35_323 b2 dX35_readFrom_56 rfl ?_
    refine w_icmp_gt 93 dX35_readFrom_59 (by decide) (fun c3 => ?_) (fun c3 => ?_)
    · replace hf := (if_pos (show x1 < l7 from c3)).symm.trans hf
      exact (pX35_readFrom_b93 hd hdr hsE hsL hsN hf).to ⟨rfl, rfl, rfl, rfl, rfl, trivial⟩
    · replace hf := (if_neg (show ¬ (x1 < l7) from c3)).symm.trans hf
      refine w_iload_n dX35_readFrom_62 rfl rfl ?_
      refine w_bipush dX35_readFrom_63 (v := 49) (by decide) ?_
      refine w_icmp_ne 93 dX35_readFrom_65 (by decide) (fun c4 => ?_) (fun c4 => ?_)
      · replace hf := (if_pos (show ¬ l1 = (49 : Int32) from c4)).symm.trans hf
        exact (pX35_readFrom_b93 hd hdr hsE hsL hsN hf).to ⟨rfl, rfl, rfl, rfl, rfl, trivial⟩
      · replace hf := (if_neg (show ¬ (¬ l1 = (49 : Int32)) from (fun z => z c4))).symm.trans hf
        refine w_aload_n dX35_readFrom_68 rfl rfl ?_
        obtain ⟨a5, b6, hf⟩ := Option.bind_eq_some_iff.mp hf
        refine GX35_65 b6 dX35_readFrom_69 rfl ?_
        refine w_sipush dX35_readFrom_72 (v := 3812) (by decide) ?_
        refine w_iload dX35_readFrom_75 rfl ?_
        refine w_imul dX35_readFrom_77 ?_
        refine w_sipush dX35_readFrom_78 (v := 3299) (by decide) ?_
        refine w_iadd dX35_readFrom_81 ?_
        refine w_iload dX35_readFrom_82 rfl ?_
        refine w_iadd dX35_readFrom_84 ?_
        refine w_iconst dX35_readFrom_85 (v := -1) (by decide) ?_
        obtain ⟨h7, b8, hf⟩ := Option.bind_eq_some_iff.mp hf
        refine x_qI b8 dX35_readFrom_86 ?_
        refine w_iinc dX35_readFrom_87 (v := (l7 + (1 : Int32))) rfl rfl (by decide) (ls' := [some (.ref l0), some (.int l1), some (.int l2), some (.int l3), some (.int l4), some (.int l5), some (.int l6), some (.int (l7 + (1 : Int32)))]) rfl ?_
        refine w_goto 53 dX35_readFrom_90 (by decide) ?_
        exact (ih _ _ _ _ _ _ _ _ _ _ hf).to ⟨rfl, rfl, rfl, rfl, rfl, rfl, rfl, rfl, trivial⟩
def fX35_readFrom_b12 (N : Nat) (sE : Nat → Int32 → eH → Option (Unit × eH)) (sL : Nat → Int32 → Int64 → Int64 → eH → Option (Int32 × eH)) (sN : Nat → eH → Option (Int32 × eH)) (l0 : Nat) (l1 : Int32) (l2 : Int32) (l3 : Int32) (l4 : Int32) (h : eH) : Option (Unit × eH) :=
  (k_ok 34 h l0).bind fun _ =>
  (fX35_small sN l0 (255 : Int32) h).bind fun q2 =>
  (g_I 34 q2.2 l0 46).bind fun x3 =>
  if x3 ≤ 0 then
    (k_ok 34 q2.2 l0).bind fun _ =>
    (fX35_now l0 ((3299 : Int32) + q2.1) q2.2).bind fun q7 =>
    (k_ok 34 q7.2 l0).bind fun _ =>
    (fX35_now l0 ((3555 : Int32) + q2.1) q7.2).bind fun q9 =>
    fX35_readFrom_b53 N sE sL sN N l0 l1 l2 l3 l4 q2.1 q7.1 q9.1 q9.2
  else
    some ((), q2.2)
theorem pX35_readFrom_b12 {w : eW} {d : Nat} {dr : Nat} (hd : dr + 13 ≤ d + 1) (hdr : 12 ≤ dr) {N : Nat} {sE : Nat → Int32 → eH → Option (Unit × eH)} {sL : Nat → Int32 → Int64 → Int64 → eH → Option (Int32 × eH)} {sN : Nat → eH → Option (Int32 × eH)} (hsE : ∀ a t0 h q, sE a t0 h = some q → wm w dr YX35_expand [.ref a, .int t0] h (e_is (e_rn c_V q))) (hsL : ∀ a t0 t1 t2 h q, sL a t0 t1 t2 h = some q → wm w dr YX35_layBox [.ref a, .int t0, .long t1, .long t2] h (e_is (e_rn c_I q))) (hsN : ∀ a h q, sN a h = some q → wm w dr YX35_number [.ref a] h (e_is (e_rn c_I q))) {l0 : Nat} {l1 : Int32} {l2 : Int32} {l3 : Int32} {l4 : Int32} {h : eH} {q} (hf : fX35_readFrom_b12 N sE sL sN l0 l1 l2 l3 l4 h = some q) : wp w (d + 1) YX35_readFrom 12 [some (.ref l0), some (.int l1), some (.int l2), some (.int l3), some (.int l4), none, none, none] [] h (e_is (e_rn c_V q)) := by
  unfold fX35_readFrom_b12 at hf
  refine w_aload_n dX35_readFrom_12 rfl rfl ?_
  refine w_sipush dX35_readFrom_13 (v := 255) (by decide) ?_
  obtain ⟨_, b1, hf⟩ := Option.bind_eq_some_iff.mp hf
  refine x_cnI hf (e_stV (Yc := YX35_small) (ci := 34) (av := [.int (255 : Int32)]) (st := []) dX35_readFrom_16 q5271 mX35_small rfl (k_ok_some b1).1 (k_ok_some b1).2) mX35_small.2.2.1 mX35_small.2.2.2.2.1 (Nat.le_of_ble_eq_true rfl) (Nat.le_of_ble_eq_true rfl) (fun q hq => pX35_small (by omega) hdr hsN hq) (fun q2 hf => ?_)
  refine w_istore dX35_readFrom_19 (by decide) (ls' := [some (.ref l0), some (.int l1), some (.int l2), some (.int l3), some (.int l4), some (.int q2.1), none, none]) rfl ?_
  refine w_aload_n dX35_readFrom_21 rfl rfl ?_
  obtain ⟨x3, b4, hf⟩ := Option.bind_eq_some_iff.mp hf
  refine GX35_321 b4 dX35_readFrom_22 rfl ?_
  refine w_if_le 29 dX35_readFrom_25 (by decide) (fun c5 => ?_) (fun c5 => ?_)
  · replace hf := (if_pos (show x3 ≤ 0 from c5)).symm.trans hf
    refine w_aload_n dX35_readFrom_29 rfl rfl ?_
    refine w_sipush dX35_readFrom_30 (v := 3299) (by decide) ?_
    refine w_iload dX35_readFrom_33 rfl ?_
    refine w_iadd dX35_readFrom_35 ?_
    obtain ⟨_, b6, hf⟩ := Option.bind_eq_some_iff.mp hf
    refine x_cnI hf (e_stV (Yc := YX35_now) (ci := 34) (av := [.int ((3299 : Int32) + q2.1)]) (st := []) dX35_readFrom_36 q5097 mX35_now rfl (k_ok_some b6).1 (k_ok_some b6).2) mX35_now.2.2.1 mX35_now.2.2.2.2.1 (Nat.le_of_ble_eq_true rfl) (Nat.le_of_ble_eq_true rfl) (fun q hq => pX35_now (by omega) hq) (fun q7 hf => ?_)
    refine w_istore dX35_readFrom_39 (by decide) (ls' := [some (.ref l0), some (.int l1), some (.int l2), some (.int l3), some (.int l4), some (.int q2.1), some (.int q7.1), none]) rfl ?_
    refine w_aload_n dX35_readFrom_41 rfl rfl ?_
    refine w_sipush dX35_readFrom_42 (v := 3555) (by decide) ?_
    refine w_iload dX35_readFrom_45 rfl ?_
    refine w_iadd dX35_readFrom_47 ?_
    obtain ⟨_, b8, hf⟩ := Option.bind_eq_some_iff.mp hf
    refine x_cnI hf (e_stV (Yc := YX35_now) (ci := 34) (av := [.int ((3555 : Int32) + q2.1)]) (st := []) dX35_readFrom_48 q5097 mX35_now rfl (k_ok_some b8).1 (k_ok_some b8).2) mX35_now.2.2.1 mX35_now.2.2.2.2.1 (Nat.le_of_ble_eq_true rfl) (Nat.le_of_ble_eq_true rfl) (fun q hq => pX35_now (by omega) hq) (fun q9 hf => ?_)
    refine w_istore dX35_readFrom_51 (by decide) (ls' := [some (.ref l0), some (.int l1), some (.int l2), some (.int l3), some (.int l4), some (.int q2.1), some (.int q7.1), some (.int q9.1)]) rfl ?_
    exact (pX35_readFrom_b53 hd hdr hsE hsL hsN N _ _ _ _ _ _ _ _ _ _ hf).to ⟨rfl, rfl, rfl, rfl, rfl, rfl, rfl, rfl, trivial⟩
  · replace hf := (if_neg (show ¬ (x3 ≤ 0) from c5)).symm.trans hf
    cases hf
    exact w_vret dX35_readFrom_28 rfl rfl
def fX35_readFrom_b130 (N : Nat) (sE : Nat → Int32 → eH → Option (Unit × eH)) (sL : Nat → Int32 → Int64 → Int64 → eH → Option (Int32 × eH)) (sN : Nat → eH → Option (Int32 × eH)) (l2 : Int32) (l3 : Int32) (l4 : Int32) (s0 : Nat) (s1 : Int32) (h : eH) : Option (Unit × eH) :=
  (k_ok 34 h s0).bind fun _ =>
  (fX35_openBox N sE sN s0 s1 l2 l3 l4 h).bind fun q2 =>
  fX35_readFrom_b146 N sE sL sN q2.2
theorem pX35_readFrom_b130 {w : eW} {d : Nat} {dr : Nat} (hd : dr + 13 ≤ d + 1) (hdr : 12 ≤ dr) {N : Nat} {sE : Nat → Int32 → eH → Option (Unit × eH)} {sL : Nat → Int32 → Int64 → Int64 → eH → Option (Int32 × eH)} {sN : Nat → eH → Option (Int32 × eH)} (hsE : ∀ a t0 h q, sE a t0 h = some q → wm w dr YX35_expand [.ref a, .int t0] h (e_is (e_rn c_V q))) (hsL : ∀ a t0 t1 t2 h q, sL a t0 t1 t2 h = some q → wm w dr YX35_layBox [.ref a, .int t0, .long t1, .long t2] h (e_is (e_rn c_I q))) (hsN : ∀ a h q, sN a h = some q → wm w dr YX35_number [.ref a] h (e_is (e_rn c_I q))) {l2 : Int32} {l3 : Int32} {l4 : Int32} {s0 : Nat} {s1 : Int32} {h : eH} {q} (hf : fX35_readFrom_b130 N sE sL sN l2 l3 l4 s0 s1 h = some q) : wp w (d + 1) YX35_readFrom 130 [none, none, some (.int l2), some (.int l3), some (.int l4), none, none, none] [.int s1, .ref s0] h (e_is (e_rn c_V q)) := by
  unfold fX35_readFrom_b130 at hf
  refine w_iload_n dX35_readFrom_130 rfl rfl ?_
  refine w_iload_n dX35_readFrom_131 rfl rfl ?_
  refine w_iload dX35_readFrom_132 rfl ?_
  obtain ⟨_, b1, hf⟩ := Option.bind_eq_some_iff.mp hf
  refine x_cnV hf (e_stV (Yc := YX35_openBox) (ci := 34) (av := [.int s1, .int l2, .int l3, .int l4]) (st := []) dX35_readFrom_134 q5991 mX35_openBox rfl (k_ok_some b1).1 (k_ok_some b1).2) mX35_openBox.2.2.1 mX35_openBox.2.2.2.2.1 (Nat.le_of_ble_eq_true rfl) (Nat.le_of_ble_eq_true rfl) (fun q hq => pX35_openBox (by omega) hdr hsE hsN hq) (fun q2 hf => ?_)
  refine w_goto 146 dX35_readFrom_137 (by decide) ?_
  exact (pX35_readFrom_b146 hd hdr hsE hsL hsN hf).to trivial
def fX35_readFrom_b118 (N : Nat) (sE : Nat → Int32 → eH → Option (Unit × eH)) (sL : Nat → Int32 → Int64 → Int64 → eH → Option (Int32 × eH)) (sN : Nat → eH → Option (Int32 × eH)) (l0 : Nat) (l1 : Int32) (l2 : Int32) (l3 : Int32) (l4 : Int32) (h : eH) : Option (Unit × eH) :=
  if ¬ l1 = (48 : Int32) then
    fX35_readFrom_b130 N sE sL sN l2 l3 l4 l0 (0 : Int32) h
  else
    fX35_readFrom_b130 N sE sL sN l2 l3 l4 l0 (1 : Int32) h
theorem pX35_readFrom_b118 {w : eW} {d : Nat} {dr : Nat} (hd : dr + 13 ≤ d + 1) (hdr : 12 ≤ dr) {N : Nat} {sE : Nat → Int32 → eH → Option (Unit × eH)} {sL : Nat → Int32 → Int64 → Int64 → eH → Option (Int32 × eH)} {sN : Nat → eH → Option (Int32 × eH)} (hsE : ∀ a t0 h q, sE a t0 h = some q → wm w dr YX35_expand [.ref a, .int t0] h (e_is (e_rn c_V q))) (hsL : ∀ a t0 t1 t2 h q, sL a t0 t1 t2 h = some q → wm w dr YX35_layBox [.ref a, .int t0, .long t1, .long t2] h (e_is (e_rn c_I q))) (hsN : ∀ a h q, sN a h = some q → wm w dr YX35_number [.ref a] h (e_is (e_rn c_I q))) {l0 : Nat} {l1 : Int32} {l2 : Int32} {l3 : Int32} {l4 : Int32} {h : eH} {q} (hf : fX35_readFrom_b118 N sE sL sN l0 l1 l2 l3 l4 h = some q) : wp w (d + 1) YX35_readFrom 118 [some (.ref l0), some (.int l1), some (.int l2), some (.int l3), some (.int l4), none, none, none] [] h (e_is (e_rn c_V q)) := by
  unfold fX35_readFrom_b118 at hf
  refine w_aload_n dX35_readFrom_118 rfl rfl ?_
  refine w_iload_n dX35_readFrom_119 rfl rfl ?_
  refine w_bipush dX35_readFrom_120 (v := 48) (by decide) ?_
  refine w_icmp_ne 129 dX35_readFrom_122 (by decide) (fun c1 => ?_) (fun c1 => ?_)
  · replace hf := (if_pos (show ¬ l1 = (48 : Int32) from c1)).symm.trans hf
    refine w_iconst dX35_readFrom_129 (v := 0) (by decide) ?_
    exact (pX35_readFrom_b130 hd hdr hsE hsL hsN hf).to ⟨rfl, rfl, rfl, trivial⟩
  · replace hf := (if_neg (show ¬ (¬ l1 = (48 : Int32)) from (fun z => z c1))).symm.trans hf
    refine w_iconst dX35_readFrom_125 (v := 1) (by decide) ?_
    refine w_goto 130 dX35_readFrom_126 (by decide) ?_
    exact (pX35_readFrom_b130 hd hdr hsE hsL hsN hf).to ⟨rfl, rfl, rfl, trivial⟩
def fX35_readFrom (N : Nat) (sE : Nat → Int32 → eH → Option (Unit × eH)) (sL : Nat → Int32 → Int64 → Int64 → eH → Option (Int32 × eH)) (sN : Nat → eH → Option (Int32 × eH)) (this : Nat) (p0 : Int32) (p1 : Int32) (p2 : Int32) (p3 : Int32) (h : eH) : Option (Unit × eH) :=
  if p0 = (49 : Int32) then
    fX35_readFrom_b12 N sE sL sN this p0 p1 p2 p3 h
  else
    if ¬ p0 = (50 : Int32) then
      if p0 = (47 : Int32) then
        fX35_readFrom_b118 N sE sL sN this p0 p1 p2 p3 h
      else
        if ¬ p0 = (48 : Int32) then
          (k_ok 34 h this).bind fun _ =>
          (fX35_fail this (6 : Int32) h).bind fun q6 =>
          fX35_readFrom_b146 N sE sL sN q6.2
        else
          fX35_readFrom_b118 N sE sL sN this p0 p1 p2 p3 h
    else
      fX35_readFrom_b12 N sE sL sN this p0 p1 p2 p3 h
theorem pX35_readFrom {w : eW} {d : Nat} {dr : Nat} (hd : dr + 13 ≤ d) (hdr : 12 ≤ dr) {N : Nat} {sE : Nat → Int32 → eH → Option (Unit × eH)} {sL : Nat → Int32 → Int64 → Int64 → eH → Option (Int32 × eH)} {sN : Nat → eH → Option (Int32 × eH)} (hsE : ∀ a t0 h q, sE a t0 h = some q → wm w dr YX35_expand [.ref a, .int t0] h (e_is (e_rn c_V q))) (hsL : ∀ a t0 t1 t2 h q, sL a t0 t1 t2 h = some q → wm w dr YX35_layBox [.ref a, .int t0, .long t1, .long t2] h (e_is (e_rn c_I q))) (hsN : ∀ a h q, sN a h = some q → wm w dr YX35_number [.ref a] h (e_is (e_rn c_I q))) {this : Nat} {p0 : Int32} {p1 : Int32} {p2 : Int32} {p3 : Int32} {h : eH} {q} (hf : fX35_readFrom N sE sL sN this p0 p1 p2 p3 h = some q) : wm w d YX35_readFrom [.ref this, .int p0, .int p1, .int p2, .int p3] h (e_is (e_rn c_V q)) := by
  obtain ⟨d, rfl⟩ : ∃ e, d = e + 1 := ⟨d - 1, by omega⟩
  show wp w (d + 1) YX35_readFrom 0 [some (.ref this), some (.int p0), some (.int p1), some (.int p2), some (.int p3), none, none, none] [] h _
  unfold fX35_readFrom at hf
  refine w_iload_n dX35_readFrom_0 rfl rfl ?_
  refine w_bipush dX35_readFrom_1 (v := 49) (by decide) ?_
  refine w_icmp_eq 12 dX35_readFrom_3 (by decide) (fun c1 => ?_) (fun c1 => ?_)
  · replace hf := (if_pos (show p0 = (49 : Int32) from c1)).symm.trans hf
    exact (pX35_readFrom_b12 hd hdr hsE hsL hsN hf).to ⟨rfl, rfl, rfl, rfl, rfl, trivial⟩
  · replace hf := (if_neg (show ¬ (p0 = (49 : Int32)) from c1)).symm.trans hf
    refine w_iload_n dX35_readFrom_6 rfl rfl ?_
    refine w_bipush dX35_readFrom_7 (v := 50) (by decide) ?_
    refine w_icmp_ne 106 dX35_readFrom_9 (by decide) (fun c2 => ?_) (fun c2 => ?_)
    · replace hf := (if_pos (show ¬ p0 = (50 : Int32) from c2)).symm.trans hf
      refine w_iload_n dX35_readFrom_106 rfl rfl ?_
      refine w_bipush dX35_readFrom_107 (v := 47) (by decide) ?_
      refine w_icmp_eq 118 dX35_readFrom_109 (by decide) (fun c3 => ?_) (fun c3 => ?_)
      · replace hf := (if_pos (show p0 = (47 : Int32) from c3)).symm.trans hf
        exact (pX35_readFrom_b118 hd hdr hsE hsL hsN hf).to ⟨rfl, rfl, rfl, rfl, rfl, trivial⟩
      · replace hf := (if_neg (show ¬ (p0 = (47 : Int32)) from c3)).symm.trans hf
        refine w_iload_n dX35_readFrom_112 rfl rfl ?_
        refine w_bipush dX35_readFrom_113 (v := 48) (by decide) ?_
        refine w_icmp_ne 140 dX35_readFrom_115 (by decide) (fun c4 => ?_) (fun c4 => ?_)
        · replace hf := (if_pos (show ¬ p0 = (48 : Int32) from c4)).symm.trans hf
          refine w_aload_n dX35_readFrom_140 rfl rfl ?_
          refine w_bipush dX35_readFrom_141 (v := 6) (by decide) ?_
          obtain ⟨_, b5, hf⟩ := Option.bind_eq_some_iff.mp hf
          refine x_cnV hf (e_stV (Yc := YX35_fail) (ci := 34) (av := [.int (6 : Int32)]) (st := []) dX35_readFrom_143 q5109 mX35_fail rfl (k_ok_some b5).1 (k_ok_some b5).2) mX35_fail.2.2.1 mX35_fail.2.2.2.2.1 (Nat.le_of_ble_eq_true rfl) (Nat.le_of_ble_eq_true rfl) (fun q hq => pX35_fail (by omega) hq) (fun q6 hf => ?_)
          exact (pX35_readFrom_b146 hd hdr hsE hsL hsN hf).to trivial
        · replace hf := (if_neg (show ¬ (¬ p0 = (48 : Int32)) from (fun z => z c4))).symm.trans hf
          exact (pX35_readFrom_b118 hd hdr hsE hsL hsN hf).to ⟨rfl, rfl, rfl, rfl, rfl, trivial⟩
    · replace hf := (if_neg (show ¬ (¬ p0 = (50 : Int32)) from (fun z => z c2))).symm.trans hf
      exact (pX35_readFrom_b12 hd hdr hsE hsL hsN hf).to ⟨rfl, rfl, rfl, rfl, rfl, trivial⟩
abbrev cX35_horizontally : ByteArray := prog_37_method_175_code
def yX35_horizontally : MethodName := ⟨RX35, "horizontally", "()Z"⟩
def YX35_horizontally : eY := (yX35_horizontally, cX35_horizontally, 1, (Option.some FieldType.boolean), [])
theorem mX35_horizontally : e_mv YX35_horizontally RX35 0 := ⟨q6007, qs415, q6008, by decide, by decide +kernel, (e_sig (by decide +kernel))⟩
theorem dX35_horizontally_0 : decode cX35_horizontally 0 = .ok (.aload_n 0, 1) := dc_42 (by decide +kernel)
theorem dX35_horizontally_1 : decode cX35_horizontally 1 = .ok (.invokevirtual 810, 3) := dc_182 (a := 3) (b := 42) (n := 810) (by decide +kernel)
theorem dX35_horizontally_4 : decode cX35_horizontally 4 = .ok (.ifCond .eq 8, 3) := dc_153 (a := 0) (b := 8) (v := 8) (by decide +kernel)
theorem dX35_horizontally_7 : decode cX35_horizontally 7 = .ok (.aload_n 0, 1) := dc_42 (by decide +kernel)
theorem dX35_horizontally_8 : decode cX35_horizontally 8 = .ok (.iconst 1, 1) := dc_4 (by decide +kernel)
theorem dX35_horizontally_9 : decode cX35_horizontally 9 = .ok (.invokevirtual 869, 3) := dc_182 (a := 3) (b := 101) (n := 869) (by decide +kernel)
theorem dX35_horizontally_12 : decode cX35_horizontally 12 = .ok (.aload_n 0, 1) := dc_42 (by decide +kernel)
theorem dX35_horizontally_13 : decode cX35_horizontally 13 = .ok (.getfield 321, 3) := dc_180 (a := 1) (b := 65) (n := 321) (by decide +kernel)
theorem dX35_horizontally_16 : decode cX35_horizontally 16 = .ok (.ifCond .ne 7, 3) := dc_154 (a := 0) (b := 7) (v := 7) (by decide +kernel)
theorem dX35_horizontally_19 : decode cX35_horizontally 19 = .ok (.iconst 1, 1) := dc_4 (by decide +kernel)
theorem dX35_horizontally_20 : decode cX35_horizontally 20 = .ok (.goto 4, 3) := dc_167 (a := 0) (b := 4) (v := 4) (by decide +kernel)
theorem dX35_horizontally_23 : decode cX35_horizontally 23 = .ok (.iconst 0, 1) := dc_3 (by decide +kernel)
theorem dX35_horizontally_24 : decode cX35_horizontally 24 = .ok (.ireturn, 1) := dc_172 (by decide +kernel)
def fX35_horizontally_b24 (N : Nat) (sL : Nat → Int32 → Int64 → Int64 → eH → Option (Int32 × eH)) (s0 : Int32) (h : eH) : Option (Int32 × eH) :=
  z_r s0 (s0, h)
theorem pX35_horizontally_b24 {w : eW} {d : Nat} {dr : Nat} (hd : dr + 13 ≤ d + 1) (hdr : 12 ≤ dr) {N : Nat} {sL : Nat → Int32 → Int64 → Int64 → eH → Option (Int32 × eH)} (hsL : ∀ a t0 t1 t2 h q, sL a t0 t1 t2 h = some q → wm w dr YX35_layBox [.ref a, .int t0, .long t1, .long t2] h (e_is (e_rn c_I q))) {s0 : Int32} {h : eH} {q} (hf : fX35_horizontally_b24 N sL s0 h = some q) : wp w (d + 1) YX35_horizontally 24 [none] [.int s0] h (e_is (e_rn c_I q)) := by
  unfold fX35_horizontally_b24 at hf
  obtain ⟨b1, rfl⟩ := z_r_some hf
  exact w_iret dX35_horizontally_24 rfl b1 rfl
def fX35_horizontally_b12 (N : Nat) (sL : Nat → Int32 → Int64 → Int64 → eH → Option (Int32 × eH)) (l0 : Nat) (h : eH) : Option (Int32 × eH) :=
  (g_I 34 h l0 46).bind fun x1 =>
  if ¬ x1 = 0 then
    fX35_horizontally_b24 N sL (0 : Int32) h
  else
    fX35_horizontally_b24 N sL (1 : Int32) h
theorem pX35_horizontally_b12 {w : eW} {d : Nat} {dr : Nat} (hd : dr + 13 ≤ d + 1) (hdr : 12 ≤ dr) {N : Nat} {sL : Nat → Int32 → Int64 → Int64 → eH → Option (Int32 × eH)} (hsL : ∀ a t0 t1 t2 h q, sL a t0 t1 t2 h = some q → wm w dr YX35_layBox [.ref a, .int t0, .long t1, .long t2] h (e_is (e_rn c_I q))) {l0 : Nat} {h : eH} {q} (hf : fX35_horizontally_b12 N sL l0 h = some q) : wp w (d + 1) YX35_horizontally 12 [some (.ref l0)] [] h (e_is (e_rn c_I q)) := by
  unfold fX35_horizontally_b12 at hf
  refine w_aload_n dX35_horizontally_12 rfl rfl ?_
  obtain ⟨x1, b2, hf⟩ := Option.bind_eq_some_iff.mp hf
  refine GX35_321 b2 dX35_horizontally_13 rfl ?_
  refine w_if_ne 23 dX35_horizontally_16 (by decide) (fun c3 => ?_) (fun c3 => ?_)
  · replace hf := (if_pos (show ¬ x1 = 0 from c3)).symm.trans hf
    refine w_iconst dX35_horizontally_23 (v := 0) (by decide) ?_
    exact (pX35_horizontally_b24 hd hdr hsL hf).to trivial
  · replace hf := (if_neg (show ¬ (¬ x1 = 0) from (fun z => z c3))).symm.trans hf
    refine w_iconst dX35_horizontally_19 (v := 1) (by decide) ?_
    refine w_goto 24 dX35_horizontally_20 (by decide) ?_
    exact (pX35_horizontally_b24 hd hdr hsL hf).to trivial
def fX35_horizontally (N : Nat) (sL : Nat → Int32 → Int64 → Int64 → eH → Option (Int32 × eH)) (this : Nat) (h : eH) : Option (Int32 × eH) :=
  (k_ok 34 h this).bind fun _ =>
  (fX35_isVertical this h).bind fun q2 =>
  if q2.1 = 0 then
    fX35_horizontally_b12 N sL this q2.2
  else
    (k_ok 34 q2.2 this).bind fun _ =>
    (fX35_beginParagraph N sL this (1 : Int32) q2.2).bind fun q5 =>
    fX35_horizontally_b12 N sL this q5.2
theorem pX35_horizontally {w : eW} {d : Nat} {dr : Nat} (hd : dr + 13 ≤ d) (hdr : 12 ≤ dr) {N : Nat} {sL : Nat → Int32 → Int64 → Int64 → eH → Option (Int32 × eH)} (hsL : ∀ a t0 t1 t2 h q, sL a t0 t1 t2 h = some q → wm w dr YX35_layBox [.ref a, .int t0, .long t1, .long t2] h (e_is (e_rn c_I q))) {this : Nat} {h : eH} {q} (hf : fX35_horizontally N sL this h = some q) : wm w d YX35_horizontally [.ref this] h (e_is (e_rn c_I q)) := by
  obtain ⟨d, rfl⟩ : ∃ e, d = e + 1 := ⟨d - 1, by omega⟩
  show wp w (d + 1) YX35_horizontally 0 [some (.ref this)] [] h _
  unfold fX35_horizontally at hf
  refine w_aload_n dX35_horizontally_0 rfl rfl ?_
  obtain ⟨_, b1, hf⟩ := Option.bind_eq_some_iff.mp hf
  refine x_cnI hf (e_stV (Yc := YX35_isVertical) (ci := 34) (av := []) (st := []) dX35_horizontally_1 q5449 mX35_isVertical rfl (k_ok_some b1).1 (k_ok_some b1).2) mX35_isVertical.2.2.1 mX35_isVertical.2.2.2.2.1 (Nat.le_of_ble_eq_true rfl) (Nat.le_of_ble_eq_true rfl) (fun q hq => pX35_isVertical (by omega) hq) (fun q2 hf => ?_)
  refine w_if_eq 12 dX35_horizontally_4 (by decide) (fun c3 => ?_) (fun c3 => ?_)
  · replace hf := (if_pos (show q2.1 = 0 from c3)).symm.trans hf
    exact (pX35_horizontally_b12 hd hdr hsL hf).to ⟨rfl, trivial⟩
  · replace hf := (if_neg (show ¬ (q2.1 = 0) from c3)).symm.trans hf
    refine w_aload_n dX35_horizontally_7 rfl rfl ?_
    refine w_iconst dX35_horizontally_8 (v := 1) (by decide) ?_
    obtain ⟨_, b4, hf⟩ := Option.bind_eq_some_iff.mp hf
    refine x_cnV hf (e_stV (Yc := YX35_beginParagraph) (ci := 34) (av := [.int (1 : Int32)]) (st := []) dX35_horizontally_9 q5453 mX35_beginParagraph rfl (k_ok_some b4).1 (k_ok_some b4).2) mX35_beginParagraph.2.2.1 mX35_beginParagraph.2.2.2.2.1 (Nat.le_of_ble_eq_true rfl) (Nat.le_of_ble_eq_true rfl) (fun q hq => pX35_beginParagraph (by omega) hdr hsL hq) (fun q5 hf => ?_)
    exact (pX35_horizontally_b12 hd hdr hsL hf).to ⟨rfl, trivial⟩
abbrev cX35_readGlue : ByteArray := prog_37_method_97_code
def yX35_readGlue : MethodName := ⟨RX35, "readGlue", "()V"⟩
def YX35_readGlue : eY := (yX35_readGlue, cX35_readGlue, 7, none, [])
theorem mX35_readGlue : e_mv YX35_readGlue RX35 0 := ⟨q5971, qs407, q5972, by decide, by decide +kernel, (e_sig (by decide +kernel))⟩
theorem dX35_readGlue_0 : decode cX35_readGlue 0 = .ok (.aload_n 0, 1) := dc_42 (by decide +kernel)
theorem dX35_readGlue_1 : decode cX35_readGlue 1 = .ok (.invokevirtual 660, 3) := dc_182 (a := 2) (b := 148) (n := 660) (by decide +kernel)
theorem dX35_readGlue_4 : decode cX35_readGlue 4 = .ok (.aload_n 0, 1) := dc_42 (by decide +kernel)
theorem dX35_readGlue_5 : decode cX35_readGlue 5 = .ok (.getfield 654, 3) := dc_180 (a := 2) (b := 142) (n := 654) (by decide +kernel)
theorem dX35_readGlue_8 : decode cX35_readGlue 8 = .ok (.istore_n 1, 1) := dc_60 (by decide +kernel)
theorem dX35_readGlue_9 : decode cX35_readGlue 9 = .ok (.aload_n 0, 1) := dc_42 (by decide +kernel)
theorem dX35_readGlue_10 : decode cX35_readGlue 10 = .ok (.getfield 651, 3) := dc_180 (a := 2) (b := 139) (n := 651) (by decide +kernel)
theorem dX35_readGlue_13 : decode cX35_readGlue 13 = .ok (.istore_n 2, 1) := dc_61 (by decide +kernel)
theorem dX35_readGlue_14 : decode cX35_readGlue 14 = .ok (.aload_n 0, 1) := dc_42 (by decide +kernel)
theorem dX35_readGlue_15 : decode cX35_readGlue 15 = .ok (.getfield 321, 3) := dc_180 (a := 1) (b := 65) (n := 321) (by decide +kernel)
theorem dX35_readGlue_18 : decode cX35_readGlue 18 = .ok (.ifCond .ne 108, 3) := dc_154 (a := 0) (b := 108) (v := 108) (by decide +kernel)
theorem dX35_readGlue_21 : decode cX35_readGlue 21 = .ok (.aload_n 0, 1) := dc_42 (by decide +kernel)
theorem dX35_readGlue_22 : decode cX35_readGlue 22 = .ok (.iload_n 2, 1) := dc_28 (by decide +kernel)
theorem dX35_readGlue_23 : decode cX35_readGlue 23 = .ok (.invokevirtual 545, 3) := dc_182 (a := 2) (b := 33) (n := 545) (by decide +kernel)
theorem dX35_readGlue_26 : decode cX35_readGlue 26 = .ok (.ifCond .eq 100, 3) := dc_153 (a := 0) (b := 100) (v := 100) (by decide +kernel)
theorem dX35_readGlue_29 : decode cX35_readGlue 29 = .ok (.aload_n 0, 1) := dc_42 (by decide +kernel)
theorem dX35_readGlue_30 : decode cX35_readGlue 30 = .ok (.aload_n 0, 1) := dc_42 (by decide +kernel)
theorem dX35_readGlue_31 : decode cX35_readGlue 31 = .ok (.iload_n 2, 1) := dc_28 (by decide +kernel)
theorem dX35_readGlue_32 : decode cX35_readGlue 32 = .ok (.invokevirtual 621, 3) := dc_182 (a := 2) (b := 109) (n := 621) (by decide +kernel)
theorem dX35_readGlue_35 : decode cX35_readGlue 35 = .ok (.invokevirtual 640, 3) := dc_182 (a := 2) (b := 128) (n := 640) (by decide +kernel)
theorem dX35_readGlue_38 : decode cX35_readGlue 38 = .ok (.istore_n 3, 1) := dc_62 (by decide +kernel)
theorem dX35_readGlue_39 : decode cX35_readGlue 39 = .ok (.aload_n 0, 1) := dc_42 (by decide +kernel)
theorem dX35_readGlue_40 : decode cX35_readGlue 40 = .ok (.iload_n 1, 1) := dc_27 (by decide +kernel)
theorem dX35_readGlue_41 : decode cX35_readGlue 41 = .ok (.ifCond .eq 12, 3) := dc_153 (a := 0) (b := 12) (v := 12) (by decide +kernel)
theorem dX35_readGlue_44 : decode cX35_readGlue 44 = .ok (.aload_n 0, 1) := dc_42 (by decide +kernel)
theorem dX35_readGlue_45 : decode cX35_readGlue 45 = .ok (.iload_n 3, 1) := dc_29 (by decide +kernel)
theorem dX35_readGlue_46 : decode cX35_readGlue 46 = .ok (.invokevirtual 431, 3) := dc_182 (a := 1) (b := 175) (n := 431) (by decide +kernel)
theorem dX35_readGlue_49 : decode cX35_readGlue 49 = .ok (.ineg, 1) := dc_116 (by decide +kernel)
theorem dX35_readGlue_50 : decode cX35_readGlue 50 = .ok (.goto 8, 3) := dc_167 (a := 0) (b := 8) (v := 8) (by decide +kernel)
theorem dX35_readGlue_53 : decode cX35_readGlue 53 = .ok (.aload_n 0, 1) := dc_42 (by decide +kernel)
theorem dX35_readGlue_54 : decode cX35_readGlue 54 = .ok (.iload_n 3, 1) := dc_29 (by decide +kernel)
theorem dX35_readGlue_55 : decode cX35_readGlue 55 = .ok (.invokevirtual 431, 3) := dc_182 (a := 1) (b := 175) (n := 431) (by decide +kernel)
theorem dX35_readGlue_58 : decode cX35_readGlue 58 = .ok (.putfield 768, 3) := dc_181 (a := 3) (b := 0) (n := 768) (by decide +kernel)
theorem dX35_readGlue_61 : decode cX35_readGlue 61 = .ok (.aload_n 0, 1) := dc_42 (by decide +kernel)
theorem dX35_readGlue_62 : decode cX35_readGlue 62 = .ok (.aload_n 0, 1) := dc_42 (by decide +kernel)
theorem dX35_readGlue_63 : decode cX35_readGlue 63 = .ok (.iload_n 3, 1) := dc_29 (by decide +kernel)
theorem dX35_readGlue_64 : decode cX35_readGlue 64 = .ok (.iconst 1, 1) := dc_4 (by decide +kernel)
theorem dX35_readGlue_65 : decode cX35_readGlue 65 = .ok (.iadd, 1) := dc_96 (by decide +kernel)
theorem dX35_readGlue_66 : decode cX35_readGlue 66 = .ok (.invokevirtual 431, 3) := dc_182 (a := 1) (b := 175) (n := 431) (by decide +kernel)
theorem dX35_readGlue_69 : decode cX35_readGlue 69 = .ok (.putfield 771, 3) := dc_181 (a := 3) (b := 3) (n := 771) (by decide +kernel)
theorem dX35_readGlue_72 : decode cX35_readGlue 72 = .ok (.aload_n 0, 1) := dc_42 (by decide +kernel)
theorem dX35_readGlue_73 : decode cX35_readGlue 73 = .ok (.aload_n 0, 1) := dc_42 (by decide +kernel)
theorem dX35_readGlue_74 : decode cX35_readGlue 74 = .ok (.iload_n 3, 1) := dc_29 (by decide +kernel)
theorem dX35_readGlue_75 : decode cX35_readGlue 75 = .ok (.iconst 2, 1) := dc_5 (by decide +kernel)
theorem dX35_readGlue_76 : decode cX35_readGlue 76 = .ok (.iadd, 1) := dc_96 (by decide +kernel)
theorem dX35_readGlue_77 : decode cX35_readGlue 77 = .ok (.invokevirtual 431, 3) := dc_182 (a := 1) (b := 175) (n := 431) (by decide +kernel)
theorem dX35_readGlue_80 : decode cX35_readGlue 80 = .ok (.putfield 774, 3) := dc_181 (a := 3) (b := 6) (n := 774) (by decide +kernel)
theorem dX35_readGlue_83 : decode cX35_readGlue 83 = .ok (.aload_n 0, 1) := dc_42 (by decide +kernel)
theorem dX35_readGlue_84 : decode cX35_readGlue 84 = .ok (.aload_n 0, 1) := dc_42 (by decide +kernel)
theorem dX35_readGlue_85 : decode cX35_readGlue 85 = .ok (.iload_n 3, 1) := dc_29 (by decide +kernel)
theorem dX35_readGlue_86 : decode cX35_readGlue 86 = .ok (.iconst 3, 1) := dc_6 (by decide +kernel)
theorem dX35_readGlue_87 : decode cX35_readGlue 87 = .ok (.iadd, 1) := dc_96 (by decide +kernel)
theorem dX35_readGlue_88 : decode cX35_readGlue 88 = .ok (.invokevirtual 431, 3) := dc_182 (a := 1) (b := 175) (n := 431) (by decide +kernel)
theorem dX35_readGlue_91 : decode cX35_readGlue 91 = .ok (.putfield 777, 3) := dc_181 (a := 3) (b := 9) (n := 777) (by decide +kernel)
theorem dX35_readGlue_94 : decode cX35_readGlue 94 = .ok (.aload_n 0, 1) := dc_42 (by decide +kernel)
theorem dX35_readGlue_95 : decode cX35_readGlue 95 = .ok (.getfield 321, 3) := dc_180 (a := 1) (b := 65) (n := 321) (by decide +kernel)
theorem dX35_readGlue_98 : decode cX35_readGlue 98 = .ok (.ifCond .ne 27, 3) := dc_154 (a := 0) (b := 27) (v := 27) (by decide +kernel)
theorem dX35_readGlue_101 : decode cX35_readGlue 101 = .ok (.iload_n 1, 1) := dc_27 (by decide +kernel)
theorem dX35_readGlue_102 : decode cX35_readGlue 102 = .ok (.ifCond .eq 23, 3) := dc_153 (a := 0) (b := 23) (v := 23) (by decide +kernel)
theorem dX35_readGlue_105 : decode cX35_readGlue 105 = .ok (.aload_n 0, 1) := dc_42 (by decide +kernel)
theorem dX35_readGlue_106 : decode cX35_readGlue 106 = .ok (.getfield 771, 3) := dc_180 (a := 3) (b := 3) (n := 771) (by decide +kernel)
theorem dX35_readGlue_109 : decode cX35_readGlue 109 = .ok (.ifCond .ne 10, 3) := dc_154 (a := 0) (b := 10) (v := 10) (by decide +kernel)
theorem dX35_readGlue_112 : decode cX35_readGlue 112 = .ok (.aload_n 0, 1) := dc_42 (by decide +kernel)
theorem dX35_readGlue_113 : decode cX35_readGlue 113 = .ok (.getfield 777, 3) := dc_180 (a := 3) (b := 9) (n := 777) (by decide +kernel)
theorem dX35_readGlue_116 : decode cX35_readGlue 116 = .ok (.ifCond .eq 9, 3) := dc_153 (a := 0) (b := 9) (v := 9) (by decide +kernel)
theorem dX35_readGlue_119 : decode cX35_readGlue 119 = .ok (.aload_n 0, 1) := dc_42 (by decide +kernel)
theorem dX35_readGlue_120 : decode cX35_readGlue 120 = .ok (.bipush 7, 2) := dc_16 (a := 7) (v := 7) (by decide +kernel)
theorem dX35_readGlue_122 : decode cX35_readGlue 122 = .ok (.invokevirtual 428, 3) := dc_182 (a := 1) (b := 172) (n := 428) (by decide +kernel)
theorem dX35_readGlue_125 : decode cX35_readGlue 125 = .ok (.return_, 1) := dc_177 (by decide +kernel)
theorem dX35_readGlue_126 : decode cX35_readGlue 126 = .ok (.aload_n 0, 1) := dc_42 (by decide +kernel)
theorem dX35_readGlue_127 : decode cX35_readGlue 127 = .ok (.iload_n 2, 1) := dc_28 (by decide +kernel)
theorem dX35_readGlue_128 : decode cX35_readGlue 128 = .ok (.iload_n 1, 1) := dc_27 (by decide +kernel)
theorem dX35_readGlue_129 : decode cX35_readGlue 129 = .ok (.iconst 0, 1) := dc_3 (by decide +kernel)
theorem dX35_readGlue_130 : decode cX35_readGlue 130 = .ok (.invokevirtual 764, 3) := dc_182 (a := 2) (b := 252) (n := 764) (by decide +kernel)
theorem dX35_readGlue_133 : decode cX35_readGlue 133 = .ok (.istore_n 3, 1) := dc_62 (by decide +kernel)
theorem dX35_readGlue_134 : decode cX35_readGlue 134 = .ok (.iconst 0, 1) := dc_3 (by decide +kernel)
theorem dX35_readGlue_135 : decode cX35_readGlue 135 = .ok (.istore 4, 2) := dc_54 (a := 4) (by decide +kernel)
theorem dX35_readGlue_137 : decode cX35_readGlue 137 = .ok (.iconst 0, 1) := dc_3 (by decide +kernel)
theorem dX35_readGlue_138 : decode cX35_readGlue 138 = .ok (.istore 5, 2) := dc_54 (a := 5) (by decide +kernel)
theorem dX35_readGlue_140 : decode cX35_readGlue 140 = .ok (.iconst 0, 1) := dc_3 (by decide +kernel)
theorem dX35_readGlue_141 : decode cX35_readGlue 141 = .ok (.istore 6, 2) := dc_54 (a := 6) (by decide +kernel)
theorem dX35_readGlue_143 : decode cX35_readGlue 143 = .ok (.aload_n 0, 1) := dc_42 (by decide +kernel)
theorem dX35_readGlue_144 : decode cX35_readGlue 144 = .ok (.getfield 321, 3) := dc_180 (a := 1) (b := 65) (n := 321) (by decide +kernel)
theorem dX35_readGlue_147 : decode cX35_readGlue 147 = .ok (.ifCond .ne 56, 3) := dc_154 (a := 0) (b := 56) (v := 56) (by decide +kernel)
theorem dX35_readGlue_150 : decode cX35_readGlue 150 = .ok (.aload_n 0, 1) := dc_42 (by decide +kernel)
theorem dX35_readGlue_151 : decode cX35_readGlue 151 = .ok (.ldc_w 780, 3) := dc_19 (a := 3) (b := 12) (n := 780) (by decide +kernel)
theorem dX35_readGlue_154 : decode cX35_readGlue 154 = .ok (.invokevirtual 707, 3) := dc_182 (a := 2) (b := 195) (n := 707) (by decide +kernel)
theorem dX35_readGlue_157 : decode cX35_readGlue 157 = .ok (.ifCond .eq 46, 3) := dc_153 (a := 0) (b := 46) (v := 46) (by decide +kernel)
theorem dX35_readGlue_160 : decode cX35_readGlue 160 = .ok (.aload_n 0, 1) := dc_42 (by decide +kernel)
theorem dX35_readGlue_161 : decode cX35_readGlue 161 = .ok (.invokevirtual 660, 3) := dc_182 (a := 2) (b := 148) (n := 660) (by decide +kernel)
theorem dX35_readGlue_164 : decode cX35_readGlue 164 = .ok (.aload_n 0, 1) := dc_42 (by decide +kernel)
theorem dX35_readGlue_165 : decode cX35_readGlue 165 = .ok (.aload_n 0, 1) := dc_42 (by decide +kernel)
theorem dX35_readGlue_166 : decode cX35_readGlue 166 = .ok (.getfield 651, 3) := dc_180 (a := 2) (b := 139) (n := 651) (by decide +kernel)
theorem dX35_readGlue_169 : decode cX35_readGlue 169 = .ok (.aload_n 0, 1) := dc_42 (by decide +kernel)
theorem dX35_readGlue_170 : decode cX35_readGlue 170 = .ok (.getfield 654, 3) := dc_180 (a := 2) (b := 142) (n := 654) (by decide +kernel)
theorem dX35_readGlue_173 : decode cX35_readGlue 173 = .ok (.iconst 1, 1) := dc_4 (by decide +kernel)
theorem dX35_readGlue_174 : decode cX35_readGlue 174 = .ok (.invokevirtual 764, 3) := dc_182 (a := 2) (b := 252) (n := 764) (by decide +kernel)
theorem dX35_readGlue_177 : decode cX35_readGlue 177 = .ok (.istore 4, 2) := dc_54 (a := 4) (by decide +kernel)
theorem dX35_readGlue_179 : decode cX35_readGlue 179 = .ok (.aload_n 0, 1) := dc_42 (by decide +kernel)
theorem dX35_readGlue_180 : decode cX35_readGlue 180 = .ok (.getfield 757, 3) := dc_180 (a := 2) (b := 245) (n := 757) (by decide +kernel)
theorem dX35_readGlue_183 : decode cX35_readGlue 183 = .ok (.istore 5, 2) := dc_54 (a := 5) (by decide +kernel)
theorem dX35_readGlue_185 : decode cX35_readGlue 185 = .ok (.aload_n 0, 1) := dc_42 (by decide +kernel)
theorem dX35_readGlue_186 : decode cX35_readGlue 186 = .ok (.getfield 321, 3) := dc_180 (a := 1) (b := 65) (n := 321) (by decide +kernel)
theorem dX35_readGlue_189 : decode cX35_readGlue 189 = .ok (.ifCond .ne 14, 3) := dc_154 (a := 0) (b := 14) (v := 14) (by decide +kernel)
theorem dX35_readGlue_192 : decode cX35_readGlue 192 = .ok (.iload 4, 2) := dc_21 (a := 4) (by decide +kernel)
theorem dX35_readGlue_194 : decode cX35_readGlue 194 = .ok (.ifCond .ge 9, 3) := dc_156 (a := 0) (b := 9) (v := 9) (by decide +kernel)
theorem dX35_readGlue_197 : decode cX35_readGlue 197 = .ok (.aload_n 0, 1) := dc_42 (by decide +kernel)
theorem dX35_readGlue_198 : decode cX35_readGlue 198 = .ok (.bipush 7, 2) := dc_16 (a := 7) (v := 7) (by decide +kernel)
theorem dX35_readGlue_200 : decode cX35_readGlue 200 = .ok (.invokevirtual 428, 3) := dc_182 (a := 1) (b := 172) (n := 428) (by decide +kernel)
theorem dX35_readGlue_203 : decode cX35_readGlue 203 = .ok (.aload_n 0, 1) := dc_42 (by decide +kernel)
theorem dX35_readGlue_204 : decode cX35_readGlue 204 = .ok (.getfield 321, 3) := dc_180 (a := 1) (b := 65) (n := 321) (by decide +kernel)
theorem dX35_readGlue_207 : decode cX35_readGlue 207 = .ok (.ifCond .ne 37, 3) := dc_154 (a := 0) (b := 37) (v := 37) (by decide +kernel)
theorem dX35_readGlue_210 : decode cX35_readGlue 210 = .ok (.aload_n 0, 1) := dc_42 (by decide +kernel)
theorem dX35_readGlue_211 : decode cX35_readGlue 211 = .ok (.ldc_w 782, 3) := dc_19 (a := 3) (b := 14) (n := 782) (by decide +kernel)
theorem dX35_readGlue_214 : decode cX35_readGlue 214 = .ok (.invokevirtual 707, 3) := dc_182 (a := 2) (b := 195) (n := 707) (by decide +kernel)
theorem dX35_readGlue_217 : decode cX35_readGlue 217 = .ok (.ifCond .eq 27, 3) := dc_153 (a := 0) (b := 27) (v := 27) (by decide +kernel)
theorem dX35_readGlue_220 : decode cX35_readGlue 220 = .ok (.aload_n 0, 1) := dc_42 (by decide +kernel)
theorem dX35_readGlue_221 : decode cX35_readGlue 221 = .ok (.invokevirtual 614, 3) := dc_182 (a := 2) (b := 102) (n := 614) (by decide +kernel)
theorem dX35_readGlue_224 : decode cX35_readGlue 224 = .ok (.istore 6, 2) := dc_54 (a := 6) (by decide +kernel)
theorem dX35_readGlue_226 : decode cX35_readGlue 226 = .ok (.aload_n 0, 1) := dc_42 (by decide +kernel)
theorem dX35_readGlue_227 : decode cX35_readGlue 227 = .ok (.getfield 321, 3) := dc_180 (a := 1) (b := 65) (n := 321) (by decide +kernel)
theorem dX35_readGlue_230 : decode cX35_readGlue 230 = .ok (.ifCond .ne 14, 3) := dc_154 (a := 0) (b := 14) (v := 14) (by decide +kernel)
theorem dX35_readGlue_233 : decode cX35_readGlue 233 = .ok (.iload 6, 2) := dc_21 (a := 6) (by decide +kernel)
theorem dX35_readGlue_235 : decode cX35_readGlue 235 = .ok (.ifCond .ge 9, 3) := dc_156 (a := 0) (b := 9) (v := 9) (by decide +kernel)
theorem dX35_readGlue_238 : decode cX35_readGlue 238 = .ok (.aload_n 0, 1) := dc_42 (by decide +kernel)
theorem dX35_readGlue_239 : decode cX35_readGlue 239 = .ok (.bipush 7, 2) := dc_16 (a := 7) (v := 7) (by decide +kernel)
theorem dX35_readGlue_241 : decode cX35_readGlue 241 = .ok (.invokevirtual 428, 3) := dc_182 (a := 1) (b := 172) (n := 428) (by decide +kernel)
theorem dX35_readGlue_244 : decode cX35_readGlue 244 = .ok (.aload_n 0, 1) := dc_42 (by decide +kernel)
theorem dX35_readGlue_245 : decode cX35_readGlue 245 = .ok (.iload_n 3, 1) := dc_29 (by decide +kernel)
theorem dX35_readGlue_246 : decode cX35_readGlue 246 = .ok (.putfield 768, 3) := dc_181 (a := 3) (b := 0) (n := 768) (by decide +kernel)
theorem dX35_readGlue_249 : decode cX35_readGlue 249 = .ok (.aload_n 0, 1) := dc_42 (by decide +kernel)
theorem dX35_readGlue_250 : decode cX35_readGlue 250 = .ok (.iload 4, 2) := dc_21 (a := 4) (by decide +kernel)
theorem dX35_readGlue_252 : decode cX35_readGlue 252 = .ok (.putfield 771, 3) := dc_181 (a := 3) (b := 3) (n := 771) (by decide +kernel)
theorem dX35_readGlue_255 : decode cX35_readGlue 255 = .ok (.aload_n 0, 1) := dc_42 (by decide +kernel)
theorem dX35_readGlue_256 : decode cX35_readGlue 256 = .ok (.iload 4, 2) := dc_21 (a := 4) (by decide +kernel)
theorem dX35_readGlue_258 : decode cX35_readGlue 258 = .ok (.ifCond .ne 7, 3) := dc_154 (a := 0) (b := 7) (v := 7) (by decide +kernel)
theorem dX35_readGlue_261 : decode cX35_readGlue 261 = .ok (.iconst 0, 1) := dc_3 (by decide +kernel)
theorem dX35_readGlue_262 : decode cX35_readGlue 262 = .ok (.goto 5, 3) := dc_167 (a := 0) (b := 5) (v := 5) (by decide +kernel)
theorem dX35_readGlue_265 : decode cX35_readGlue 265 = .ok (.iload 5, 2) := dc_21 (a := 5) (by decide +kernel)
theorem dX35_readGlue_267 : decode cX35_readGlue 267 = .ok (.putfield 774, 3) := dc_181 (a := 3) (b := 6) (n := 774) (by decide +kernel)
theorem dX35_readGlue_270 : decode cX35_readGlue 270 = .ok (.aload_n 0, 1) := dc_42 (by decide +kernel)
theorem dX35_readGlue_271 : decode cX35_readGlue 271 = .ok (.iload 6, 2) := dc_21 (a := 6) (by decide +kernel)
theorem dX35_readGlue_273 : decode cX35_readGlue 273 = .ok (.putfield 777, 3) := dc_181 (a := 3) (b := 9) (n := 777) (by decide +kernel)
theorem dX35_readGlue_276 : decode cX35_readGlue 276 = .ok (.return_, 1) := dc_177 (by decide +kernel)
theorem GX35_757 {w : eW} {d : Nat} {Y : eY} {pc : Nat} {ls : eL} {st : List Value} {h : eH} {Q : eO → eH → Prop} {a : Nat} {x : Int32} (hf : g_I 34 h a 120 = some x) (hd : decode Y.2.1 pc = .ok (.getfield 757, 3)) (hY : Y.1.cls = RX35) (kk : wp w d Y (pc + 3) ls (.int x :: st) h Q) : wp w d Y pc ls (.ref a :: st) h Q := x_gI (ci := 34) (k := 120) hf hd rfl (by decide) (by rw [hY]; exact q4621) kk
theorem GX35_771 {w : eW} {d : Nat} {Y : eY} {pc : Nat} {ls : eL} {st : List Value} {h : eH} {Q : eO → eH → Prop} {a : Nat} {x : Int32} (hf : g_I 34 h a 115 = some x) (hd : decode Y.2.1 pc = .ok (.getfield 771, 3)) (hY : Y.1.cls = RX35) (kk : wp w d Y (pc + 3) ls (.int x :: st) h Q) : wp w d Y pc ls (.ref a :: st) h Q := x_gI (ci := 34) (k := 115) hf hd rfl (by decide) (by rw [hY]; exact q4616) kk
theorem GX35_777 {w : eW} {d : Nat} {Y : eY} {pc : Nat} {ls : eL} {st : List Value} {h : eH} {Q : eO → eH → Prop} {a : Nat} {x : Int32} (hf : g_I 34 h a 117 = some x) (hd : decode Y.2.1 pc = .ok (.getfield 777, 3)) (hY : Y.1.cls = RX35) (kk : wp w d Y (pc + 3) ls (.int x :: st) h Q) : wp w d Y pc ls (.ref a :: st) h Q := x_gI (ci := 34) (k := 117) hf hd rfl (by decide) (by rw [hY]; exact q4618) kk
theorem SX35_768 {w : eW} {d : Nat} {Y : eY} {pc : Nat} {ls : eL} {st : List Value} {h : eH} {Q : eO → eH → Prop} {a : Nat} {h' : eH} {x : Int32} (hf : p_V 34 h a 114 (.int x) = some h') (hd : decode Y.2.1 pc = .ok (.putfield 768, 3)) (hY : Y.1.cls = RX35) (kk : wp w d Y (pc + 3) ls st h' Q) : wp w d Y pc ls (.int x :: .ref a :: st) h Q := x_pI (ci := 34) (k := 114) hf hd rfl (by decide) (by rw [hY]; exact q4615) rfl rfl kk
theorem SX35_771 {w : eW} {d : Nat} {Y : eY} {pc : Nat} {ls : eL} {st : List Value} {h : eH} {Q : eO → eH → Prop} {a : Nat} {h' : eH} {x : Int32} (hf : p_V 34 h a 115 (.int x) = some h') (hd : decode Y.2.1 pc = .ok (.putfield 771, 3)) (hY : Y.1.cls = RX35) (kk : wp w d Y (pc + 3) ls st h' Q) : wp w d Y pc ls (.int x :: .ref a :: st) h Q := x_pI (ci := 34) (k := 115) hf hd rfl (by decide) (by rw [hY]; exact q4616) rfl rfl kk
theorem SX35_774 {w : eW} {d : Nat} {Y : eY} {pc : Nat} {ls : eL} {st : List Value} {h : eH} {Q : eO → eH → Prop} {a : Nat} {h' : eH} {x : Int32} (hf : p_V 34 h a 116 (.int x) = some h') (hd : decode Y.2.1 pc = .ok (.putfield 774, 3)) (hY : Y.1.cls = RX35) (kk : wp w d Y (pc + 3) ls st h' Q) : wp w d Y pc ls (.int x :: .ref a :: st) h Q := x_pI (ci := 34) (k := 116) hf hd rfl (by decide) (by rw [hY]; exact q4617) rfl rfl kk
theorem SX35_777 {w : eW} {d : Nat} {Y : eY} {pc : Nat} {ls : eL} {st : List Value} {h : eH} {Q : eO → eH → Prop} {a : Nat} {h' : eH} {x : Int32} (hf : p_V 34 h a 117 (.int x) = some h') (hd : decode Y.2.1 pc = .ok (.putfield 777, 3)) (hY : Y.1.cls = RX35) (kk : wp w d Y (pc + 3) ls st h' Q) : wp w d Y pc ls (.int x :: .ref a :: st) h Q := x_pI (ci := 34) (k := 117) hf hd rfl (by decide) (by rw [hY]; exact q4618) rfl rfl kk
def fX35_readGlue_b125 (N : Nat) (sE : Nat → Int32 → eH → Option (Unit × eH)) (sN : Nat → eH → Option (Int32 × eH))  (h : eH) : Option (Unit × eH) :=
  some ((), h)
theorem pX35_readGlue_b125 {w : eW} {d : Nat} {dr : Nat} (hd : dr + 11 ≤ d + 1) (hdr : 12 ≤ dr) {N : Nat} {sE : Nat → Int32 → eH → Option (Unit × eH)} {sN : Nat → eH → Option (Int32 × eH)} (hsE : ∀ a t0 h q, sE a t0 h = some q → wm w dr YX35_expand [.ref a, .int t0] h (e_is (e_rn c_V q))) (hsN : ∀ a h q, sN a h = some q → wm w dr YX35_number [.ref a] h (e_is (e_rn c_I q)))  {h : eH} {q} (hf : fX35_readGlue_b125 N sE sN h = some q) : wp w (d + 1) YX35_readGlue 125 [none, none, none, none, none, none, none] [] h (e_is (e_rn c_V q)) := by
  unfold fX35_readGlue_b125 at hf
  cases hf
  exact w_vret dX35_readGlue_125 rfl rfl
def fX35_readGlue_b119 (N : Nat) (sE : Nat → Int32 → eH → Option (Unit × eH)) (sN : Nat → eH → Option (Int32 × eH)) (l0 : Nat) (h : eH) : Option (Unit × eH) :=
  (k_ok 34 h l0).bind fun _ =>
  (fX35_fail l0 (7 : Int32) h).bind fun q2 =>
  fX35_readGlue_b125 N sE sN q2.2
theorem pX35_readGlue_b119 {w : eW} {d : Nat} {dr : Nat} (hd : dr + 11 ≤ d + 1) (hdr : 12 ≤ dr) {N : Nat} {sE : Nat → Int32 → eH → Option (Unit × eH)} {sN : Nat → eH → Option (Int32 × eH)} (hsE : ∀ a t0 h q, sE a t0 h = some q → wm w dr YX35_expand [.ref a, .int t0] h (e_is (e_rn c_V q))) (hsN : ∀ a h q, sN a h = some q → wm w dr YX35_number [.ref a] h (e_is (e_rn c_I q))) {l0 : Nat} {h : eH} {q} (hf : fX35_readGlue_b119 N sE sN l0 h = some q) : wp w (d + 1) YX35_readGlue 119 [some (.ref l0), none, none, none, none, none, none] [] h (e_is (e_rn c_V q)) := by
  unfold fX35_readGlue_b119 at hf
  refine w_aload_n dX35_readGlue_119 rfl rfl ?_
  refine w_bipush dX35_readGlue_120 (v := 7) (by decide) ?_
  obtain ⟨_, b1, hf⟩ := Option.bind_eq_some_iff.mp hf
  refine x_cnV hf (e_stV (Yc := YX35_fail) (ci := 34) (av := [.int (7 : Int32)]) (st := []) dX35_readGlue_122 q5109 mX35_fail rfl (k_ok_some b1).1 (k_ok_some b1).2) mX35_fail.2.2.1 mX35_fail.2.2.2.2.1 (Nat.le_of_ble_eq_true rfl) (Nat.le_of_ble_eq_true rfl) (fun q hq => pX35_fail (by omega) hq) (fun q2 hf => ?_)
  exact (pX35_readGlue_b125 hd hdr hsE hsN hf).to trivial
def fX35_readGlue_b58 (N : Nat) (sE : Nat → Int32 → eH → Option (Unit × eH)) (sN : Nat → eH → Option (Int32 × eH)) (l0 : Nat) (l1 : Int32) (l3 : Int32) (s0 : Nat) (s1 : Int32) (h : eH) : Option (Unit × eH) :=
  (p_V 34 h s0 114 (.int s1)).bind fun h1 =>
  (k_ok 34 h1 l0).bind fun _ =>
  (fX35_now l0 (l3 + (1 : Int32)) h1).bind fun q4 =>
  (p_V 34 q4.2 l0 115 (.int q4.1)).bind fun h5 =>
  (k_ok 34 h5 l0).bind fun _ =>
  (fX35_now l0 (l3 + (2 : Int32)) h5).bind fun q8 =>
  (p_V 34 q8.2 l0 116 (.int q8.1)).bind fun h9 =>
  (k_ok 34 h9 l0).bind fun _ =>
  (fX35_now l0 (l3 + (3 : Int32)) h9).bind fun q12 =>
  (p_V 34 q12.2 l0 117 (.int q12.1)).bind fun h13 =>
  (g_I 34 h13 l0 46).bind fun x15 =>
  if ¬ x15 = 0 then
    fX35_readGlue_b125 N sE sN h13
  else
    if l1 = 0 then
      fX35_readGlue_b125 N sE sN h13
    else
      (g_I 34 h13 l0 115).bind fun x19 =>
      if ¬ x19 = 0 then
        fX35_readGlue_b119 N sE sN l0 h13
      else
        (g_I 34 h13 l0 117).bind fun x22 =>
        if x22 = 0 then
          fX35_readGlue_b125 N sE sN h13
        else
          fX35_readGlue_b119 N sE sN l0 h13
theorem pX35_readGlue_b58 {w : eW} {d : Nat} {dr : Nat} (hd : dr + 11 ≤ d + 1) (hdr : 12 ≤ dr) {N : Nat} {sE : Nat → Int32 → eH → Option (Unit × eH)} {sN : Nat → eH → Option (Int32 × eH)} (hsE : ∀ a t0 h q, sE a t0 h = some q → wm w dr YX35_expand [.ref a, .int t0] h (e_is (e_rn c_V q))) (hsN : ∀ a h q, sN a h = some q → wm w dr YX35_number [.ref a] h (e_is (e_rn c_I q))) {l0 : Nat} {l1 : Int32} {l3 : Int32} {s0 : Nat} {s1 : Int32} {h : eH} {q} (hf : fX35_readGlue_b58 N sE sN l0 l1 l3 s0 s1 h = some q) : wp w (d + 1) YX35_readGlue 58 [some (.ref l0), some (.int l1), none, some (.int l3), none, none, none] [.int s1, .ref s0] h (e_is (e_rn c_V q)) := by
  unfold fX35_readGlue_b58 at hf
  obtain ⟨h1, b2, hf⟩ := Option.bind_eq_some_iff.mp hf
  refine SX35_768 b2 dX35_readGlue_58 rfl ?_
  refine w_aload_n dX35_readGlue_61 rfl rfl ?_
  refine w_aload_n dX35_readGlue_62 rfl rfl ?_
  refine w_iload_n dX35_readGlue_63 rfl rfl ?_
  refine w_iconst dX35_readGlue_64 (v := 1) (by decide) ?_
  refine w_iadd dX35_readGlue_65 ?_
  obtain ⟨_, b3, hf⟩ := Option.bind_eq_some_iff.mp hf
  refine x_cnI hf (e_stV (Yc := YX35_now) (ci := 34) (av := [.int (l3 + (1 : Int32))]) (st := [.ref l0]) dX35_readGlue_66 q5097 mX35_now rfl (k_ok_some b3).1 (k_ok_some b3).2) mX35_now.2.2.1 mX35_now.2.2.2.2.1 (Nat.le_of_ble_eq_true rfl) (Nat.le_of_ble_eq_true rfl) (fun q hq => pX35_now (by omega) hq) (fun q4 hf => ?_)
  obtain ⟨h5, b6, hf⟩ := Option.bind_eq_some_iff.mp hf
  refine SX35_771 b6 dX35_readGlue_69 rfl ?_
  refine w_aload_n dX35_readGlue_72 rfl rfl ?_
  refine w_aload_n dX35_readGlue_73 rfl rfl ?_
  refine w_iload_n dX35_readGlue_74 rfl rfl ?_
  refine w_iconst dX35_readGlue_75 (v := 2) (by decide) ?_
  refine w_iadd dX35_readGlue_76 ?_
  obtain ⟨_, b7, hf⟩ := Option.bind_eq_some_iff.mp hf
  refine x_cnI hf (e_stV (Yc := YX35_now) (ci := 34) (av := [.int (l3 + (2 : Int32))]) (st := [.ref l0]) dX35_readGlue_77 q5097 mX35_now rfl (k_ok_some b7).1 (k_ok_some b7).2) mX35_now.2.2.1 mX35_now.2.2.2.2.1 (Nat.le_of_ble_eq_true rfl) (Nat.le_of_ble_eq_true rfl) (fun q hq => pX35_now (by omega) hq) (fun q8 hf => ?_)
  obtain ⟨h9, b10, hf⟩ := Option.bind_eq_some_iff.mp hf
  refine SX35_774 b10 dX35_readGlue_80 rfl ?_
  refine w_aload_n dX35_readGlue_83 rfl rfl ?_
  refine w_aload_n dX35_readGlue_84 rfl rfl ?_
  refine w_iload_n dX35_readGlue_85 rfl rfl ?_
  refine w_iconst dX35_readGlue_86 (v := 3) (by decide) ?_
  refine w_iadd dX35_readGlue_87 ?_
  obtain ⟨_, b11, hf⟩ := Option.bind_eq_some_iff.mp hf
  refine x_cnI hf (e_stV (Yc := YX35_now) (ci := 34) (av := [.int (l3 + (3 : Int32))]) (st := [.ref l0]) dX35_readGlue_88 q5097 mX35_now rfl (k_ok_some b11).1 (k_ok_some b11).2) mX35_now.2.2.1 mX35_now.2.2.2.2.1 (Nat.le_of_ble_eq_true rfl) (Nat.le_of_ble_eq_true rfl) (fun q hq => pX35_now (by omega) hq) (fun q12 hf => ?_)
  obtain ⟨h13, b14, hf⟩ := Option.bind_eq_some_iff.mp hf
  refine SX35_777 b14 dX35_readGlue_91 rfl ?_
  refine w_aload_n dX35_readGlue_94 rfl rfl ?_
  obtain ⟨x15, b16, hf⟩ := Option.bind_eq_some_iff.mp hf
  refine GX35_321 b16 dX35_readGlue_95 rfl ?_
  refine w_if_ne 125 dX35_readGlue_98 (by decide) (fun c17 => ?_) (fun c17 => ?_)
  · replace hf := (if_pos (show ¬ x15 = 0 from c17)).symm.trans hf
    exact (pX35_readGlue_b125 hd hdr hsE hsN hf).to trivial
  · replace hf := (if_neg (show ¬ (¬ x15 = 0) from (fun z => z c17))).symm.trans hf
    refine w_iload_n dX35_readGlue_101 rfl rfl ?_
    refine w_if_eq 125 dX35_readGlue_102 (by decide) (fun c18 => ?_) (fun c18 => ?_)
    · replace hf := (if_pos (show l1 = 0 from c18)).symm.trans hf
      exact (pX35_readGlue_b125 hd hdr hsE hsN hf).to trivial
    · replace hf := (if_neg (show ¬ (l1 = 0) from c18)).symm.trans hf
      refine w_aload_n dX35_readGlue_105 rfl rfl ?_
      obtain ⟨x19, b20, hf⟩ := Option.bind_eq_some_iff.mp hf
      refine GX35_771 b20 dX35_readGlue_106 rfl ?_
      refine w_if_ne 119 dX35_readGlue_109 (by decide) (fun c21 => ?_) (fun c21 => ?_)
      · replace hf := (if_pos (show ¬ x19 = 0 from c21)).symm.trans hf
        exact (pX35_readGlue_b119 hd hdr hsE hsN hf).to ⟨rfl, trivial⟩
      · replace hf := (if_neg (show ¬ (¬ x19 = 0) from (fun z => z c21))).symm.trans hf
        refine w_aload_n dX35_readGlue_112 rfl rfl ?_
        obtain ⟨x22, b23, hf⟩ := Option.bind_eq_some_iff.mp hf
        refine GX35_777 b23 dX35_readGlue_113 rfl ?_
        refine w_if_eq 125 dX35_readGlue_116 (by decide) (fun c24 => ?_) (fun c24 => ?_)
        · replace hf := (if_pos (show x22 = 0 from c24)).symm.trans hf
          exact (pX35_readGlue_b125 hd hdr hsE hsN hf).to trivial
        · replace hf := (if_neg (show ¬ (x22 = 0) from c24)).symm.trans hf
          exact (pX35_readGlue_b119 hd hdr hsE hsN hf).to ⟨rfl, trivial⟩
def fX35_readGlue_b267 (N : Nat) (sE : Nat → Int32 → eH → Option (Unit × eH)) (sN : Nat → eH → Option (Int32 × eH)) (l0 : Nat) (l6 : Int32) (s0 : Nat) (s1 : Int32) (h : eH) : Option (Unit × eH) :=
  (p_V 34 h s0 116 (.int s1)).bind fun h1 =>
  (p_V 34 h1 l0 117 (.int l6)).bind fun h3 =>
  some ((), h3)
theorem pX35_readGlue_b267 {w : eW} {d : Nat} {dr : Nat} (hd : dr + 11 ≤ d + 1) (hdr : 12 ≤ dr) {N : Nat} {sE : Nat → Int32 → eH → Option (Unit × eH)} {sN : Nat → eH → Option (Int32 × eH)} (hsE : ∀ a t0 h q, sE a t0 h = some q → wm w dr YX35_expand [.ref a, .int t0] h (e_is (e_rn c_V q))) (hsN : ∀ a h q, sN a h = some q → wm w dr YX35_number [.ref a] h (e_is (e_rn c_I q))) {l0 : Nat} {l6 : Int32} {s0 : Nat} {s1 : Int32} {h : eH} {q} (hf : fX35_readGlue_b267 N sE sN l0 l6 s0 s1 h = some q) : wp w (d + 1) YX35_readGlue 267 [some (.ref l0), none, none, none, none, none, some (.int l6)] [.int s1, .ref s0] h (e_is (e_rn c_V q)) := by
  unfold fX35_readGlue_b267 at hf
  obtain ⟨h1, b2, hf⟩ := Option.bind_eq_some_iff.mp hf
  refine SX35_774 b2 dX35_readGlue_267 rfl ?_
  refine w_aload_n dX35_readGlue_270 rfl rfl ?_
  refine w_iload dX35_readGlue_271 rfl ?_
  obtain ⟨h3, b4, hf⟩ := Option.bind_eq_some_iff.mp hf
  refine SX35_777 b4 dX35_readGlue_273 rfl ?_
  cases hf
  exact w_vret dX35_readGlue_276 rfl rfl
def fX35_readGlue_b244 (N : Nat) (sE : Nat → Int32 → eH → Option (Unit × eH)) (sN : Nat → eH → Option (Int32 × eH)) (l0 : Nat) (l3 : Int32) (l4 : Int32) (l5 : Int32) (l6 : Int32) (h : eH) : Option (Unit × eH) :=
  (p_V 34 h l0 114 (.int l3)).bind fun h1 =>
  (p_V 34 h1 l0 115 (.int l4)).bind fun h3 =>
  if ¬ l4 = 0 then
    fX35_readGlue_b267 N sE sN l0 l6 l0 l5 h3
  else
    fX35_readGlue_b267 N sE sN l0 l6 l0 (0 : Int32) h3
theorem pX35_readGlue_b244 {w : eW} {d : Nat} {dr : Nat} (hd : dr + 11 ≤ d + 1) (hdr : 12 ≤ dr) {N : Nat} {sE : Nat → Int32 → eH → Option (Unit × eH)} {sN : Nat → eH → Option (Int32 × eH)} (hsE : ∀ a t0 h q, sE a t0 h = some q → wm w dr YX35_expand [.ref a, .int t0] h (e_is (e_rn c_V q))) (hsN : ∀ a h q, sN a h = some q → wm w dr YX35_number [.ref a] h (e_is (e_rn c_I q))) {l0 : Nat} {l3 : Int32} {l4 : Int32} {l5 : Int32} {l6 : Int32} {h : eH} {q} (hf : fX35_readGlue_b244 N sE sN l0 l3 l4 l5 l6 h = some q) : wp w (d + 1) YX35_readGlue 244 [some (.ref l0), none, none, some (.int l3), some (.int l4), some (.int l5), some (.int l6)] [] h (e_is (e_rn c_V q)) := by
  unfold fX35_readGlue_b244 at hf
  refine w_aload_n dX35_readGlue_244 rfl rfl ?_
  refine w_iload_n dX35_readGlue_245 rfl rfl ?_
  obtain ⟨h1, b2, hf⟩ := Option.bind_eq_some_iff.mp hf
  refine SX35_768 b2 dX35_readGlue_246 rfl ?_
  refine w_aload_n dX35_readGlue_249 rfl rfl ?_
  refine w_iload dX35_readGlue_250 rfl ?_
  obtain ⟨h3, b4, hf⟩ := Option.bind_eq_some_iff.mp hf
  refine SX35_771 b4 dX35_readGlue_252 rfl ?_
  refine w_aload_n dX35_readGlue_255 rfl rfl ?_
  refine w_iload dX35_readGlue_256 rfl ?_
  refine w_if_ne 265 dX35_readGlue_258 (by decide) (fun c5 => ?_) (fun c5 => ?_)
  · replace hf := (if_pos (show ¬ l4 = 0 from c5)).symm.trans hf
    refine w_iload dX35_readGlue_265 rfl ?_
    exact (pX35_readGlue_b267 hd hdr hsE hsN hf).to ⟨rfl, rfl, trivial⟩
  · replace hf := (if_neg (show ¬ (¬ l4 = 0) from (fun z => z c5))).symm.trans hf
    refine w_iconst dX35_readGlue_261 (v := 0) (by decide) ?_
    refine w_goto 267 dX35_readGlue_262 (by decide) ?_
    exact (pX35_readGlue_b267 hd hdr hsE hsN hf).to ⟨rfl, rfl, trivial⟩
def fX35_readGlue_b203 (N : Nat) (sE : Nat → Int32 → eH → Option (Unit × eH)) (sN : Nat → eH → Option (Int32 × eH)) (l0 : Nat) (l3 : Int32) (l4 : Int32) (l5 : Int32) (l6 : Int32) (h : eH) : Option (Unit × eH) :=
  (g_I 34 h l0 46).bind fun x1 =>
  if ¬ x1 = 0 then
    fX35_readGlue_b244 N sE sN l0 l3 l4 l5 l6 h
  else
    (k_ok 34 h l0).bind fun _ =>
    (fX35_keyword N sE l0 1000000138 h).bind fun q5 =>
    if q5.1 = 0 then
      fX35_readGlue_b244 N sE sN l0 l3 l4 l5 l6 q5.2
    else
      (k_ok 34 q5.2 l0).bind fun _ =>
      (fX35_dimension N sE sN l0 q5.2).bind fun q8 =>
      (g_I 34 q8.2 l0 46).bind fun x9 =>
      if ¬ x9 = 0 then
        fX35_readGlue_b244 N sE sN l0 l3 l4 l5 q8.1 q8.2
      else
        if 0 ≤ q8.1 then
          fX35_readGlue_b244 N sE sN l0 l3 l4 l5 q8.1 q8.2
        else
          (k_ok 34 q8.2 l0).bind fun _ =>
          (fX35_fail l0 (7 : Int32) q8.2).bind fun q14 =>
          fX35_readGlue_b244 N sE sN l0 l3 l4 l5 q8.1 q14.2
theorem pX35_readGlue_b203 {w : eW} {d : Nat} {dr : Nat} (hd : dr + 11 ≤ d + 1) (hdr : 12 ≤ dr) {N : Nat} {sE : Nat → Int32 → eH → Option (Unit × eH)} {sN : Nat → eH → Option (Int32 × eH)} (hsE : ∀ a t0 h q, sE a t0 h = some q → wm w dr YX35_expand [.ref a, .int t0] h (e_is (e_rn c_V q))) (hsN : ∀ a h q, sN a h = some q → wm w dr YX35_number [.ref a] h (e_is (e_rn c_I q))) {l0 : Nat} {l3 : Int32} {l4 : Int32} {l5 : Int32} {l6 : Int32} {h : eH} {q} (hf : fX35_readGlue_b203 N sE sN l0 l3 l4 l5 l6 h = some q) : wp w (d + 1) YX35_readGlue 203 [some (.ref l0), none, none, some (.int l3), some (.int l4), some (.int l5), some (.int l6)] [] h (e_is (e_rn c_V q)) := by
  unfold fX35_readGlue_b203 at hf
  refine w_aload_n dX35_readGlue_203 rfl rfl ?_
  obtain ⟨x1, b2, hf⟩ := Option.bind_eq_some_iff.mp hf
  refine GX35_321 b2 dX35_readGlue_204 rfl ?_
  refine w_if_ne 244 dX35_readGlue_207 (by decide) (fun c3 => ?_) (fun c3 => ?_)
  · replace hf := (if_pos (show ¬ x1 = 0 from c3)).symm.trans hf
    exact (pX35_readGlue_b244 hd hdr hsE hsN hf).to ⟨rfl, rfl, rfl, rfl, rfl, trivial⟩
  · replace hf := (if_neg (show ¬ (¬ x1 = 0) from (fun z => z c3))).symm.trans hf
    refine w_aload_n dX35_readGlue_210 rfl rfl ?_
    refine x_ldcSw (k := 38) dX35_readGlue_211 rfl ?_
    obtain ⟨_, b4, hf⟩ := Option.bind_eq_some_iff.mp hf
    refine x_cnI hf (e_stV (Yc := YX35_keyword) (ci := 34) (av := [.ref 1000000138]) (st := []) dX35_readGlue_214 q5347 mX35_keyword rfl (k_ok_some b4).1 (k_ok_some b4).2) mX35_keyword.2.2.1 mX35_keyword.2.2.2.2.1 (Nat.le_of_ble_eq_true rfl) (Nat.le_of_ble_eq_true rfl) (fun q hq => pX35_keyword (by omega) hdr hsE hq) (fun q5 hf => ?_)
    refine w_if_eq 244 dX35_readGlue_217 (by decide) (fun c6 => ?_) (fun c6 => ?_)
    · replace hf := (if_pos (show q5.1 = 0 from c6)).symm.trans hf
      exact (pX35_readGlue_b244 hd hdr hsE hsN hf).to ⟨rfl, rfl, rfl, rfl, rfl, trivial⟩
    · replace hf := (if_neg (show ¬ (q5.1 = 0) from c6)).symm.trans hf
      refine w_aload_n dX35_readGlue_220 rfl rfl ?_
      obtain ⟨_, b7, hf⟩ := Option.bind_eq_some_iff.mp hf
      refine x_cnI hf (e_stV (Yc := YX35_dimension) (ci := 34) (av := []) (st := []) dX35_readGlue_221 q5333 mX35_dimension rfl (k_ok_some b7).1 (k_ok_some b7).2) mX35_dimension.2.2.1 mX35_dimension.2.2.2.2.1 (Nat.le_of_ble_eq_true rfl) (Nat.le_of_ble_eq_true rfl) (fun q hq => pX35_dimension (by omega) hdr hsE hsN hq) (fun q8 hf => ?_)
      refine w_istore dX35_readGlue_224 (by decide) (ls' := [some (.ref l0), none, none, some (.int l3), some (.int l4), some (.int l5), some (.int q8.1)]) rfl ?_
      refine w_aload_n dX35_readGlue_226 rfl rfl ?_
      obtain ⟨x9, b10, hf⟩ := Option.bind_eq_some_iff.mp hf
      refine GX35_321 b10 dX35_readGlue_227 rfl ?_
      refine w_if_ne 244 dX35_readGlue_230 (by decide) (fun c11 => ?_) (fun c11 => ?_)
      · replace hf := (if_pos (show ¬ x9 = 0 from c11)).symm.trans hf
        exact (pX35_readGlue_b244 hd hdr hsE hsN hf).to ⟨rfl, rfl, rfl, rfl, rfl, trivial⟩
      · replace hf := (if_neg (show ¬ (¬ x9 = 0) from (fun z => z c11))).symm.trans hf
        refine w_iload dX35_readGlue_233 rfl ?_
        refine w_if_ge 244 dX35_readGlue_235 (by decide) (fun c12 => ?_) (fun c12 => ?_)
        · replace hf := (if_pos (show 0 ≤ q8.1 from c12)).symm.trans hf
          exact (pX35_readGlue_b244 hd hdr hsE hsN hf).to ⟨rfl, rfl, rfl, rfl, rfl, trivial⟩
        · replace hf := (if_neg (show ¬ (0 ≤ q8.1) from c12)).symm.trans hf
          refine w_aload_n dX35_readGlue_238 rfl rfl ?_
          refine w_bipush dX35_readGlue_239 (v := 7) (by decide) ?_
          obtain ⟨_, b13, hf⟩ := Option.bind_eq_some_iff.mp hf
          refine x_cnV hf (e_stV (Yc := YX35_fail) (ci := 34) (av := [.int (7 : Int32)]) (st := []) dX35_readGlue_241 q5109 mX35_fail rfl (k_ok_some b13).1 (k_ok_some b13).2) mX35_fail.2.2.1 mX35_fail.2.2.2.2.1 (Nat.le_of_ble_eq_true rfl) (Nat.le_of_ble_eq_true rfl) (fun q hq => pX35_fail (by omega) hq) (fun q14 hf => ?_)
          exact (pX35_readGlue_b244 hd hdr hsE hsN hf).to ⟨rfl, rfl, rfl, rfl, rfl, trivial⟩
def fX35_readGlue_b126 (N : Nat) (sE : Nat → Int32 → eH → Option (Unit × eH)) (sN : Nat → eH → Option (Int32 × eH)) (l0 : Nat) (l1 : Int32) (l2 : Int32) (h : eH) : Option (Unit × eH) :=
  (k_ok 34 h l0).bind fun _ =>
  (fX35_sizeFrom N sE sN l0 l2 l1 (0 : Int32) h).bind fun q2 =>
  (g_I 34 q2.2 l0 46).bind fun x3 =>
  if ¬ x3 = 0 then
    fX35_readGlue_b203 N sE sN l0 q2.1 (0 : Int32) (0 : Int32) (0 : Int32) q2.2
  else
    (k_ok 34 q2.2 l0).bind fun _ =>
    (fX35_keyword N sE l0 1000000137 q2.2).bind fun q7 =>
    if q7.1 = 0 then
      fX35_readGlue_b203 N sE sN l0 q2.1 (0 : Int32) (0 : Int32) (0 : Int32) q7.2
    else
      (k_ok 34 q7.2 l0).bind fun _ =>
      (fX35_signs N sE l0 q7.2).bind fun q10 =>
      (g_I 34 q10.2 l0 121).bind fun x11 =>
      (g_I 34 q10.2 l0 122).bind fun x13 =>
      (k_ok 34 q10.2 l0).bind fun _ =>
      (fX35_sizeFrom N sE sN l0 x11 x13 (1 : Int32) q10.2).bind fun q16 =>
      (g_I 34 q16.2 l0 120).bind fun x17 =>
      (g_I 34 q16.2 l0 46).bind fun x19 =>
      if ¬ x19 = 0 then
        fX35_readGlue_b203 N sE sN l0 q2.1 q16.1 x17 (0 : Int32) q16.2
      else
        if 0 ≤ q16.1 then
          fX35_readGlue_b203 N sE sN l0 q2.1 q16.1 x17 (0 : Int32) q16.2
        else
          (k_ok 34 q16.2 l0).bind fun _ =>
          (fX35_fail l0 (7 : Int32) q16.2).bind fun q24 =>
          fX35_readGlue_b203 N sE sN l0 q2.1 q16.1 x17 (0 : Int32) q24.2
theorem pX35_readGlue_b126 {w : eW} {d : Nat} {dr : Nat} (hd : dr + 11 ≤ d + 1) (hdr : 12 ≤ dr) {N : Nat} {sE : Nat → Int32 → eH → Option (Unit × eH)} {sN : Nat → eH → Option (Int32 × eH)} (hsE : ∀ a t0 h q, sE a t0 h = some q → wm w dr YX35_expand [.ref a, .int t0] h (e_is (e_rn c_V q))) (hsN : ∀ a h q, sN a h = some q → wm w dr YX35_number [.ref a] h (e_is (e_rn c_I q))) {l0 : Nat} {l1 : Int32} {l2 : Int32} {h : eH} {q} (hf : fX35_readGlue_b126 N sE sN l0 l1 l2 h = some q) : wp w (d + 1) YX35_readGlue 126 [some (.ref l0), some (.int l1), some (.int l2), none, none, none, none] [] h (e_is (e_rn c_V q)) := by
  unfold fX35_readGlue_b126 at hf
  refine w_aload_n dX35_readGlue_126 rfl rfl ?_
  refine w_iload_n dX35_readGlue_127 rfl rfl ?_
  refine w_iload_n dX35_readGlue_128 rfl rfl ?_
  refine w_iconst dX35_readGlue_129 (v := 0) (by decide) ?_
  obtain ⟨_, b1, hf⟩ := Option.bind_eq_some_iff.mp hf
  refine x_cnI hf (e_stV (Yc := YX35_sizeFrom) (ci := 34) (av := [.int l2, .int l1, .int (0 : Int32)]) (st := []) dX35_readGlue_130 q5337 mX35_sizeFrom rfl (k_ok_some b1).1 (k_ok_some b1).2) mX35_sizeFrom.2.2.1 mX35_sizeFrom.2.2.2.2.1 (Nat.le_of_ble_eq_true rfl) (Nat.le_of_ble_eq_true rfl) (fun q hq => pX35_sizeFrom (by omega) hdr hsE hsN hq) (fun q2 hf => ?_)
  refine w_istore_n dX35_readGlue_133 rfl (by decide) (ls' := [some (.ref l0), some (.int l1), some (.int l2), some (.int q2.1), none, none, none]) rfl ?_
  refine w_iconst dX35_readGlue_134 (v := 0) (by decide) ?_
  refine w_istore dX35_readGlue_135 (by decide) (ls' := [some (.ref l0), some (.int l1), some (.int l2), some (.int q2.1), some (.int (0 : Int32)), none, none]) rfl ?_
  refine w_iconst dX35_readGlue_137 (v := 0) (by decide) ?_
  refine w_istore dX35_readGlue_138 (by decide) (ls' := [some (.ref l0), some (.int l1), some (.int l2), some (.int q2.1), some (.int (0 : Int32)), some (.int (0 : Int32)), none]) rfl ?_
  refine w_iconst dX35_readGlue_140 (v := 0) (by decide) ?_
  refine w_istore dX35_readGlue_141 (by decide) (ls' := [some (.ref l0), some (.int l1), some (.int l2), some (.int q2.1), some (.int (0 : Int32)), some (.int (0 : Int32)), some (.int (0 : Int32))]) rfl ?_
  refine w_aload_n dX35_readGlue_143 rfl rfl ?_
  obtain ⟨x3, b4, hf⟩ := Option.bind_eq_some_iff.mp hf
  refine GX35_321 b4 dX35_readGlue_144 rfl ?_
  refine w_if_ne 203 dX35_readGlue_147 (by decide) (fun c5 => ?_) (fun c5 => ?_)
  · replace hf := (if_pos (show ¬ x3 = 0 from c5)).symm.trans hf
    exact (pX35_readGlue_b203 hd hdr hsE hsN hf).to ⟨rfl, rfl, rfl, rfl, rfl, trivial⟩
  · replace hf := (if_neg (show ¬ (¬ x3 = 0) from (fun z => z c5))).symm.trans hf
    refine w_aload_n dX35_readGlue_150 rfl rfl ?_
    refine x_ldcSw (k := 37) dX35_readGlue_151 rfl ?_
    obtain ⟨_, b6, hf⟩ := Option.bind_eq_some_iff.mp hf
    refine x_cnI hf (e_stV (Yc := YX35_keyword) (ci := 34) (av := [.ref 1000000137]) (st := []) dX35_readGlue_154 q5347 mX35_keyword rfl (k_ok_some b6).1 (k_ok_some b6).2) mX35_keyword.2.2.1 mX35_keyword.2.2.2.2.1 (Nat.le_of_ble_eq_true rfl) (Nat.le_of_ble_eq_true rfl) (fun q hq => pX35_keyword (by omega) hdr hsE hq) (fun q7 hf => ?_)
    refine w_if_eq 203 dX35_readGlue_157 (by decide) (fun c8 => ?_) (fun c8 => ?_)
    · replace hf := (if_pos (show q7.1 = 0 from c8)).symm.trans hf
      exact (pX35_readGlue_b203 hd hdr hsE hsN hf).to ⟨rfl, rfl, rfl, rfl, rfl, trivial⟩
    · replace hf := (if_neg (show ¬ (q7.1 = 0) from c8)).symm.trans hf
      refine w_aload_n dX35_readGlue_160 rfl rfl ?_
      obtain ⟨_, b9, hf⟩ := Option.bind_eq_some_iff.mp hf
      refine x_cnV hf (e_stV (Yc := YX35_signs) (ci := 34) (av := []) (st := []) dX35_readGlue_161 q5225 mX35_signs rfl (k_ok_some b9).1 (k_ok_some b9).2) mX35_signs.2.2.1 mX35_signs.2.2.2.2.1 (Nat.le_of_ble_eq_true rfl) (Nat.le_of_ble_eq_true rfl) (fun q hq => pX35_signs (by omega) hdr hsE hq) (fun q10 hf => ?_)
      refine w_aload_n dX35_readGlue_164 rfl rfl ?_
      refine w_aload_n dX35_readGlue_165 rfl rfl ?_
      obtain ⟨x11, b12, hf⟩ := Option.bind_eq_some_iff.mp hf
      refine GX35_651 b12 dX35_readGlue_166 rfl ?_
      refine w_aload_n dX35_readGlue_169 rfl rfl ?_
      obtain ⟨x13, b14, hf⟩ := Option.bind_eq_some_iff.mp hf
      refine GX35_654 b14 dX35_readGlue_170 rfl ?_
      refine w_iconst dX35_readGlue_173 (v := 1) (by decide) ?_
      obtain ⟨_, b15, hf⟩ := Option.bind_eq_some_iff.mp hf
      refine x_cnI hf (e_stV (Yc := YX35_sizeFrom) (ci := 34) (av := [.int x11, .int x13, .int (1 : Int32)]) (st := []) dX35_readGlue_174 q5337 mX35_sizeFrom rfl (k_ok_some b15).1 (k_ok_some b15).2) mX35_sizeFrom.2.2.1 mX35_sizeFrom.2.2.2.2.1 (Nat.le_of_ble_eq_true rfl) (Nat.le_of_ble_eq_true rfl) (fun q hq => pX35_sizeFrom (by omega) hdr hsE hsN hq) (fun q16 hf => ?_)
      refine w_istore dX35_readGlue_177 (by decide) (ls' := [some (.ref l0), some (.int l1), some (.int l2), some (.int q2.1), some (.int q16.1), some (.int (0 : Int32)), some (.int (0 : Int32))]) rfl ?_
      refine w_aload_n dX35_readGlue_179 rfl rfl ?_
      obtain ⟨x17, b18, hf⟩ := Option.bind_eq_some_iff.mp hf
      refine GX35_757 b18 dX35_readGlue_180 rfl ?_
      refine w_istore dX35_readGlue_183 (by decide) (ls' := [some (.ref l0), some (.int l1), some (.int l2), some (.int q2.1), some (.int q16.1), some (.int x17), some (.int (0 : Int32))]) rfl ?_
      refine w_aload_n dX35_readGlue_185 rfl rfl ?_
      obtain ⟨x19, b20, hf⟩ := Option.bind_eq_some_iff.mp hf
      refine GX35_321 b20 dX35_readGlue_186 rfl ?_
      refine w_if_ne 203 dX35_readGlue_189 (by decide) (fun c21 => ?_) (fun c21 => ?_)
      · replace hf := (if_pos (show ¬ x19 = 0 from c21)).symm.trans hf
        exact (pX35_readGlue_b203 hd hdr hsE hsN hf).to ⟨rfl, rfl, rfl, rfl, rfl, trivial⟩
      · replace hf := (if_neg (show ¬ (¬ x19 = 0) from (fun z => z c21))).symm.trans hf
        refine w_iload dX35_readGlue_192 rfl ?_
        refine w_if_ge 203 dX35_readGlue_194 (by decide) (fun c22 => ?_) (fun c22 => ?_)
        · replace hf := (if_pos (show 0 ≤ q16.1 from c22)).symm.trans hf
          exact (pX35_readGlue_b203 hd hdr hsE hsN hf).to ⟨rfl, rfl, rfl, rfl, rfl, trivial⟩
        · replace hf := (if_neg (show ¬ (0 ≤ q16.1) from c22)).symm.trans hf
          refine w_aload_n dX35_readGlue_197 rfl rfl ?_
          refine w_bipush dX35_readGlue_198 (v := 7) (by decide) ?_
          obtain ⟨_, b23, hf⟩ := Option.bind_eq_some_iff.mp hf
          refine x_cnV hf (e_stV (Yc := YX35_fail) (ci := 34) (av := [.int (7 : Int32)]) (st := []) dX35_readGlue_200 q5109 mX35_fail rfl (k_ok_some b23).1 (k_ok_some b23).2) mX35_fail.2.2.1 mX35_fail.2.2.2.2.1 (Nat.le_of_ble_eq_true rfl) (Nat.le_of_ble_eq_true rfl) (fun q hq => pX35_fail (by omega) hq) (fun q24 hf => ?_)
          exact (pX35_readGlue_b203 hd hdr hsE hsN hf).to ⟨rfl, rfl, rfl, rfl, rfl, trivial⟩
def fX35_readGlue (N : Nat) (sE : Nat → Int32 → eH → Option (Unit × eH)) (sN : Nat → eH → Option (Int32 × eH)) (this : Nat) (h : eH) : Option (Unit × eH) :=
  (k_ok 34 h this).bind fun _ =>
  (fX35_signs N sE this h).bind fun q2 =>
  (g_I 34 q2.2 this 122).bind fun x3 =>
  (g_I 34 q2.2 this 121).bind fun x5 =>
  (g_I 34 q2.2 this 46).bind fun x7 =>
  if ¬ x7 = 0 then
    fX35_readGlue_b126 N sE sN this x3 x5 q2.2
  else
    (k_ok 34 q2.2 this).bind fun _ =>
    (fX35_hasGlue this x5 q2.2).bind fun q11 =>
    if q11.1 = 0 then
      fX35_readGlue_b126 N sE sN this x3 x5 q11.2
    else
      (k_ok 34 q11.2 this).bind fun _ =>
      (fX35_primitiveOf this x5 q11.2).bind fun q14 =>
      (k_ok 34 q14.2 this).bind fun _ =>
      (fX35_at sN this q14.1 q14.2).bind fun q16 =>
      if x3 = 0 then
        (k_ok 34 q16.2 this).bind fun _ =>
        (fX35_now this q16.1 q16.2).bind fun q19 =>
        fX35_readGlue_b58 N sE sN this x3 q16.1 this q19.1 q19.2
      else
        (k_ok 34 q16.2 this).bind fun _ =>
        (fX35_now this q16.1 q16.2).bind fun q21 =>
        fX35_readGlue_b58 N sE sN this x3 q16.1 this (-q21.1) q21.2
theorem pX35_readGlue {w : eW} {d : Nat} {dr : Nat} (hd : dr + 11 ≤ d) (hdr : 12 ≤ dr) {N : Nat} {sE : Nat → Int32 → eH → Option (Unit × eH)} {sN : Nat → eH → Option (Int32 × eH)} (hsE : ∀ a t0 h q, sE a t0 h = some q → wm w dr YX35_expand [.ref a, .int t0] h (e_is (e_rn c_V q))) (hsN : ∀ a h q, sN a h = some q → wm w dr YX35_number [.ref a] h (e_is (e_rn c_I q))) {this : Nat} {h : eH} {q} (hf : fX35_readGlue N sE sN this h = some q) : wm w d YX35_readGlue [.ref this] h (e_is (e_rn c_V q)) := by
  obtain ⟨d, rfl⟩ : ∃ e, d = e + 1 := ⟨d - 1, by omega⟩
  show wp w (d + 1) YX35_readGlue 0 [some (.ref this), none, none, none, none, none, none] [] h _
  unfold fX35_readGlue at hf
  refine w_aload_n dX35_readGlue_0 rfl rfl ?_
  obtain ⟨_, b1, hf⟩ := Option.bind_eq_some_iff.mp hf
  refine x_cnV hf (e_stV (Yc := YX35_signs) (ci := 34) (av := []) (st := []) dX35_readGlue_1 q5225 mX35_signs rfl (k_ok_some b1).1 (k_ok_some b1).2) mX35_signs.2.2.1 mX35_signs.2.2.2.2.1 (Nat.le_of_ble_eq_true rfl) (Nat.le_of_ble_eq_true rfl) (fun q hq => pX35_signs (by omega) hdr hsE hq) (fun q2 hf => ?_)
  refine w_aload_n dX35_readGlue_4 rfl rfl ?_
  obtain ⟨x3, b4, hf⟩ := Option.bind_eq_some_iff.mp hf
  refine GX35_654 b4 dX35_readGlue_5 rfl ?_
  refine w_istore_n dX35_readGlue_8 rfl (by decide) (ls' := [some (.ref this), some (.int x3), none, none, none, none, none]) rfl ?_
  refine w_aload_n dX35_readGlue_9 rfl rfl ?_
  obtain ⟨x5, b6, hf⟩ := Option.bind_eq_some_iff.mp hf
  refine GX35_651 b6 dX35_readGlue_10 rfl ?_
  refine w_istore_n dX35_readGlue_13 rfl (by decide) (ls' := [some (.ref this), some (.int x3), some (.int x5), none, none, none, none]) rfl ?_
  refine w_aload_n dX35_readGlue_14 rfl rfl ?_
  obtain ⟨x7, b8, hf⟩ := Option.bind_eq_some_iff.mp hf
  refine GX35_321 b8 dX35_readGlue_15 rfl ?_
  refine w_if_ne 126 dX35_readGlue_18 (by decide) (fun c9 => ?_) (fun c9 => ?_)
  · replace hf := (if_pos (show ¬ x7 = 0 from c9)).symm.trans hf
    exact (pX35_readGlue_b126 hd hdr hsE hsN hf).to ⟨rfl, rfl, rfl, trivial⟩
  · replace hf := (if_neg (show ¬ (¬ x7 = 0) from (fun z => z c9))).symm.trans hf
    refine w_aload_n dX35_readGlue_21 rfl rfl ?_
    refine w_iload_n dX35_readGlue_22 rfl rfl ?_
    obtain ⟨_, b10, hf⟩ := Option.bind_eq_some_iff.mp hf
    refine x_cnI hf (e_stV (Yc := YX35_hasGlue) (ci := 34) (av := [.int x5]) (st := []) dX35_readGlue_23 q5289 mX35_hasGlue rfl (k_ok_some b10).1 (k_ok_some b10).2) mX35_hasGlue.2.2.1 mX35_hasGlue.2.2.2.2.1 (Nat.le_of_ble_eq_true rfl) (Nat.le_of_ble_eq_true rfl) (fun q hq => pX35_hasGlue (by omega) hq) (fun q11 hf => ?_)
    refine w_if_eq 126 dX35_readGlue_26 (by decide) (fun c12 => ?_) (fun c12 => ?_)
    · replace hf := (if_pos (show q11.1 = 0 from c12)).symm.trans hf
      exact (pX35_readGlue_b126 hd hdr hsE hsN hf).to ⟨rfl, rfl, rfl, trivial⟩
    · replace hf := (if_neg (show ¬ (q11.1 = 0) from c12)).symm.trans hf
      refine w_aload_n dX35_readGlue_29 rfl rfl ?_
      refine w_aload_n dX35_readGlue_30 rfl rfl ?_
      refine w_iload_n dX35_readGlue_31 rfl rfl ?_
      obtain ⟨_, b13, hf⟩ := Option.bind_eq_some_iff.mp hf
      refine x_cnI hf (e_stV (Yc := YX35_primitiveOf) (ci := 34) (av := [.int x5]) (st := [.ref this]) dX35_readGlue_32 q5254 mX35_primitiveOf rfl (k_ok_some b13).1 (k_ok_some b13).2) mX35_primitiveOf.2.2.1 mX35_primitiveOf.2.2.2.2.1 (Nat.le_of_ble_eq_true rfl) (Nat.le_of_ble_eq_true rfl) (fun q hq => pX35_primitiveOf (by omega) hq) (fun q14 hf => ?_)
      obtain ⟨_, b15, hf⟩ := Option.bind_eq_some_iff.mp hf
      refine x_cnI hf (e_stV (Yc := YX35_at) (ci := 34) (av := [.int q14.1]) (st := []) dX35_readGlue_35 q5275 mX35_at rfl (k_ok_some b15).1 (k_ok_some b15).2) mX35_at.2.2.1 mX35_at.2.2.2.2.1 (Nat.le_of_ble_eq_true rfl) (Nat.le_of_ble_eq_true rfl) (fun q hq => pX35_at (by omega) hdr hsN hq) (fun q16 hf => ?_)
      refine w_istore_n dX35_readGlue_38 rfl (by decide) (ls' := [some (.ref this), some (.int x3), some (.int x5), some (.int q16.1), none, none, none]) rfl ?_
      refine w_aload_n dX35_readGlue_39 rfl rfl ?_
      refine w_iload_n dX35_readGlue_40 rfl rfl ?_
      refine w_if_eq 53 dX35_readGlue_41 (by decide) (fun c17 => ?_) (fun c17 => ?_)
      · replace hf := (if_pos (show x3 = 0 from c17)).symm.trans hf
        refine w_aload_n dX35_readGlue_53 rfl rfl ?_
        refine w_iload_n dX35_readGlue_54 rfl rfl ?_
        obtain ⟨_, b18, hf⟩ := Option.bind_eq_some_iff.mp hf
        refine x_cnI hf (e_stV (Yc := YX35_now) (ci := 34) (av := [.int q16.1]) (st := [.ref this]) dX35_readGlue_55 q5097 mX35_now rfl (k_ok_some b18).1 (k_ok_some b18).2) mX35_now.2.2.1 mX35_now.2.2.2.2.1 (Nat.le_of_ble_eq_true rfl) (Nat.le_of_ble_eq_true rfl) (fun q hq => pX35_now (by omega) hq) (fun q19 hf => ?_)
        exact (pX35_readGlue_b58 hd hdr hsE hsN hf).to ⟨rfl, rfl, rfl, trivial⟩
      · replace hf := (if_neg (show ¬ (x3 = 0) from c17)).symm.trans hf
        refine w_aload_n dX35_readGlue_44 rfl rfl ?_
        refine w_iload_n dX35_readGlue_45 rfl rfl ?_
        obtain ⟨_, b20, hf⟩ := Option.bind_eq_some_iff.mp hf
        refine x_cnI hf (e_stV (Yc := YX35_now) (ci := 34) (av := [.int q16.1]) (st := [.ref this]) dX35_readGlue_46 q5097 mX35_now rfl (k_ok_some b20).1 (k_ok_some b20).2) mX35_now.2.2.1 mX35_now.2.2.2.2.1 (Nat.le_of_ble_eq_true rfl) (Nat.le_of_ble_eq_true rfl) (fun q hq => pX35_now (by omega) hq) (fun q21 hf => ?_)
        refine w_ineg dX35_readGlue_49 ?_
        refine w_goto 58 dX35_readGlue_50 (by decide) ?_
        exact (pX35_readGlue_b58 hd hdr hsE hsN hf).to ⟨rfl, rfl, rfl, trivial⟩
abbrev cX35_skip : ByteArray := prog_37_method_179_code
def yX35_skip : MethodName := ⟨RX35, "skip", "()V"⟩
def YX35_skip : eY := (yX35_skip, cX35_skip, 1, none, [])
theorem mX35_skip : e_mv YX35_skip RX35 0 := ⟨q6011, qs416, q6012, by decide, by decide +kernel, (e_sig (by decide +kernel))⟩
theorem dX35_skip_0 : decode cX35_skip 0 = .ok (.aload_n 0, 1) := dc_42 (by decide +kernel)
theorem dX35_skip_1 : decode cX35_skip 1 = .ok (.invokevirtual 1212, 3) := dc_182 (a := 4) (b := 188) (n := 1212) (by decide +kernel)
theorem dX35_skip_4 : decode cX35_skip 4 = .ok (.aload_n 0, 1) := dc_42 (by decide +kernel)
theorem dX35_skip_5 : decode cX35_skip 5 = .ok (.getfield 321, 3) := dc_180 (a := 1) (b := 65) (n := 321) (by decide +kernel)
theorem dX35_skip_8 : decode cX35_skip 8 = .ok (.ifCond .ne 23, 3) := dc_154 (a := 0) (b := 23) (v := 23) (by decide +kernel)
theorem dX35_skip_11 : decode cX35_skip 11 = .ok (.aload_n 0, 1) := dc_42 (by decide +kernel)
theorem dX35_skip_12 : decode cX35_skip 12 = .ok (.aload_n 0, 1) := dc_42 (by decide +kernel)
theorem dX35_skip_13 : decode cX35_skip 13 = .ok (.getfield 768, 3) := dc_180 (a := 3) (b := 0) (n := 768) (by decide +kernel)
theorem dX35_skip_16 : decode cX35_skip 16 = .ok (.aload_n 0, 1) := dc_42 (by decide +kernel)
theorem dX35_skip_17 : decode cX35_skip 17 = .ok (.getfield 771, 3) := dc_180 (a := 3) (b := 3) (n := 771) (by decide +kernel)
theorem dX35_skip_20 : decode cX35_skip 20 = .ok (.aload_n 0, 1) := dc_42 (by decide +kernel)
theorem dX35_skip_21 : decode cX35_skip 21 = .ok (.getfield 774, 3) := dc_180 (a := 3) (b := 6) (n := 774) (by decide +kernel)
theorem dX35_skip_24 : decode cX35_skip 24 = .ok (.aload_n 0, 1) := dc_42 (by decide +kernel)
theorem dX35_skip_25 : decode cX35_skip 25 = .ok (.getfield 777, 3) := dc_180 (a := 3) (b := 9) (n := 777) (by decide +kernel)
theorem dX35_skip_28 : decode cX35_skip 28 = .ok (.invokevirtual 802, 3) := dc_182 (a := 3) (b := 34) (n := 802) (by decide +kernel)
theorem dX35_skip_31 : decode cX35_skip 31 = .ok (.return_, 1) := dc_177 (by decide +kernel)
theorem GX35_768 {w : eW} {d : Nat} {Y : eY} {pc : Nat} {ls : eL} {st : List Value} {h : eH} {Q : eO → eH → Prop} {a : Nat} {x : Int32} (hf : g_I 34 h a 114 = some x) (hd : decode Y.2.1 pc = .ok (.getfield 768, 3)) (hY : Y.1.cls = RX35) (kk : wp w d Y (pc + 3) ls (.int x :: st) h Q) : wp w d Y pc ls (.ref a :: st) h Q := x_gI (ci := 34) (k := 114) hf hd rfl (by decide) (by rw [hY]; exact q4615) kk
theorem GX35_774 {w : eW} {d : Nat} {Y : eY} {pc : Nat} {ls : eL} {st : List Value} {h : eH} {Q : eO → eH → Prop} {a : Nat} {x : Int32} (hf : g_I 34 h a 116 = some x) (hd : decode Y.2.1 pc = .ok (.getfield 774, 3)) (hY : Y.1.cls = RX35) (kk : wp w d Y (pc + 3) ls (.int x :: st) h Q) : wp w d Y pc ls (.ref a :: st) h Q := x_gI (ci := 34) (k := 116) hf hd rfl (by decide) (by rw [hY]; exact q4617) kk
def fX35_skip_b31 (N : Nat) (sE : Nat → Int32 → eH → Option (Unit × eH)) (sL : Nat → Int32 → Int64 → Int64 → eH → Option (Int32 × eH)) (sN : Nat → eH → Option (Int32 × eH))  (h : eH) : Option (Unit × eH) :=
  some ((), h)
theorem pX35_skip_b31 {w : eW} {d : Nat} {dr : Nat} (hd : dr + 12 ≤ d + 1) (hdr : 12 ≤ dr) {N : Nat} {sE : Nat → Int32 → eH → Option (Unit × eH)} {sL : Nat → Int32 → Int64 → Int64 → eH → Option (Int32 × eH)} {sN : Nat → eH → Option (Int32 × eH)} (hsE : ∀ a t0 h q, sE a t0 h = some q → wm w dr YX35_expand [.ref a, .int t0] h (e_is (e_rn c_V q))) (hsL : ∀ a t0 t1 t2 h q, sL a t0 t1 t2 h = some q → wm w dr YX35_layBox [.ref a, .int t0, .long t1, .long t2] h (e_is (e_rn c_I q))) (hsN : ∀ a h q, sN a h = some q → wm w dr YX35_number [.ref a] h (e_is (e_rn c_I q)))  {h : eH} {q} (hf : fX35_skip_b31 N sE sL sN h = some q) : wp w (d + 1) YX35_skip 31 [none] [] h (e_is (e_rn c_V q)) := by
  unfold fX35_skip_b31 at hf
  cases hf
  exact w_vret dX35_skip_31 rfl rfl
def fX35_skip (N : Nat) (sE : Nat → Int32 → eH → Option (Unit × eH)) (sL : Nat → Int32 → Int64 → Int64 → eH → Option (Int32 × eH)) (sN : Nat → eH → Option (Int32 × eH)) (this : Nat) (h : eH) : Option (Unit × eH) :=
  (k_ok 34 h this).bind fun _ =>
  (fX35_readGlue N sE sN this h).bind fun q2 =>
  (g_I 34 q2.2 this 46).bind fun x3 =>
  if ¬ x3 = 0 then
    fX35_skip_b31 N sE sL sN q2.2
  else
    (g_I 34 q2.2 this 114).bind fun x6 =>
    (g_I 34 q2.2 this 115).bind fun x8 =>
    (g_I 34 q2.2 this 116).bind fun x10 =>
    (g_I 34 q2.2 this 117).bind fun x12 =>
    (k_ok 34 q2.2 this).bind fun _ =>
    (fX35_glueItem N sL this x6 x8 x10 x12 q2.2).bind fun q15 =>
    fX35_skip_b31 N sE sL sN q15.2
theorem pX35_skip {w : eW} {d : Nat} {dr : Nat} (hd : dr + 12 ≤ d) (hdr : 12 ≤ dr) {N : Nat} {sE : Nat → Int32 → eH → Option (Unit × eH)} {sL : Nat → Int32 → Int64 → Int64 → eH → Option (Int32 × eH)} {sN : Nat → eH → Option (Int32 × eH)} (hsE : ∀ a t0 h q, sE a t0 h = some q → wm w dr YX35_expand [.ref a, .int t0] h (e_is (e_rn c_V q))) (hsL : ∀ a t0 t1 t2 h q, sL a t0 t1 t2 h = some q → wm w dr YX35_layBox [.ref a, .int t0, .long t1, .long t2] h (e_is (e_rn c_I q))) (hsN : ∀ a h q, sN a h = some q → wm w dr YX35_number [.ref a] h (e_is (e_rn c_I q))) {this : Nat} {h : eH} {q} (hf : fX35_skip N sE sL sN this h = some q) : wm w d YX35_skip [.ref this] h (e_is (e_rn c_V q)) := by
  obtain ⟨d, rfl⟩ : ∃ e, d = e + 1 := ⟨d - 1, by omega⟩
  show wp w (d + 1) YX35_skip 0 [some (.ref this)] [] h _
  unfold fX35_skip at hf
  refine w_aload_n dX35_skip_0 rfl rfl ?_
  obtain ⟨_, b1, hf⟩ := Option.bind_eq_some_iff.mp hf
  refine x_cnV hf (e_stV (Yc := YX35_readGlue) (ci := 34) (av := []) (st := []) dX35_skip_1 q5969 mX35_readGlue rfl (k_ok_some b1).1 (k_ok_some b1).2) mX35_readGlue.2.2.1 mX35_readGlue.2.2.2.2.1 (Nat.le_of_ble_eq_true rfl) (Nat.le_of_ble_eq_true rfl) (fun q hq => pX35_readGlue (by omega) hdr hsE hsN hq) (fun q2 hf => ?_)
  refine w_aload_n dX35_skip_4 rfl rfl ?_
  obtain ⟨x3, b4, hf⟩ := Option.bind_eq_some_iff.mp hf
  refine GX35_321 b4 dX35_skip_5 rfl ?_
  refine w_if_ne 31 dX35_skip_8 (by decide) (fun c5 => ?_) (fun c5 => ?_)
  · replace hf := (if_pos (show ¬ x3 = 0 from c5)).symm.trans hf
    exact (pX35_skip_b31 hd hdr hsE hsL hsN hf).to trivial
  · replace hf := (if_neg (show ¬ (¬ x3 = 0) from (fun z => z c5))).symm.trans hf
    refine w_aload_n dX35_skip_11 rfl rfl ?_
    refine w_aload_n dX35_skip_12 rfl rfl ?_
    obtain ⟨x6, b7, hf⟩ := Option.bind_eq_some_iff.mp hf
    refine GX35_768 b7 dX35_skip_13 rfl ?_
    refine w_aload_n dX35_skip_16 rfl rfl ?_
    obtain ⟨x8, b9, hf⟩ := Option.bind_eq_some_iff.mp hf
    refine GX35_771 b9 dX35_skip_17 rfl ?_
    refine w_aload_n dX35_skip_20 rfl rfl ?_
    obtain ⟨x10, b11, hf⟩ := Option.bind_eq_some_iff.mp hf
    refine GX35_774 b11 dX35_skip_21 rfl ?_
    refine w_aload_n dX35_skip_24 rfl rfl ?_
    obtain ⟨x12, b13, hf⟩ := Option.bind_eq_some_iff.mp hf
    refine GX35_777 b13 dX35_skip_25 rfl ?_
    obtain ⟨_, b14, hf⟩ := Option.bind_eq_some_iff.mp hf
    refine x_cnV hf (e_stV (Yc := YX35_glueItem) (ci := 34) (av := [.int x6, .int x8, .int x10, .int x12]) (st := []) dX35_skip_28 q5461 mX35_glueItem rfl (k_ok_some b14).1 (k_ok_some b14).2) mX35_glueItem.2.2.1 mX35_glueItem.2.2.2.2.1 (Nat.le_of_ble_eq_true rfl) (Nat.le_of_ble_eq_true rfl) (fun q hq => pX35_glueItem (by omega) hdr hsL hq) (fun q15 hf => ?_)
    exact (pX35_skip_b31 hd hdr hsE hsL hsN hf).to trivial
abbrev cX35_vertically : ByteArray := prog_37_method_174_code
def yX35_vertically : MethodName := ⟨RX35, "vertically", "()Z"⟩
def YX35_vertically : eY := (yX35_vertically, cX35_vertically, 1, (Option.some FieldType.boolean), [])
theorem mX35_vertically : e_mv YX35_vertically RX35 0 := ⟨q6015, qs417, q6016, by decide, by decide +kernel, (e_sig (by decide +kernel))⟩
theorem dX35_vertically_0 : decode cX35_vertically 0 = .ok (.aload_n 0, 1) := dc_42 (by decide +kernel)
theorem dX35_vertically_1 : decode cX35_vertically 1 = .ok (.invokevirtual 587, 3) := dc_182 (a := 2) (b := 75) (n := 587) (by decide +kernel)
theorem dX35_vertically_4 : decode cX35_vertically 4 = .ok (.iconst 3, 1) := dc_6 (by decide +kernel)
theorem dX35_vertically_5 : decode cX35_vertically 5 = .ok (.if_icmp .ne 12, 3) := dc_160 (a := 0) (b := 12) (v := 12) (by decide +kernel)
theorem dX35_vertically_8 : decode cX35_vertically 8 = .ok (.aload_n 0, 1) := dc_42 (by decide +kernel)
theorem dX35_vertically_9 : decode cX35_vertically 9 = .ok (.bipush 15, 2) := dc_16 (a := 15) (v := 15) (by decide +kernel)
theorem dX35_vertically_11 : decode cX35_vertically 11 = .ok (.invokevirtual 428, 3) := dc_182 (a := 1) (b := 172) (n := 428) (by decide +kernel)
theorem dX35_vertically_14 : decode cX35_vertically 14 = .ok (.goto 15, 3) := dc_167 (a := 0) (b := 15) (v := 15) (by decide +kernel)
theorem dX35_vertically_17 : decode cX35_vertically 17 = .ok (.aload_n 0, 1) := dc_42 (by decide +kernel)
theorem dX35_vertically_18 : decode cX35_vertically 18 = .ok (.invokevirtual 587, 3) := dc_182 (a := 2) (b := 75) (n := 587) (by decide +kernel)
theorem dX35_vertically_21 : decode cX35_vertically 21 = .ok (.iconst 2, 1) := dc_5 (by decide +kernel)
theorem dX35_vertically_22 : decode cX35_vertically 22 = .ok (.if_icmp .ne 7, 3) := dc_160 (a := 0) (b := 7) (v := 7) (by decide +kernel)
theorem dX35_vertically_25 : decode cX35_vertically 25 = .ok (.aload_n 0, 1) := dc_42 (by decide +kernel)
theorem dX35_vertically_26 : decode cX35_vertically 26 = .ok (.invokevirtual 1136, 3) := dc_182 (a := 4) (b := 112) (n := 1136) (by decide +kernel)
theorem dX35_vertically_29 : decode cX35_vertically 29 = .ok (.aload_n 0, 1) := dc_42 (by decide +kernel)
theorem dX35_vertically_30 : decode cX35_vertically 30 = .ok (.getfield 321, 3) := dc_180 (a := 1) (b := 65) (n := 321) (by decide +kernel)
theorem dX35_vertically_33 : decode cX35_vertically 33 = .ok (.ifCond .ne 7, 3) := dc_154 (a := 0) (b := 7) (v := 7) (by decide +kernel)
theorem dX35_vertically_36 : decode cX35_vertically 36 = .ok (.iconst 1, 1) := dc_4 (by decide +kernel)
theorem dX35_vertically_37 : decode cX35_vertically 37 = .ok (.goto 4, 3) := dc_167 (a := 0) (b := 4) (v := 4) (by decide +kernel)
theorem dX35_vertically_40 : decode cX35_vertically 40 = .ok (.iconst 0, 1) := dc_3 (by decide +kernel)
theorem dX35_vertically_41 : decode cX35_vertically 41 = .ok (.ireturn, 1) := dc_172 (by decide +kernel)
def fX35_vertically_b41 (N : Nat) (sL : Nat → Int32 → Int64 → Int64 → eH → Option (Int32 × eH)) (s0 : Int32) (h : eH) : Option (Int32 × eH) :=
  z_r s0 (s0, h)
theorem pX35_vertically_b41 {w : eW} {d : Nat} {dr : Nat} (hd : dr + 14 ≤ d + 1) (hdr : 12 ≤ dr) {N : Nat} {sL : Nat → Int32 → Int64 → Int64 → eH → Option (Int32 × eH)} (hsL : ∀ a t0 t1 t2 h q, sL a t0 t1 t2 h = some q → wm w dr YX35_layBox [.ref a, .int t0, .long t1, .long t2] h (e_is (e_rn c_I q))) {s0 : Int32} {h : eH} {q} (hf : fX35_vertically_b41 N sL s0 h = some q) : wp w (d + 1) YX35_vertically 41 [none] [.int s0] h (e_is (e_rn c_I q)) := by
  unfold fX35_vertically_b41 at hf
  obtain ⟨b1, rfl⟩ := z_r_some hf
  exact w_iret dX35_vertically_41 rfl b1 rfl
def fX35_vertically_b29 (N : Nat) (sL : Nat → Int32 → Int64 → Int64 → eH → Option (Int32 × eH)) (l0 : Nat) (h : eH) : Option (Int32 × eH) :=
  (g_I 34 h l0 46).bind fun x1 =>
  if ¬ x1 = 0 then
    fX35_vertically_b41 N sL (0 : Int32) h
  else
    fX35_vertically_b41 N sL (1 : Int32) h
theorem pX35_vertically_b29 {w : eW} {d : Nat} {dr : Nat} (hd : dr + 14 ≤ d + 1) (hdr : 12 ≤ dr) {N : Nat} {sL : Nat → Int32 → Int64 → Int64 → eH → Option (Int32 × eH)} (hsL : ∀ a t0 t1 t2 h q, sL a t0 t1 t2 h = some q → wm w dr YX35_layBox [.ref a, .int t0, .long t1, .long t2] h (e_is (e_rn c_I q))) {l0 : Nat} {h : eH} {q} (hf : fX35_vertically_b29 N sL l0 h = some q) : wp w (d + 1) YX35_vertically 29 [some (.ref l0)] [] h (e_is (e_rn c_I q)) := by
  unfold fX35_vertically_b29 at hf
  refine w_aload_n dX35_vertically_29 rfl rfl ?_
  obtain ⟨x1, b2, hf⟩ := Option.bind_eq_some_iff.mp hf
  refine GX35_321 b2 dX35_vertically_30 rfl ?_
  refine w_if_ne 40 dX35_vertically_33 (by decide) (fun c3 => ?_) (fun c3 => ?_)
  · replace hf := (if_pos (show ¬ x1 = 0 from c3)).symm.trans hf
    refine w_iconst dX35_vertically_40 (v := 0) (by decide) ?_
    exact (pX35_vertically_b41 hd hdr hsL hf).to trivial
  · replace hf := (if_neg (show ¬ (¬ x1 = 0) from (fun z => z c3))).symm.trans hf
    refine w_iconst dX35_vertically_36 (v := 1) (by decide) ?_
    refine w_goto 41 dX35_vertically_37 (by decide) ?_
    exact (pX35_vertically_b41 hd hdr hsL hf).to trivial
def fX35_vertically (N : Nat) (sL : Nat → Int32 → Int64 → Int64 → eH → Option (Int32 × eH)) (this : Nat) (h : eH) : Option (Int32 × eH) :=
  (k_ok 34 h this).bind fun _ =>
  (fX35_mode this h).bind fun q2 =>
  if ¬ q2.1 = (3 : Int32) then
    (k_ok 34 q2.2 this).bind fun _ =>
    (fX35_mode this q2.2).bind fun q5 =>
    if ¬ q5.1 = (2 : Int32) then
      fX35_vertically_b29 N sL this q5.2
    else
      (k_ok 34 q5.2 this).bind fun _ =>
      (fX35_endParagraph N sL this q5.2).bind fun q8 =>
      fX35_vertically_b29 N sL this q8.2
  else
    (k_ok 34 q2.2 this).bind fun _ =>
    (fX35_fail this (15 : Int32) q2.2).bind fun q10 =>
    fX35_vertically_b29 N sL this q10.2
theorem pX35_vertically {w : eW} {d : Nat} {dr : Nat} (hd : dr + 14 ≤ d) (hdr : 12 ≤ dr) {N : Nat} {sL : Nat → Int32 → Int64 → Int64 → eH → Option (Int32 × eH)} (hsL : ∀ a t0 t1 t2 h q, sL a t0 t1 t2 h = some q → wm w dr YX35_layBox [.ref a, .int t0, .long t1, .long t2] h (e_is (e_rn c_I q))) {this : Nat} {h : eH} {q} (hf : fX35_vertically N sL this h = some q) : wm w d YX35_vertically [.ref this] h (e_is (e_rn c_I q)) := by
  obtain ⟨d, rfl⟩ : ∃ e, d = e + 1 := ⟨d - 1, by omega⟩
  show wp w (d + 1) YX35_vertically 0 [some (.ref this)] [] h _
  unfold fX35_vertically at hf
  refine w_aload_n dX35_vertically_0 rfl rfl ?_
  obtain ⟨_, b1, hf⟩ := Option.bind_eq_some_iff.mp hf
  refine x_cnI hf (e_stV (Yc := YX35_mode) (ci := 34) (av := []) (st := []) dX35_vertically_1 q5417 mX35_mode rfl (k_ok_some b1).1 (k_ok_some b1).2) mX35_mode.2.2.1 mX35_mode.2.2.2.2.1 (Nat.le_of_ble_eq_true rfl) (Nat.le_of_ble_eq_true rfl) (fun q hq => pX35_mode (by omega) hq) (fun q2 hf => ?_)
  refine w_iconst dX35_vertically_4 (v := 3) (by decide) ?_
  refine w_icmp_ne 17 dX35_vertically_5 (by decide) (fun c3 => ?_) (fun c3 => ?_)
  · replace hf := (if_pos (show ¬ q2.1 = (3 : Int32) from c3)).symm.trans hf
    refine w_aload_n dX35_vertically_17 rfl rfl ?_
    obtain ⟨_, b4, hf⟩ := Option.bind_eq_some_iff.mp hf
    refine x_cnI hf (e_stV (Yc := YX35_mode) (ci := 34) (av := []) (st := []) dX35_vertically_18 q5417 mX35_mode rfl (k_ok_some b4).1 (k_ok_some b4).2) mX35_mode.2.2.1 mX35_mode.2.2.2.2.1 (Nat.le_of_ble_eq_true rfl) (Nat.le_of_ble_eq_true rfl) (fun q hq => pX35_mode (by omega) hq) (fun q5 hf => ?_)
    refine w_iconst dX35_vertically_21 (v := 2) (by decide) ?_
    refine w_icmp_ne 29 dX35_vertically_22 (by decide) (fun c6 => ?_) (fun c6 => ?_)
    · replace hf := (if_pos (show ¬ q5.1 = (2 : Int32) from c6)).symm.trans hf
      exact (pX35_vertically_b29 hd hdr hsL hf).to ⟨rfl, trivial⟩
    · replace hf := (if_neg (show ¬ (¬ q5.1 = (2 : Int32)) from (fun z => z c6))).symm.trans hf
      refine w_aload_n dX35_vertically_25 rfl rfl ?_
      obtain ⟨_, b7, hf⟩ := Option.bind_eq_some_iff.mp hf
      refine x_cnV hf (e_stV (Yc := YX35_endParagraph) (ci := 34) (av := []) (st := []) dX35_vertically_26 q5742 mX35_endParagraph rfl (k_ok_some b7).1 (k_ok_some b7).2) mX35_endParagraph.2.2.1 mX35_endParagraph.2.2.2.2.1 (Nat.le_of_ble_eq_true rfl) (Nat.le_of_ble_eq_true rfl) (fun q hq => pX35_endParagraph (by omega) hdr hsL hq) (fun q8 hf => ?_)
      exact (pX35_vertically_b29 hd hdr hsL hf).to ⟨rfl, trivial⟩
  · replace hf := (if_neg (show ¬ (¬ q2.1 = (3 : Int32)) from (fun z => z c3))).symm.trans hf
    refine w_aload_n dX35_vertically_8 rfl rfl ?_
    refine w_bipush dX35_vertically_9 (v := 15) (by decide) ?_
    obtain ⟨_, b9, hf⟩ := Option.bind_eq_some_iff.mp hf
    refine x_cnV hf (e_stV (Yc := YX35_fail) (ci := 34) (av := [.int (15 : Int32)]) (st := []) dX35_vertically_11 q5109 mX35_fail rfl (k_ok_some b9).1 (k_ok_some b9).2) mX35_fail.2.2.1 mX35_fail.2.2.2.2.1 (Nat.le_of_ble_eq_true rfl) (Nat.le_of_ble_eq_true rfl) (fun q hq => pX35_fail (by omega) hq) (fun q10 hf => ?_)
    refine w_goto 29 dX35_vertically_14 (by decide) ?_
    exact (pX35_vertically_b29 hd hdr hsL hf).to ⟨rfl, trivial⟩
abbrev cX35_kernItem : ByteArray := prog_37_method_110_code
def yX35_kernItem : MethodName := ⟨RX35, "kernItem", "(I)V"⟩
def YX35_kernItem : eY := (yX35_kernItem, cX35_kernItem, 2, none, [])
theorem mX35_kernItem : e_mv YX35_kernItem RX35 1 := ⟨q6019, qs418, q6020, by decide, by decide +kernel, (e_sig (by decide +kernel))⟩
theorem dX35_kernItem_0 : decode cX35_kernItem 0 = .ok (.aload_n 0, 1) := dc_42 (by decide +kernel)
theorem dX35_kernItem_1 : decode cX35_kernItem 1 = .ok (.invokevirtual 587, 3) := dc_182 (a := 2) (b := 75) (n := 587) (by decide +kernel)
theorem dX35_kernItem_4 : decode cX35_kernItem 4 = .ok (.ifCond .ne 17, 3) := dc_154 (a := 0) (b := 17) (v := 17) (by decide +kernel)
theorem dX35_kernItem_7 : decode cX35_kernItem 7 = .ok (.aload_n 0, 1) := dc_42 (by decide +kernel)
theorem dX35_kernItem_8 : decode cX35_kernItem 8 = .ok (.iconst 3, 1) := dc_6 (by decide +kernel)
theorem dX35_kernItem_9 : decode cX35_kernItem 9 = .ok (.iload_n 1, 1) := dc_27 (by decide +kernel)
theorem dX35_kernItem_10 : decode cX35_kernItem 10 = .ok (.iconst 0, 1) := dc_3 (by decide +kernel)
theorem dX35_kernItem_11 : decode cX35_kernItem 11 = .ok (.iconst 0, 1) := dc_3 (by decide +kernel)
theorem dX35_kernItem_12 : decode cX35_kernItem 12 = .ok (.iconst 0, 1) := dc_3 (by decide +kernel)
theorem dX35_kernItem_13 : decode cX35_kernItem 13 = .ok (.iconst (-1), 1) := dc_2 (by decide +kernel)
theorem dX35_kernItem_14 : decode cX35_kernItem 14 = .ok (.iconst 0, 1) := dc_3 (by decide +kernel)
theorem dX35_kernItem_15 : decode cX35_kernItem 15 = .ok (.invokevirtual 794, 3) := dc_182 (a := 3) (b := 26) (n := 794) (by decide +kernel)
theorem dX35_kernItem_18 : decode cX35_kernItem 18 = .ok (.goto 13, 3) := dc_167 (a := 0) (b := 13) (v := 13) (by decide +kernel)
theorem dX35_kernItem_21 : decode cX35_kernItem 21 = .ok (.aload_n 0, 1) := dc_42 (by decide +kernel)
theorem dX35_kernItem_22 : decode cX35_kernItem 22 = .ok (.iconst 3, 1) := dc_6 (by decide +kernel)
theorem dX35_kernItem_23 : decode cX35_kernItem 23 = .ok (.iload_n 1, 1) := dc_27 (by decide +kernel)
theorem dX35_kernItem_24 : decode cX35_kernItem 24 = .ok (.iconst 1, 1) := dc_4 (by decide +kernel)
theorem dX35_kernItem_25 : decode cX35_kernItem 25 = .ok (.iconst 0, 1) := dc_3 (by decide +kernel)
theorem dX35_kernItem_26 : decode cX35_kernItem 26 = .ok (.iconst 0, 1) := dc_3 (by decide +kernel)
theorem dX35_kernItem_27 : decode cX35_kernItem 27 = .ok (.iconst 0, 1) := dc_3 (by decide +kernel)
theorem dX35_kernItem_28 : decode cX35_kernItem 28 = .ok (.invokevirtual 798, 3) := dc_182 (a := 3) (b := 30) (n := 798) (by decide +kernel)
theorem dX35_kernItem_31 : decode cX35_kernItem 31 = .ok (.return_, 1) := dc_177 (by decide +kernel)
def fX35_kernItem_b31 (N : Nat) (sL : Nat → Int32 → Int64 → Int64 → eH → Option (Int32 × eH))  (h : eH) : Option (Unit × eH) :=
  some ((), h)
theorem pX35_kernItem_b31 {w : eW} {d : Nat} {dr : Nat} (hd : dr + 9 ≤ d + 1) (hdr : 12 ≤ dr) {N : Nat} {sL : Nat → Int32 → Int64 → Int64 → eH → Option (Int32 × eH)} (hsL : ∀ a t0 t1 t2 h q, sL a t0 t1 t2 h = some q → wm w dr YX35_layBox [.ref a, .int t0, .long t1, .long t2] h (e_is (e_rn c_I q)))  {h : eH} {q} (hf : fX35_kernItem_b31 N sL h = some q) : wp w (d + 1) YX35_kernItem 31 [none, none] [] h (e_is (e_rn c_V q)) := by
  unfold fX35_kernItem_b31 at hf
  cases hf
  exact w_vret dX35_kernItem_31 rfl rfl
def fX35_kernItem (N : Nat) (sL : Nat → Int32 → Int64 → Int64 → eH → Option (Int32 × eH)) (this : Nat) (p0 : Int32) (h : eH) : Option (Unit × eH) :=
  (k_ok 34 h this).bind fun _ =>
  (fX35_mode this h).bind fun q2 =>
  if ¬ q2.1 = 0 then
    (k_ok 34 q2.2 this).bind fun _ =>
    (fX35_item N this (3 : Int32) p0 (1 : Int32) (0 : Int32) (0 : Int32) (0 : Int32) q2.2).bind fun q5 =>
    fX35_kernItem_b31 N sL q5.2
  else
    (k_ok 34 q2.2 this).bind fun _ =>
    (fX35_outer N sL this (3 : Int32) p0 (0 : Int32) (0 : Int32) (0 : Int32) (-1 : Int32) (0 : Int32) q2.2).bind fun q7 =>
    fX35_kernItem_b31 N sL q7.2
theorem pX35_kernItem {w : eW} {d : Nat} {dr : Nat} (hd : dr + 9 ≤ d) (hdr : 12 ≤ dr) {N : Nat} {sL : Nat → Int32 → Int64 → Int64 → eH → Option (Int32 × eH)} (hsL : ∀ a t0 t1 t2 h q, sL a t0 t1 t2 h = some q → wm w dr YX35_layBox [.ref a, .int t0, .long t1, .long t2] h (e_is (e_rn c_I q))) {this : Nat} {p0 : Int32} {h : eH} {q} (hf : fX35_kernItem N sL this p0 h = some q) : wm w d YX35_kernItem [.ref this, .int p0] h (e_is (e_rn c_V q)) := by
  obtain ⟨d, rfl⟩ : ∃ e, d = e + 1 := ⟨d - 1, by omega⟩
  show wp w (d + 1) YX35_kernItem 0 [some (.ref this), some (.int p0)] [] h _
  unfold fX35_kernItem at hf
  refine w_aload_n dX35_kernItem_0 rfl rfl ?_
  obtain ⟨_, b1, hf⟩ := Option.bind_eq_some_iff.mp hf
  refine x_cnI hf (e_stV (Yc := YX35_mode) (ci := 34) (av := []) (st := []) dX35_kernItem_1 q5417 mX35_mode rfl (k_ok_some b1).1 (k_ok_some b1).2) mX35_mode.2.2.1 mX35_mode.2.2.2.2.1 (Nat.le_of_ble_eq_true rfl) (Nat.le_of_ble_eq_true rfl) (fun q hq => pX35_mode (by omega) hq) (fun q2 hf => ?_)
  refine w_if_ne 21 dX35_kernItem_4 (by decide) (fun c3 => ?_) (fun c3 => ?_)
  · replace hf := (if_pos (show ¬ q2.1 = 0 from c3)).symm.trans hf
    refine w_aload_n dX35_kernItem_21 rfl rfl ?_
    refine w_iconst dX35_kernItem_22 (v := 3) (by decide) ?_
    refine w_iload_n dX35_kernItem_23 rfl rfl ?_
    refine w_iconst dX35_kernItem_24 (v := 1) (by decide) ?_
    refine w_iconst dX35_kernItem_25 (v := 0) (by decide) ?_
    refine w_iconst dX35_kernItem_26 (v := 0) (by decide) ?_
    refine w_iconst dX35_kernItem_27 (v := 0) (by decide) ?_
    obtain ⟨_, b4, hf⟩ := Option.bind_eq_some_iff.mp hf
    refine x_cnV hf (e_stV (Yc := YX35_item) (ci := 34) (av := [.int (3 : Int32), .int p0, .int (1 : Int32), .int (0 : Int32), .int (0 : Int32), .int (0 : Int32)]) (st := []) dX35_kernItem_28 q5643 mX35_item rfl (k_ok_some b4).1 (k_ok_some b4).2) mX35_item.2.2.1 mX35_item.2.2.2.2.1 (Nat.le_of_ble_eq_true rfl) (Nat.le_of_ble_eq_true rfl) (fun q hq => pX35_item (by omega) hq) (fun q5 hf => ?_)
    exact (pX35_kernItem_b31 hd hdr hsL hf).to trivial
  · replace hf := (if_neg (show ¬ (¬ q2.1 = 0) from (fun z => z c3))).symm.trans hf
    refine w_aload_n dX35_kernItem_7 rfl rfl ?_
    refine w_iconst dX35_kernItem_8 (v := 3) (by decide) ?_
    refine w_iload_n dX35_kernItem_9 rfl rfl ?_
    refine w_iconst dX35_kernItem_10 (v := 0) (by decide) ?_
    refine w_iconst dX35_kernItem_11 (v := 0) (by decide) ?_
    refine w_iconst dX35_kernItem_12 (v := 0) (by decide) ?_
    refine w_iconst dX35_kernItem_13 (v := -1) (by decide) ?_
    refine w_iconst dX35_kernItem_14 (v := 0) (by decide) ?_
    obtain ⟨_, b6, hf⟩ := Option.bind_eq_some_iff.mp hf
    refine x_cnV hf (e_stV (Yc := YX35_outer) (ci := 34) (av := [.int (3 : Int32), .int p0, .int (0 : Int32), .int (0 : Int32), .int (0 : Int32), .int (-1 : Int32), .int (0 : Int32)]) (st := []) dX35_kernItem_15 q5465 mX35_outer rfl (k_ok_some b6).1 (k_ok_some b6).2) mX35_outer.2.2.1 mX35_outer.2.2.2.2.1 (Nat.le_of_ble_eq_true rfl) (Nat.le_of_ble_eq_true rfl) (fun q hq => pX35_outer (by omega) hdr hsL hq) (fun q7 hf => ?_)
    refine w_goto 31 dX35_kernItem_18 (by decide) ?_
    exact (pX35_kernItem_b31 hd hdr hsL hf).to trivial
abbrev cX35_ruleItem : ByteArray := prog_37_method_114_code
def yX35_ruleItem : MethodName := ⟨RX35, "ruleItem", "(III)V"⟩
def YX35_ruleItem : eY := (yX35_ruleItem, cX35_ruleItem, 4, none, [])
theorem mX35_ruleItem : e_mv YX35_ruleItem RX35 3 := ⟨q6030, qs420, q6031, by decide, by decide +kernel, (e_sig (by decide +kernel))⟩
theorem dX35_ruleItem_0 : decode cX35_ruleItem 0 = .ok (.aload_n 0, 1) := dc_42 (by decide +kernel)
theorem dX35_ruleItem_1 : decode cX35_ruleItem 1 = .ok (.invokevirtual 587, 3) := dc_182 (a := 2) (b := 75) (n := 587) (by decide +kernel)
theorem dX35_ruleItem_4 : decode cX35_ruleItem 4 = .ok (.ifCond .ne 39, 3) := dc_154 (a := 0) (b := 39) (v := 39) (by decide +kernel)
theorem dX35_ruleItem_7 : decode cX35_ruleItem 7 = .ok (.aload_n 0, 1) := dc_42 (by decide +kernel)
theorem dX35_ruleItem_8 : decode cX35_ruleItem 8 = .ok (.iconst 5, 1) := dc_8 (by decide +kernel)
theorem dX35_ruleItem_9 : decode cX35_ruleItem 9 = .ok (.iconst 0, 1) := dc_3 (by decide +kernel)
theorem dX35_ruleItem_10 : decode cX35_ruleItem 10 = .ok (.iload_n 2, 1) := dc_28 (by decide +kernel)
theorem dX35_ruleItem_11 : decode cX35_ruleItem 11 = .ok (.ldc_w 816, 3) := dc_19 (a := 3) (b := 48) (n := 816) (by decide +kernel)
theorem dX35_ruleItem_14 : decode cX35_ruleItem 14 = .ok (.if_icmp .ne 7, 3) := dc_160 (a := 0) (b := 7) (v := 7) (by decide +kernel)
theorem dX35_ruleItem_17 : decode cX35_ruleItem 17 = .ok (.iconst 0, 1) := dc_3 (by decide +kernel)
theorem dX35_ruleItem_18 : decode cX35_ruleItem 18 = .ok (.goto 4, 3) := dc_167 (a := 0) (b := 4) (v := 4) (by decide +kernel)
theorem dX35_ruleItem_21 : decode cX35_ruleItem 21 = .ok (.iload_n 2, 1) := dc_28 (by decide +kernel)
theorem dX35_ruleItem_22 : decode cX35_ruleItem 22 = .ok (.iload_n 3, 1) := dc_29 (by decide +kernel)
theorem dX35_ruleItem_23 : decode cX35_ruleItem 23 = .ok (.ldc_w 816, 3) := dc_19 (a := 3) (b := 48) (n := 816) (by decide +kernel)
theorem dX35_ruleItem_26 : decode cX35_ruleItem 26 = .ok (.if_icmp .ne 7, 3) := dc_160 (a := 0) (b := 7) (v := 7) (by decide +kernel)
theorem dX35_ruleItem_29 : decode cX35_ruleItem 29 = .ok (.iconst 0, 1) := dc_3 (by decide +kernel)
theorem dX35_ruleItem_30 : decode cX35_ruleItem 30 = .ok (.goto 4, 3) := dc_167 (a := 0) (b := 4) (v := 4) (by decide +kernel)
theorem dX35_ruleItem_33 : decode cX35_ruleItem 33 = .ok (.iload_n 3, 1) := dc_29 (by decide +kernel)
theorem dX35_ruleItem_34 : decode cX35_ruleItem 34 = .ok (.iconst 0, 1) := dc_3 (by decide +kernel)
theorem dX35_ruleItem_35 : decode cX35_ruleItem 35 = .ok (.iconst (-1), 1) := dc_2 (by decide +kernel)
theorem dX35_ruleItem_36 : decode cX35_ruleItem 36 = .ok (.iload_n 1, 1) := dc_27 (by decide +kernel)
theorem dX35_ruleItem_37 : decode cX35_ruleItem 37 = .ok (.invokevirtual 794, 3) := dc_182 (a := 3) (b := 26) (n := 794) (by decide +kernel)
theorem dX35_ruleItem_40 : decode cX35_ruleItem 40 = .ok (.goto 13, 3) := dc_167 (a := 0) (b := 13) (v := 13) (by decide +kernel)
theorem dX35_ruleItem_43 : decode cX35_ruleItem 43 = .ok (.aload_n 0, 1) := dc_42 (by decide +kernel)
theorem dX35_ruleItem_44 : decode cX35_ruleItem 44 = .ok (.iconst 1, 1) := dc_4 (by decide +kernel)
theorem dX35_ruleItem_45 : decode cX35_ruleItem 45 = .ok (.iload_n 1, 1) := dc_27 (by decide +kernel)
theorem dX35_ruleItem_46 : decode cX35_ruleItem 46 = .ok (.iload_n 2, 1) := dc_28 (by decide +kernel)
theorem dX35_ruleItem_47 : decode cX35_ruleItem 47 = .ok (.iload_n 3, 1) := dc_29 (by decide +kernel)
theorem dX35_ruleItem_48 : decode cX35_ruleItem 48 = .ok (.iconst 0, 1) := dc_3 (by decide +kernel)
theorem dX35_ruleItem_49 : decode cX35_ruleItem 49 = .ok (.iconst 0, 1) := dc_3 (by decide +kernel)
theorem dX35_ruleItem_50 : decode cX35_ruleItem 50 = .ok (.invokevirtual 798, 3) := dc_182 (a := 3) (b := 30) (n := 798) (by decide +kernel)
theorem dX35_ruleItem_53 : decode cX35_ruleItem 53 = .ok (.aload_n 0, 1) := dc_42 (by decide +kernel)
theorem dX35_ruleItem_54 : decode cX35_ruleItem 54 = .ok (.invokevirtual 810, 3) := dc_182 (a := 3) (b := 42) (n := 810) (by decide +kernel)
theorem dX35_ruleItem_57 : decode cX35_ruleItem 57 = .ok (.ifCond .eq 17, 3) := dc_153 (a := 0) (b := 17) (v := 17) (by decide +kernel)
theorem dX35_ruleItem_60 : decode cX35_ruleItem 60 = .ok (.aload_n 0, 1) := dc_42 (by decide +kernel)
theorem dX35_ruleItem_61 : decode cX35_ruleItem 61 = .ok (.getfield 133, 3) := dc_180 (a := 0) (b := 133) (n := 133) (by decide +kernel)
theorem dX35_ruleItem_64 : decode cX35_ruleItem 64 = .ok (.aload_n 0, 1) := dc_42 (by decide +kernel)
theorem dX35_ruleItem_65 : decode cX35_ruleItem 65 = .ok (.getfield 366, 3) := dc_180 (a := 1) (b := 110) (n := 366) (by decide +kernel)
theorem dX35_ruleItem_68 : decode cX35_ruleItem 68 = .ok (.iconst 1, 1) := dc_4 (by decide +kernel)
theorem dX35_ruleItem_69 : decode cX35_ruleItem 69 = .ok (.isub, 1) := dc_100 (by decide +kernel)
theorem dX35_ruleItem_70 : decode cX35_ruleItem 70 = .ok (.ldc_w 369, 3) := dc_19 (a := 1) (b := 113) (n := 369) (by decide +kernel)
theorem dX35_ruleItem_73 : decode cX35_ruleItem 73 = .ok (.iastore, 1) := dc_79 (by decide +kernel)
theorem dX35_ruleItem_74 : decode cX35_ruleItem 74 = .ok (.return_, 1) := dc_177 (by decide +kernel)
def fX35_ruleItem_b74 (N : Nat) (sL : Nat → Int32 → Int64 → Int64 → eH → Option (Int32 × eH))  (h : eH) : Option (Unit × eH) :=
  some ((), h)
theorem pX35_ruleItem_b74 {w : eW} {d : Nat} {dr : Nat} (hd : dr + 9 ≤ d + 1) (hdr : 12 ≤ dr) {N : Nat} {sL : Nat → Int32 → Int64 → Int64 → eH → Option (Int32 × eH)} (hsL : ∀ a t0 t1 t2 h q, sL a t0 t1 t2 h = some q → wm w dr YX35_layBox [.ref a, .int t0, .long t1, .long t2] h (e_is (e_rn c_I q)))  {h : eH} {q} (hf : fX35_ruleItem_b74 N sL h = some q) : wp w (d + 1) YX35_ruleItem 74 [none, none, none, none] [] h (e_is (e_rn c_V q)) := by
  unfold fX35_ruleItem_b74 at hf
  cases hf
  exact w_vret dX35_ruleItem_74 rfl rfl
def fX35_ruleItem_b53 (N : Nat) (sL : Nat → Int32 → Int64 → Int64 → eH → Option (Int32 × eH)) (l0 : Nat) (h : eH) : Option (Unit × eH) :=
  (k_ok 34 h l0).bind fun _ =>
  (fX35_isVertical l0 h).bind fun q2 =>
  if q2.1 = 0 then
    fX35_ruleItem_b74 N sL q2.2
  else
    (g_A 34 q2.2 l0 54).bind fun a4 =>
    (g_I 34 q2.2 l0 51).bind fun x6 =>
    (q_V 100 q2.2 a4 (x6 - (1 : Int32)) (.int (-2147483647 : Int32))).bind fun h8 =>
    fX35_ruleItem_b74 N sL h8
theorem pX35_ruleItem_b53 {w : eW} {d : Nat} {dr : Nat} (hd : dr + 9 ≤ d + 1) (hdr : 12 ≤ dr) {N : Nat} {sL : Nat → Int32 → Int64 → Int64 → eH → Option (Int32 × eH)} (hsL : ∀ a t0 t1 t2 h q, sL a t0 t1 t2 h = some q → wm w dr YX35_layBox [.ref a, .int t0, .long t1, .long t2] h (e_is (e_rn c_I q))) {l0 : Nat} {h : eH} {q} (hf : fX35_ruleItem_b53 N sL l0 h = some q) : wp w (d + 1) YX35_ruleItem 53 [some (.ref l0), none, none, none] [] h (e_is (e_rn c_V q)) := by
  unfold fX35_ruleItem_b53 at hf
  refine w_aload_n dX35_ruleItem_53 rfl rfl ?_
  obtain ⟨_, b1, hf⟩ := Option.bind_eq_some_iff.mp hf
  refine x_cnI hf (e_stV (Yc := YX35_isVertical) (ci := 34) (av := []) (st := []) dX35_ruleItem_54 q5449 mX35_isVertical rfl (k_ok_some b1).1 (k_ok_some b1).2) mX35_isVertical.2.2.1 mX35_isVertical.2.2.2.2.1 (Nat.le_of_ble_eq_true rfl) (Nat.le_of_ble_eq_true rfl) (fun q hq => pX35_isVertical (by omega) hq) (fun q2 hf => ?_)
  refine w_if_eq 74 dX35_ruleItem_57 (by decide) (fun c3 => ?_) (fun c3 => ?_)
  · replace hf := (if_pos (show q2.1 = 0 from c3)).symm.trans hf
    exact (pX35_ruleItem_b74 hd hdr hsL hf).to trivial
  · replace hf := (if_neg (show ¬ (q2.1 = 0) from c3)).symm.trans hf
    refine w_aload_n dX35_ruleItem_60 rfl rfl ?_
    obtain ⟨a4, b5, hf⟩ := Option.bind_eq_some_iff.mp hf
    refine GX35_133 b5 dX35_ruleItem_61 rfl ?_
    refine w_aload_n dX35_ruleItem_64 rfl rfl ?_
    obtain ⟨x6, b7, hf⟩ := Option.bind_eq_some_iff.mp hf
    refine GX35_366 b7 dX35_ruleItem_65 rfl ?_
    refine w_iconst dX35_ruleItem_68 (v := 1) (by decide) ?_
    refine w_isub dX35_ruleItem_69 ?_
    refine w_ldc_w dX35_ruleItem_70 q4478 ?_
    obtain ⟨h8, b9, hf⟩ := Option.bind_eq_some_iff.mp hf
    refine x_qI b9 dX35_ruleItem_73 ?_
    exact (pX35_ruleItem_b74 hd hdr hsL hf).to trivial
def fX35_ruleItem_b34 (N : Nat) (sL : Nat → Int32 → Int64 → Int64 → eH → Option (Int32 × eH)) (l0 : Nat) (l1 : Int32) (s0 : Nat) (s1 : Int32) (s2 : Int32) (s3 : Int32) (s4 : Int32) (h : eH) : Option (Unit × eH) :=
  (k_ok 34 h s0).bind fun _ =>
  (fX35_outer N sL s0 s1 s2 s3 s4 (0 : Int32) (-1 : Int32) l1 h).bind fun q2 =>
  fX35_ruleItem_b53 N sL l0 q2.2
theorem pX35_ruleItem_b34 {w : eW} {d : Nat} {dr : Nat} (hd : dr + 9 ≤ d + 1) (hdr : 12 ≤ dr) {N : Nat} {sL : Nat → Int32 → Int64 → Int64 → eH → Option (Int32 × eH)} (hsL : ∀ a t0 t1 t2 h q, sL a t0 t1 t2 h = some q → wm w dr YX35_layBox [.ref a, .int t0, .long t1, .long t2] h (e_is (e_rn c_I q))) {l0 : Nat} {l1 : Int32} {s0 : Nat} {s1 : Int32} {s2 : Int32} {s3 : Int32} {s4 : Int32} {h : eH} {q} (hf : fX35_ruleItem_b34 N sL l0 l1 s0 s1 s2 s3 s4 h = some q) : wp w (d + 1) YX35_ruleItem 34 [some (.ref l0), some (.int l1), none, none] [.int s4, .int s3, .int s2, .int s1, .ref s0] h (e_is (e_rn c_V q)) := by
  unfold fX35_ruleItem_b34 at hf
  refine w_iconst dX35_ruleItem_34 (v := 0) (by decide) ?_
  refine w_iconst dX35_ruleItem_35 (v := -1) (by decide) ?_
  refine w_iload_n dX35_ruleItem_36 rfl rfl ?_
  obtain ⟨_, b1, hf⟩ := Option.bind_eq_some_iff.mp hf
  refine x_cnV hf (e_stV (Yc := YX35_outer) (ci := 34) (av := [.int s1, .int s2, .int s3, .int s4, .int (0 : Int32), .int (-1 : Int32), .int l1]) (st := []) dX35_ruleItem_37 q5465 mX35_outer rfl (k_ok_some b1).1 (k_ok_some b1).2) mX35_outer.2.2.1 mX35_outer.2.2.2.2.1 (Nat.le_of_ble_eq_true rfl) (Nat.le_of_ble_eq_true rfl) (fun q hq => pX35_outer (by omega) hdr hsL hq) (fun q2 hf => ?_)
  refine w_goto 53 dX35_ruleItem_40 (by decide) ?_
  exact (pX35_ruleItem_b53 hd hdr hsL hf).to ⟨rfl, trivial⟩
def fX35_ruleItem_b22 (N : Nat) (sL : Nat → Int32 → Int64 → Int64 → eH → Option (Int32 × eH)) (l0 : Nat) (l1 : Int32) (l3 : Int32) (s0 : Nat) (s1 : Int32) (s2 : Int32) (s3 : Int32) (h : eH) : Option (Unit × eH) :=
  if ¬ l3 = (-1073741824 : Int32) then
    fX35_ruleItem_b34 N sL l0 l1 s0 s1 s2 s3 l3 h
  else
    fX35_ruleItem_b34 N sL l0 l1 s0 s1 s2 s3 (0 : Int32) h
theorem pX35_ruleItem_b22 {w : eW} {d : Nat} {dr : Nat} (hd : dr + 9 ≤ d + 1) (hdr : 12 ≤ dr) {N : Nat} {sL : Nat → Int32 → Int64 → Int64 → eH → Option (Int32 × eH)} (hsL : ∀ a t0 t1 t2 h q, sL a t0 t1 t2 h = some q → wm w dr YX35_layBox [.ref a, .int t0, .long t1, .long t2] h (e_is (e_rn c_I q))) {l0 : Nat} {l1 : Int32} {l3 : Int32} {s0 : Nat} {s1 : Int32} {s2 : Int32} {s3 : Int32} {h : eH} {q} (hf : fX35_ruleItem_b22 N sL l0 l1 l3 s0 s1 s2 s3 h = some q) : wp w (d + 1) YX35_ruleItem 22 [some (.ref l0), some (.int l1), none, some (.int l3)] [.int s3, .int s2, .int s1, .ref s0] h (e_is (e_rn c_V q)) := by
  unfold fX35_ruleItem_b22 at hf
  refine w_iload_n dX35_ruleItem_22 rfl rfl ?_
  refine w_ldc_w dX35_ruleItem_23 q5562 ?_
  refine w_icmp_ne 33 dX35_ruleItem_26 (by decide) (fun c1 => ?_) (fun c1 => ?_)
  · replace hf := (if_pos (show ¬ l3 = (-1073741824 : Int32) from c1)).symm.trans hf
    refine w_iload_n dX35_ruleItem_33 rfl rfl ?_
    exact (pX35_ruleItem_b34 hd hdr hsL hf).to ⟨rfl, rfl, trivial⟩
  · replace hf := (if_neg (show ¬ (¬ l3 = (-1073741824 : Int32)) from (fun z => z c1))).symm.trans hf
    refine w_iconst dX35_ruleItem_29 (v := 0) (by decide) ?_
    refine w_goto 34 dX35_ruleItem_30 (by decide) ?_
    exact (pX35_ruleItem_b34 hd hdr hsL hf).to ⟨rfl, rfl, trivial⟩
def fX35_ruleItem (N : Nat) (sL : Nat → Int32 → Int64 → Int64 → eH → Option (Int32 × eH)) (this : Nat) (p0 : Int32) (p1 : Int32) (p2 : Int32) (h : eH) : Option (Unit × eH) :=
  (k_ok 34 h this).bind fun _ =>
  (fX35_mode this h).bind fun q2 =>
  if ¬ q2.1 = 0 then
    (k_ok 34 q2.2 this).bind fun _ =>
    (fX35_item N this (1 : Int32) p0 p1 p2 (0 : Int32) (0 : Int32) q2.2).bind fun q5 =>
    fX35_ruleItem_b53 N sL this q5.2
  else
    if ¬ p1 = (-1073741824 : Int32) then
      fX35_ruleItem_b22 N sL this p0 p2 this (5 : Int32) (0 : Int32) p1 q2.2
    else
      fX35_ruleItem_b22 N sL this p0 p2 this (5 : Int32) (0 : Int32) (0 : Int32) q2.2
theorem pX35_ruleItem {w : eW} {d : Nat} {dr : Nat} (hd : dr + 9 ≤ d) (hdr : 12 ≤ dr) {N : Nat} {sL : Nat → Int32 → Int64 → Int64 → eH → Option (Int32 × eH)} (hsL : ∀ a t0 t1 t2 h q, sL a t0 t1 t2 h = some q → wm w dr YX35_layBox [.ref a, .int t0, .long t1, .long t2] h (e_is (e_rn c_I q))) {this : Nat} {p0 : Int32} {p1 : Int32} {p2 : Int32} {h : eH} {q} (hf : fX35_ruleItem N sL this p0 p1 p2 h = some q) : wm w d YX35_ruleItem [.ref this, .int p0, .int p1, .int p2] h (e_is (e_rn c_V q)) := by
  obtain ⟨d, rfl⟩ : ∃ e, d = e + 1 := ⟨d - 1, by omega⟩
  show wp w (d + 1) YX35_ruleItem 0 [some (.ref this), some (.int p0), some (.int p1), some (.int p2)] [] h _
  unfold fX35_ruleItem at hf
  refine w_aload_n dX35_ruleItem_0 rfl rfl ?_
  obtain ⟨_, b1, hf⟩ := Option.bind_eq_some_iff.mp hf
  refine x_cnI hf (e_stV (Yc := YX35_mode) (ci := 34) (av := []) (st := []) dX35_ruleItem_1 q5417 mX35_mode rfl (k_ok_some b1).1 (k_ok_some b1).2) mX35_mode.2.2.1 mX35_mode.2.2.2.2.1 (Nat.le_of_ble_eq_true rfl) (Nat.le_of_ble_eq_true rfl) (fun q hq => pX35_mode (by omega) hq) (fun q2 hf => ?_)
  refine w_if_ne 43 dX35_ruleItem_4 (by decide) (fun c3 => ?_) (fun c3 => ?_)
  · replace hf := (if_pos (show ¬ q2.1 = 0 from c3)).symm.trans hf
    refine w_aload_n dX35_ruleItem_43 rfl rfl ?_
    refine w_iconst dX35_ruleItem_44 (v := 1) (by decide) ?_
    refine w_iload_n dX35_ruleItem_45 rfl rfl ?_
    refine w_iload_n dX35_ruleItem_46 rfl rfl ?_
    refine w_iload_n dX35_ruleItem_47 rfl rfl ?_
    refine w_iconst dX35_ruleItem_48 (v := 0) (by decide) ?_
    refine w_iconst dX35_ruleItem_49 (v := 0) (by decide) ?_
    obtain ⟨_, b4, hf⟩ := Option.bind_eq_some_iff.mp hf
    refine x_cnV hf (e_stV (Yc := YX35_item) (ci := 34) (av := [.int (1 : Int32), .int p0, .int p1, .int p2, .int (0 : Int32), .int (0 : Int32)]) (st := []) dX35_ruleItem_50 q5643 mX35_item rfl (k_ok_some b4).1 (k_ok_some b4).2) mX35_item.2.2.1 mX35_item.2.2.2.2.1 (Nat.le_of_ble_eq_true rfl) (Nat.le_of_ble_eq_true rfl) (fun q hq => pX35_item (by omega) hq) (fun q5 hf => ?_)
    exact (pX35_ruleItem_b53 hd hdr hsL hf).to ⟨rfl, trivial⟩
  · replace hf := (if_neg (show ¬ (¬ q2.1 = 0) from (fun z => z c3))).symm.trans hf
    refine w_aload_n dX35_ruleItem_7 rfl rfl ?_
    refine w_iconst dX35_ruleItem_8 (v := 5) (by decide) ?_
    refine w_iconst dX35_ruleItem_9 (v := 0) (by decide) ?_
    refine w_iload_n dX35_ruleItem_10 rfl rfl ?_
    refine w_ldc_w dX35_ruleItem_11 q5562 ?_
    refine w_icmp_ne 21 dX35_ruleItem_14 (by decide) (fun c6 => ?_) (fun c6 => ?_)
    · replace hf := (if_pos (show ¬ p1 = (-1073741824 : Int32) from c6)).symm.trans hf
      refine w_iload_n dX35_ruleItem_21 rfl rfl ?_
      exact (pX35_ruleItem_b22 hd hdr hsL hf).to ⟨rfl, rfl, rfl, trivial⟩
    · replace hf := (if_neg (show ¬ (¬ p1 = (-1073741824 : Int32)) from (fun z => z c6))).symm.trans hf
      refine w_iconst dX35_ruleItem_17 (v := 0) (by decide) ?_
      refine w_goto 22 dX35_ruleItem_18 (by decide) ?_
      exact (pX35_ruleItem_b22 hd hdr hsL hf).to ⟨rfl, rfl, rfl, trivial⟩
abbrev cX35_rule : ByteArray := prog_37_method_180_code
def yX35_rule : MethodName := ⟨RX35, "rule", "(III)V"⟩
def YX35_rule : eY := (yX35_rule, cX35_rule, 8, none, [])
theorem mX35_rule : e_mv YX35_rule RX35 3 := ⟨q6023, qs419, q6024, by decide, by decide +kernel, (e_sig (by decide +kernel))⟩
theorem dX35_rule_0 : decode cX35_rule 0 = .ok (.iload_n 1, 1) := dc_27 (by decide +kernel)
theorem dX35_rule_1 : decode cX35_rule 1 = .ok (.istore 4, 2) := dc_54 (a := 4) (by decide +kernel)
theorem dX35_rule_3 : decode cX35_rule 3 = .ok (.iload_n 2, 1) := dc_28 (by decide +kernel)
theorem dX35_rule_4 : decode cX35_rule 4 = .ok (.istore 5, 2) := dc_54 (a := 5) (by decide +kernel)
theorem dX35_rule_6 : decode cX35_rule 6 = .ok (.iload_n 3, 1) := dc_29 (by decide +kernel)
theorem dX35_rule_7 : decode cX35_rule 7 = .ok (.istore 6, 2) := dc_54 (a := 6) (by decide +kernel)
theorem dX35_rule_9 : decode cX35_rule 9 = .ok (.iconst 1, 1) := dc_4 (by decide +kernel)
theorem dX35_rule_10 : decode cX35_rule 10 = .ok (.istore 7, 2) := dc_54 (a := 7) (by decide +kernel)
theorem dX35_rule_12 : decode cX35_rule 12 = .ok (.iload 7, 2) := dc_21 (a := 7) (by decide +kernel)
theorem dX35_rule_14 : decode cX35_rule 14 = .ok (.ifCond .eq 87, 3) := dc_153 (a := 0) (b := 87) (v := 87) (by decide +kernel)
theorem dX35_rule_17 : decode cX35_rule 17 = .ok (.aload_n 0, 1) := dc_42 (by decide +kernel)
theorem dX35_rule_18 : decode cX35_rule 18 = .ok (.getfield 321, 3) := dc_180 (a := 1) (b := 65) (n := 321) (by decide +kernel)
theorem dX35_rule_21 : decode cX35_rule 21 = .ok (.ifCond .ne 80, 3) := dc_154 (a := 0) (b := 80) (v := 80) (by decide +kernel)
theorem dX35_rule_24 : decode cX35_rule 24 = .ok (.aload_n 0, 1) := dc_42 (by decide +kernel)
theorem dX35_rule_25 : decode cX35_rule 25 = .ok (.ldc_w 1215, 3) := dc_19 (a := 4) (b := 191) (n := 1215) (by decide +kernel)
theorem dX35_rule_28 : decode cX35_rule 28 = .ok (.invokevirtual 707, 3) := dc_182 (a := 2) (b := 195) (n := 707) (by decide +kernel)
theorem dX35_rule_31 : decode cX35_rule 31 = .ok (.ifCond .eq 12, 3) := dc_153 (a := 0) (b := 12) (v := 12) (by decide +kernel)
theorem dX35_rule_34 : decode cX35_rule 34 = .ok (.aload_n 0, 1) := dc_42 (by decide +kernel)
theorem dX35_rule_35 : decode cX35_rule 35 = .ok (.invokevirtual 614, 3) := dc_182 (a := 2) (b := 102) (n := 614) (by decide +kernel)
theorem dX35_rule_38 : decode cX35_rule 38 = .ok (.istore 4, 2) := dc_54 (a := 4) (by decide +kernel)
theorem dX35_rule_40 : decode cX35_rule 40 = .ok (.goto (-28), 3) := dc_167 (a := 255) (b := 228) (v := -28) (by decide +kernel)
theorem dX35_rule_43 : decode cX35_rule 43 = .ok (.aload_n 0, 1) := dc_42 (by decide +kernel)
theorem dX35_rule_44 : decode cX35_rule 44 = .ok (.getfield 321, 3) := dc_180 (a := 1) (b := 65) (n := 321) (by decide +kernel)
theorem dX35_rule_47 : decode cX35_rule 47 = .ok (.ifCond .ne 22, 3) := dc_154 (a := 0) (b := 22) (v := 22) (by decide +kernel)
theorem dX35_rule_50 : decode cX35_rule 50 = .ok (.aload_n 0, 1) := dc_42 (by decide +kernel)
theorem dX35_rule_51 : decode cX35_rule 51 = .ok (.ldc_w 1216, 3) := dc_19 (a := 4) (b := 192) (n := 1216) (by decide +kernel)
theorem dX35_rule_54 : decode cX35_rule 54 = .ok (.invokevirtual 707, 3) := dc_182 (a := 2) (b := 195) (n := 707) (by decide +kernel)
theorem dX35_rule_57 : decode cX35_rule 57 = .ok (.ifCond .eq 12, 3) := dc_153 (a := 0) (b := 12) (v := 12) (by decide +kernel)
theorem dX35_rule_60 : decode cX35_rule 60 = .ok (.aload_n 0, 1) := dc_42 (by decide +kernel)
theorem dX35_rule_61 : decode cX35_rule 61 = .ok (.invokevirtual 614, 3) := dc_182 (a := 2) (b := 102) (n := 614) (by decide +kernel)
theorem dX35_rule_64 : decode cX35_rule 64 = .ok (.istore 5, 2) := dc_54 (a := 5) (by decide +kernel)
theorem dX35_rule_66 : decode cX35_rule 66 = .ok (.goto (-54), 3) := dc_167 (a := 255) (b := 202) (v := -54) (by decide +kernel)
theorem dX35_rule_69 : decode cX35_rule 69 = .ok (.aload_n 0, 1) := dc_42 (by decide +kernel)
theorem dX35_rule_70 : decode cX35_rule 70 = .ok (.getfield 321, 3) := dc_180 (a := 1) (b := 65) (n := 321) (by decide +kernel)
theorem dX35_rule_73 : decode cX35_rule 73 = .ok (.ifCond .ne 22, 3) := dc_154 (a := 0) (b := 22) (v := 22) (by decide +kernel)
theorem dX35_rule_76 : decode cX35_rule 76 = .ok (.aload_n 0, 1) := dc_42 (by decide +kernel)
theorem dX35_rule_77 : decode cX35_rule 77 = .ok (.ldc_w 1217, 3) := dc_19 (a := 4) (b := 193) (n := 1217) (by decide +kernel)
theorem dX35_rule_80 : decode cX35_rule 80 = .ok (.invokevirtual 707, 3) := dc_182 (a := 2) (b := 195) (n := 707) (by decide +kernel)
theorem dX35_rule_83 : decode cX35_rule 83 = .ok (.ifCond .eq 12, 3) := dc_153 (a := 0) (b := 12) (v := 12) (by decide +kernel)
theorem dX35_rule_86 : decode cX35_rule 86 = .ok (.aload_n 0, 1) := dc_42 (by decide +kernel)
theorem dX35_rule_87 : decode cX35_rule 87 = .ok (.invokevirtual 614, 3) := dc_182 (a := 2) (b := 102) (n := 614) (by decide +kernel)
theorem dX35_rule_90 : decode cX35_rule 90 = .ok (.istore 6, 2) := dc_54 (a := 6) (by decide +kernel)
theorem dX35_rule_92 : decode cX35_rule 92 = .ok (.goto (-80), 3) := dc_167 (a := 255) (b := 176) (v := -80) (by decide +kernel)
theorem dX35_rule_95 : decode cX35_rule 95 = .ok (.iconst 0, 1) := dc_3 (by decide +kernel)
theorem dX35_rule_96 : decode cX35_rule 96 = .ok (.istore 7, 2) := dc_54 (a := 7) (by decide +kernel)
theorem dX35_rule_98 : decode cX35_rule 98 = .ok (.goto (-86), 3) := dc_167 (a := 255) (b := 170) (v := -86) (by decide +kernel)
theorem dX35_rule_101 : decode cX35_rule 101 = .ok (.aload_n 0, 1) := dc_42 (by decide +kernel)
theorem dX35_rule_102 : decode cX35_rule 102 = .ok (.getfield 321, 3) := dc_180 (a := 1) (b := 65) (n := 321) (by decide +kernel)
theorem dX35_rule_105 : decode cX35_rule 105 = .ok (.ifCond .ne 13, 3) := dc_154 (a := 0) (b := 13) (v := 13) (by decide +kernel)
theorem dX35_rule_108 : decode cX35_rule 108 = .ok (.aload_n 0, 1) := dc_42 (by decide +kernel)
theorem dX35_rule_109 : decode cX35_rule 109 = .ok (.iload 4, 2) := dc_21 (a := 4) (by decide +kernel)
theorem dX35_rule_111 : decode cX35_rule 111 = .ok (.iload 5, 2) := dc_21 (a := 5) (by decide +kernel)
theorem dX35_rule_113 : decode cX35_rule 113 = .ok (.iload 6, 2) := dc_21 (a := 6) (by decide +kernel)
theorem dX35_rule_115 : decode cX35_rule 115 = .ok (.invokevirtual 1218, 3) := dc_182 (a := 4) (b := 194) (n := 1218) (by decide +kernel)
theorem dX35_rule_118 : decode cX35_rule 118 = .ok (.return_, 1) := dc_177 (by decide +kernel)
def fX35_rule_b95 (N : Nat) (sE : Nat → Int32 → eH → Option (Unit × eH)) (sL : Nat → Int32 → Int64 → Int64 → eH → Option (Int32 × eH)) (sN : Nat → eH → Option (Int32 × eH)) (k12 : Nat → Int32 → Int32 → Int32 → Int32 → eH → Option (Unit × eH)) (l0 : Nat) (l4 : Int32) (l5 : Int32) (l6 : Int32) (h : eH) : Option (Unit × eH) :=
  k12 l0 l4 l5 l6 (0 : Int32) h
theorem pX35_rule_b95 {w : eW} {d : Nat} {dr : Nat} (hd : dr + 11 ≤ d + 1) (hdr : 12 ≤ dr) {N : Nat} {sE : Nat → Int32 → eH → Option (Unit × eH)} {sL : Nat → Int32 → Int64 → Int64 → eH → Option (Int32 × eH)} {sN : Nat → eH → Option (Int32 × eH)} (hsE : ∀ a t0 h q, sE a t0 h = some q → wm w dr YX35_expand [.ref a, .int t0] h (e_is (e_rn c_V q))) (hsL : ∀ a t0 t1 t2 h q, sL a t0 t1 t2 h = some q → wm w dr YX35_layBox [.ref a, .int t0, .long t1, .long t2] h (e_is (e_rn c_I q))) (hsN : ∀ a h q, sN a h = some q → wm w dr YX35_number [.ref a] h (e_is (e_rn c_I q))) {k12 : Nat → Int32 → Int32 → Int32 → Int32 → eH → Option (Unit × eH)} (hk12 : ∀ l0 l4 l5 l6 l7 h q, k12 l0 l4 l5 l6 l7 h = some q → wp w (d + 1) YX35_rule 12 [some (.ref l0), none, none, none, some (.int l4), some (.int l5), some (.int l6), some (.int l7)] [] h (e_is (e_rn c_V q))) {l0 : Nat} {l4 : Int32} {l5 : Int32} {l6 : Int32} {h : eH} {q} (hf : fX35_rule_b95 N sE sL sN k12 l0 l4 l5 l6 h = some q) : wp w (d + 1) YX35_rule 95 [some (.ref l0), none, none, none, some (.int l4), some (.int l5), some (.int l6), none] [] h (e_is (e_rn c_V q)) := by
  unfold fX35_rule_b95 at hf
  refine w_iconst dX35_rule_95 (v := 0) (by decide) ?_
  refine w_istore dX35_rule_96 (by decide) (ls' := [some (.ref l0), none, none, none, some (.int l4), some (.int l5), some (.int l6), some (.int (0 : Int32))]) rfl ?_
  refine w_goto 12 dX35_rule_98 (by decide) ?_
  exact (hk12 _ _ _ _ _ _ _ hf).to ⟨rfl, rfl, rfl, rfl, rfl, trivial⟩
def fX35_rule_b69 (N : Nat) (sE : Nat → Int32 → eH → Option (Unit × eH)) (sL : Nat → Int32 → Int64 → Int64 → eH → Option (Int32 × eH)) (sN : Nat → eH → Option (Int32 × eH)) (k12 : Nat → Int32 → Int32 → Int32 → Int32 → eH → Option (Unit × eH)) (l0 : Nat) (l4 : Int32) (l5 : Int32) (l6 : Int32) (l7 : Int32) (h : eH) : Option (Unit × eH) :=
  (g_I 34 h l0 46).bind fun x1 =>
  if ¬ x1 = 0 then
    fX35_rule_b95 N sE sL sN k12 l0 l4 l5 l6 h
  else
    (k_ok 34 h l0).bind fun _ =>
    (fX35_keyword N sE l0 1000000143 h).bind fun q5 =>
    if q5.1 = 0 then
      fX35_rule_b95 N sE sL sN k12 l0 l4 l5 l6 q5.2
    else
      (k_ok 34 q5.2 l0).bind fun _ =>
      (fX35_dimension N sE sN l0 q5.2).bind fun q8 =>
      k12 l0 l4 l5 q8.1 l7 q8.2
theorem pX35_rule_b69 {w : eW} {d : Nat} {dr : Nat} (hd : dr + 11 ≤ d + 1) (hdr : 12 ≤ dr) {N : Nat} {sE : Nat → Int32 → eH → Option (Unit × eH)} {sL : Nat → Int32 → Int64 → Int64 → eH → Option (Int32 × eH)} {sN : Nat → eH → Option (Int32 × eH)} (hsE : ∀ a t0 h q, sE a t0 h = some q → wm w dr YX35_expand [.ref a, .int t0] h (e_is (e_rn c_V q))) (hsL : ∀ a t0 t1 t2 h q, sL a t0 t1 t2 h = some q → wm w dr YX35_layBox [.ref a, .int t0, .long t1, .long t2] h (e_is (e_rn c_I q))) (hsN : ∀ a h q, sN a h = some q → wm w dr YX35_number [.ref a] h (e_is (e_rn c_I q))) {k12 : Nat → Int32 → Int32 → Int32 → Int32 → eH → Option (Unit × eH)} (hk12 : ∀ l0 l4 l5 l6 l7 h q, k12 l0 l4 l5 l6 l7 h = some q → wp w (d + 1) YX35_rule 12 [some (.ref l0), none, none, none, some (.int l4), some (.int l5), some (.int l6), some (.int l7)] [] h (e_is (e_rn c_V q))) {l0 : Nat} {l4 : Int32} {l5 : Int32} {l6 : Int32} {l7 : Int32} {h : eH} {q} (hf : fX35_rule_b69 N sE sL sN k12 l0 l4 l5 l6 l7 h = some q) : wp w (d + 1) YX35_rule 69 [some (.ref l0), none, none, none, some (.int l4), some (.int l5), some (.int l6), some (.int l7)] [] h (e_is (e_rn c_V q)) := by
  unfold fX35_rule_b69 at hf
  refine w_aload_n dX35_rule_69 rfl rfl ?_
  obtain ⟨x1, b2, hf⟩ := Option.bind_eq_some_iff.mp hf
  refine GX35_321 b2 dX35_rule_70 rfl ?_
  refine w_if_ne 95 dX35_rule_73 (by decide) (fun c3 => ?_) (fun c3 => ?_)
  · replace hf := (if_pos (show ¬ x1 = 0 from c3)).symm.trans hf
    exact (pX35_rule_b95 hd hdr hsE hsL hsN hk12 hf).to ⟨rfl, rfl, rfl, rfl, trivial⟩
  · replace hf := (if_neg (show ¬ (¬ x1 = 0) from (fun z => z c3))).symm.trans hf
    refine w_aload_n dX35_rule_76 rfl rfl ?_
    refine x_ldcSw (k := 43) dX35_rule_77 rfl ?_
    obtain ⟨_, b4, hf⟩ := Option.bind_eq_some_iff.mp hf
    refine x_cnI hf (e_stV (Yc := YX35_keyword) (ci := 34) (av := [.ref 1000000143]) (st := []) dX35_rule_80 q5347 mX35_keyword rfl (k_ok_some b4).1 (k_ok_some b4).2) mX35_keyword.2.2.1 mX35_keyword.2.2.2.2.1 (Nat.le_of_ble_eq_true rfl) (Nat.le_of_ble_eq_true rfl) (fun q hq => pX35_keyword (by omega) hdr hsE hq) (fun q5 hf => ?_)
    refine w_if_eq 95 dX35_rule_83 (by decide) (fun c6 => ?_) (fun c6 => ?_)
    · replace hf := (if_pos (show q5.1 = 0 from c6)).symm.trans hf
      exact (pX35_rule_b95 hd hdr hsE hsL hsN hk12 hf).to ⟨rfl, rfl, rfl, rfl, trivial⟩
    · replace hf := (if_neg (show ¬ (q5.1 = 0) from c6)).symm.trans hf
      refine w_aload_n dX35_rule_86 rfl rfl ?_
      obtain ⟨_, b7, hf⟩ := Option.bind_eq_some_iff.mp hf
      refine x_cnI hf (e_stV (Yc := YX35_dimension) (ci := 34) (av := []) (st := []) dX35_rule_87 q5333 mX35_dimension rfl (k_ok_some b7).1 (k_ok_some b7).2) mX35_dimension.2.2.1 mX35_dimension.2.2.2.2.1 (Nat.le_of_ble_eq_true rfl) (Nat.le_of_ble_eq_true rfl) (fun q hq => pX35_dimension (by omega) hdr hsE hsN hq) (fun q8 hf => ?_)
      refine w_istore dX35_rule_90 (by decide) (ls' := [some (.ref l0), none, none, none, some (.int l4), some (.int l5), some (.int q8.1), some (.int l7)]) rfl ?_
      refine w_goto 12 dX35_rule_92 (by decide) ?_
      exact (hk12 _ _ _ _ _ _ _ hf).to ⟨rfl, rfl, rfl, rfl, rfl, trivial⟩
def fX35_rule_b118 (N : Nat) (sE : Nat → Int32 → eH → Option (Unit × eH)) (sL : Nat → Int32 → Int64 → Int64 → eH → Option (Int32 × eH)) (sN : Nat → eH → Option (Int32 × eH))  (h : eH) : Option (Unit × eH) :=
  some ((), h)
theorem pX35_rule_b118 {w : eW} {d : Nat} {dr : Nat} (hd : dr + 11 ≤ d + 1) (hdr : 12 ≤ dr) {N : Nat} {sE : Nat → Int32 → eH → Option (Unit × eH)} {sL : Nat → Int32 → Int64 → Int64 → eH → Option (Int32 × eH)} {sN : Nat → eH → Option (Int32 × eH)} (hsE : ∀ a t0 h q, sE a t0 h = some q → wm w dr YX35_expand [.ref a, .int t0] h (e_is (e_rn c_V q))) (hsL : ∀ a t0 t1 t2 h q, sL a t0 t1 t2 h = some q → wm w dr YX35_layBox [.ref a, .int t0, .long t1, .long t2] h (e_is (e_rn c_I q))) (hsN : ∀ a h q, sN a h = some q → wm w dr YX35_number [.ref a] h (e_is (e_rn c_I q)))  {h : eH} {q} (hf : fX35_rule_b118 N sE sL sN h = some q) : wp w (d + 1) YX35_rule 118 [none, none, none, none, none, none, none, none] [] h (e_is (e_rn c_V q)) := by
  unfold fX35_rule_b118 at hf
  cases hf
  exact w_vret dX35_rule_118 rfl rfl
def fX35_rule_b101 (N : Nat) (sE : Nat → Int32 → eH → Option (Unit × eH)) (sL : Nat → Int32 → Int64 → Int64 → eH → Option (Int32 × eH)) (sN : Nat → eH → Option (Int32 × eH)) (l0 : Nat) (l4 : Int32) (l5 : Int32) (l6 : Int32) (h : eH) : Option (Unit × eH) :=
  (g_I 34 h l0 46).bind fun x1 =>
  if ¬ x1 = 0 then
    fX35_rule_b118 N sE sL sN h
  else
    (k_ok 34 h l0).bind fun _ =>
    (fX35_ruleItem N sL l0 l4 l5 l6 h).bind fun q5 =>
    fX35_rule_b118 N sE sL sN q5.2
theorem pX35_rule_b101 {w : eW} {d : Nat} {dr : Nat} (hd : dr + 11 ≤ d + 1) (hdr : 12 ≤ dr) {N : Nat} {sE : Nat → Int32 → eH → Option (Unit × eH)} {sL : Nat → Int32 → Int64 → Int64 → eH → Option (Int32 × eH)} {sN : Nat → eH → Option (Int32 × eH)} (hsE : ∀ a t0 h q, sE a t0 h = some q → wm w dr YX35_expand [.ref a, .int t0] h (e_is (e_rn c_V q))) (hsL : ∀ a t0 t1 t2 h q, sL a t0 t1 t2 h = some q → wm w dr YX35_layBox [.ref a, .int t0, .long t1, .long t2] h (e_is (e_rn c_I q))) (hsN : ∀ a h q, sN a h = some q → wm w dr YX35_number [.ref a] h (e_is (e_rn c_I q))) {l0 : Nat} {l4 : Int32} {l5 : Int32} {l6 : Int32} {h : eH} {q} (hf : fX35_rule_b101 N sE sL sN l0 l4 l5 l6 h = some q) : wp w (d + 1) YX35_rule 101 [some (.ref l0), none, none, none, some (.int l4), some (.int l5), some (.int l6), none] [] h (e_is (e_rn c_V q)) := by
  unfold fX35_rule_b101 at hf
  refine w_aload_n dX35_rule_101 rfl rfl ?_
  obtain ⟨x1, b2, hf⟩ := Option.bind_eq_some_iff.mp hf
  refine GX35_321 b2 dX35_rule_102 rfl ?_
  refine w_if_ne 118 dX35_rule_105 (by decide) (fun c3 => ?_) (fun c3 => ?_)
  · replace hf := (if_pos (show ¬ x1 = 0 from c3)).symm.trans hf
    exact (pX35_rule_b118 hd hdr hsE hsL hsN hf).to trivial
  · replace hf := (if_neg (show ¬ (¬ x1 = 0) from (fun z => z c3))).symm.trans hf
    refine w_aload_n dX35_rule_108 rfl rfl ?_
    refine w_iload dX35_rule_109 rfl ?_
    refine w_iload dX35_rule_111 rfl ?_
    refine w_iload dX35_rule_113 rfl ?_
    obtain ⟨_, b4, hf⟩ := Option.bind_eq_some_iff.mp hf
    refine x_cnV hf (e_stV (Yc := YX35_ruleItem) (ci := 34) (av := [.int l4, .int l5, .int l6]) (st := []) dX35_rule_115 q6028 mX35_ruleItem rfl (k_ok_some b4).1 (k_ok_some b4).2) mX35_ruleItem.2.2.1 mX35_ruleItem.2.2.2.2.1 (Nat.le_of_ble_eq_true rfl) (Nat.le_of_ble_eq_true rfl) (fun q hq => pX35_ruleItem (by omega) hdr hsL hq) (fun q5 hf => ?_)
    exact (pX35_rule_b118 hd hdr hsE hsL hsN hf).to trivial
def fX35_rule_b12 (N : Nat) (sE : Nat → Int32 → eH → Option (Unit × eH)) (sL : Nat → Int32 → Int64 → Int64 → eH → Option (Int32 × eH)) (sN : Nat → eH → Option (Int32 × eH)) : Nat → Nat → Int32 → Int32 → Int32 → Int32 → eH → Option (Unit × eH)
  | 0, _, _, _, _, _, _ => none
  | n + 1, l0, l4, l5, l6, l7, h =>
    if l7 = 0 then
      fX35_rule_b101 N sE sL sN l0 l4 l5 l6 h
    else
      (g_I 34 h l0 46).bind fun x2 =>
      if ¬ x2 = 0 then
        fX35_rule_b101 N sE sL sN l0 l4 l5 l6 h
      else
        (k_ok 34 h l0).bind fun _ =>
        (fX35_keyword N sE l0 1000000141 h).bind fun q6 =>
        if q6.1 = 0 then
          (g_I 34 q6.2 l0 46).bind fun x8 =>
          if ¬ x8 = 0 then
            fX35_rule_b69 N sE sL sN (fX35_rule_b12 N sE sL sN n) l0 l4 l5 l6 l7 q6.2
          else
            (k_ok 34 q6.2 l0).bind fun _ =>
            (fX35_keyword N sE l0 1000000142 q6.2).bind fun q12 =>
            if q12.1 = 0 then
              fX35_rule_b69 N sE sL sN (fX35_rule_b12 N sE sL sN n) l0 l4 l5 l6 l7 q12.2
            else
              (k_ok 34 q12.2 l0).bind fun _ =>
              (fX35_dimension N sE sN l0 q12.2).bind fun q15 =>
              fX35_rule_b12 N sE sL sN n l0 l4 q15.1 l6 l7 q15.2
        else
          (k_ok 34 q6.2 l0).bind fun _ =>
          (fX35_dimension N sE sN l0 q6.2).bind fun q17 =>
          fX35_rule_b12 N sE sL sN n l0 q17.1 l5 l6 l7 q17.2
theorem pX35_rule_b12 {w : eW} {d : Nat} {dr : Nat} (hd : dr + 11 ≤ d + 1) (hdr : 12 ≤ dr) {N : Nat} {sE : Nat → Int32 → eH → Option (Unit × eH)} {sL : Nat → Int32 → Int64 → Int64 → eH → Option (Int32 × eH)} {sN : Nat → eH → Option (Int32 × eH)} (hsE : ∀ a t0 h q, sE a t0 h = some q → wm w dr YX35_expand [.ref a, .int t0] h (e_is (e_rn c_V q))) (hsL : ∀ a t0 t1 t2 h q, sL a t0 t1 t2 h = some q → wm w dr YX35_layBox [.ref a, .int t0, .long t1, .long t2] h (e_is (e_rn c_I q))) (hsN : ∀ a h q, sN a h = some q → wm w dr YX35_number [.ref a] h (e_is (e_rn c_I q))) : ∀ (n : Nat) l0 l4 l5 l6 l7 h q, fX35_rule_b12 N sE sL sN n l0 l4 l5 l6 l7 h = some q → wp w (d + 1) YX35_rule 12 [some (.ref l0), none, none, none, some (.int l4), some (.int l5), some (.int l6), some (.int l7)] [] h (e_is (e_rn c_V q)) := by
  intro n
  induction n with
  | zero => intro l0 l4 l5 l6 l7 h q hf; simp [fX35_rule_b12] at hf
  | succ n ih =>
    intro l0 l4 l5 l6 l7 h q hf
    rw [fX35_rule_b12] at hf
    refine w_iload dX35_rule_12 rfl ?_
    refine w_if_eq 101 dX35_rule_14 (by decide) (fun c1 => ?_) (fun c1 => ?_)
    · replace hf := (if_pos (show l7 = 0 from c1)).symm.trans hf
      exact (pX35_rule_b101 hd hdr hsE hsL hsN hf).to ⟨rfl, rfl, rfl, rfl, trivial⟩
    · replace hf := (if_neg (show ¬ (l7 = 0) from c1)).symm.trans hf
      refine w_aload_n dX35_rule_17 rfl rfl ?_
      obtain ⟨x2, b3, hf⟩ := Option.bind_eq_some_iff.mp hf
      refine GX35_321 b3 dX35_rule_18 rfl ?_
      refine w_if_ne 101 dX35_rule_21 (by decide) (fun c4 => ?_) (fun c4 => ?_)
      · replace hf := (if_pos (show ¬ x2 = 0 from c4)).symm.trans hf
        exact (pX35_rule_b101 hd hdr hsE hsL hsN hf).to ⟨rfl, rfl, rfl, rfl, trivial⟩
      · replace hf := (if_neg (show ¬ (¬ x2 = 0) from (fun z => z c4))).symm.trans hf
        refine w_aload_n dX35_rule_24 rfl rfl ?_
        refine x_ldcSw (k := 41) dX35_rule_25 rfl ?_
        obtain ⟨_, b5, hf⟩ := Option.bind_eq_some_iff.mp hf
        refine x_cnI hf (e_stV (Yc := YX35_keyword) (ci := 34) (av := [.ref 1000000141]) (st := []) dX35_rule_28 q5347 mX35_keyword rfl (k_ok_some b5).1 (k_ok_some b5).2) mX35_keyword.2.2.1 mX35_keyword.2.2.2.2.1 (Nat.le_of_ble_eq_true rfl) (Nat.le_of_ble_eq_true rfl) (fun q hq => pX35_keyword (by omega) hdr hsE hq) (fun q6 hf => ?_)
        refine w_if_eq 43 dX35_rule_31 (by decide) (fun c7 => ?_) (fun c7 => ?_)
        · replace hf := (if_pos (show q6.1 = 0 from c7)).symm.trans hf
          refine w_aload_n dX35_rule_43 rfl rfl ?_
          obtain ⟨x8, b9, hf⟩ := Option.bind_eq_some_iff.mp hf
          refine GX35_321 b9 dX35_rule_44 rfl ?_
          refine w_if_ne 69 dX35_rule_47 (by decide) (fun c10 => ?_) (fun c10 => ?_)
          · replace hf := (if_pos (show ¬ x8 = 0 from c10)).symm.trans hf
            exact (pX35_rule_b69 hd hdr hsE hsL hsN ih hf).to ⟨rfl, rfl, rfl, rfl, rfl, trivial⟩
          · replace hf := (if_neg (show ¬ (¬ x8 = 0) from (fun z => z c10))).symm.trans hf
            refine w_aload_n dX35_rule_50 rfl rfl ?_
            refine x_ldcSw (k := 42) dX35_rule_51 rfl ?_
            obtain ⟨_, b11, hf⟩ := Option.bind_eq_some_iff.mp hf
            refine x_cnI hf (e_stV (Yc := YX35_keyword) (ci := 34) (av := [.ref 1000000142]) (st := []) dX35_rule_54 q5347 mX35_keyword rfl (k_ok_some b11).1 (k_ok_some b11).2) mX35_keyword.2.2.1 mX35_keyword.2.2.2.2.1 (Nat.le_of_ble_eq_true rfl) (Nat.le_of_ble_eq_true rfl) (fun q hq => pX35_keyword (by omega) hdr hsE hq) (fun q12 hf => ?_)
            refine w_if_eq 69 dX35_rule_57 (by decide) (fun c13 => ?_) (fun c13 => ?_)
            · replace hf := (if_pos (show q12.1 = 0 from c13)).symm.trans hf
              exact (pX35_rule_b69 hd hdr hsE hsL hsN ih hf).to ⟨rfl, rfl, rfl, rfl, rfl, trivial⟩
            · replace hf := (if_neg (show ¬ (q12.1 = 0) from c13)).symm.trans hf
              refine w_aload_n dX35_rule_60 rfl rfl ?_
              obtain ⟨_, b14, hf⟩ := Option.bind_eq_some_iff.mp hf
              refine x_cnI hf (e_stV (Yc := YX35_dimension) (ci := 34) (av := []) (st := []) dX35_rule_61 q5333 mX35_dimension rfl (k_ok_some b14).1 (k_ok_some b14).2) mX35_dimension.2.2.1 mX35_dimension.2.2.2.2.1 (Nat.le_of_ble_eq_true rfl) (Nat.le_of_ble_eq_true rfl) (fun q hq => pX35_dimension (by omega) hdr hsE hsN hq) (fun q15 hf => ?_)
              refine w_istore dX35_rule_64 (by decide) (ls' := [some (.ref l0), none, none, none, some (.int l4), some (.int q15.1), some (.int l6), some (.int l7)]) rfl ?_
              refine w_goto 12 dX35_rule_66 (by decide) ?_
              exact (ih _ _ _ _ _ _ _ hf).to ⟨rfl, rfl, rfl, rfl, rfl, trivial⟩
        · replace hf := (if_neg (show ¬ (q6.1 = 0) from c7)).symm.trans hf
          refine w_aload_n dX35_rule_34 rfl rfl ?_
          obtain ⟨_, b16, hf⟩ := Option.bind_eq_some_iff.mp hf
          refine x_cnI hf (e_stV (Yc := YX35_dimension) (ci := 34) (av := []) (st := []) dX35_rule_35 q5333 mX35_dimension rfl (k_ok_some b16).1 (k_ok_some b16).2) mX35_dimension.2.2.1 mX35_dimension.2.2.2.2.1 (Nat.le_of_ble_eq_true rfl) (Nat.le_of_ble_eq_true rfl) (fun q hq => pX35_dimension (by omega) hdr hsE hsN hq) (fun q17 hf => ?_)
          refine w_istore dX35_rule_38 (by decide) (ls' := [some (.ref l0), none, none, none, some (.int q17.1), some (.int l5), some (.int l6), some (.int l7)]) rfl ?_
          refine w_goto 12 dX35_rule_40 (by decide) ?_
          exact (ih _ _ _ _ _ _ _ hf).to ⟨rfl, rfl, rfl, rfl, rfl, trivial⟩
def fX35_rule (N : Nat) (sE : Nat → Int32 → eH → Option (Unit × eH)) (sL : Nat → Int32 → Int64 → Int64 → eH → Option (Int32 × eH)) (sN : Nat → eH → Option (Int32 × eH)) (this : Nat) (p0 : Int32) (p1 : Int32) (p2 : Int32) (h : eH) : Option (Unit × eH) :=
  fX35_rule_b12 N sE sL sN N this p0 p1 p2 (1 : Int32) h
theorem pX35_rule {w : eW} {d : Nat} {dr : Nat} (hd : dr + 11 ≤ d) (hdr : 12 ≤ dr) {N : Nat} {sE : Nat → Int32 → eH → Option (Unit × eH)} {sL : Nat → Int32 → Int64 → Int64 → eH → Option (Int32 × eH)} {sN : Nat → eH → Option (Int32 × eH)} (hsE : ∀ a t0 h q, sE a t0 h = some q → wm w dr YX35_expand [.ref a, .int t0] h (e_is (e_rn c_V q))) (hsL : ∀ a t0 t1 t2 h q, sL a t0 t1 t2 h = some q → wm w dr YX35_layBox [.ref a, .int t0, .long t1, .long t2] h (e_is (e_rn c_I q))) (hsN : ∀ a h q, sN a h = some q → wm w dr YX35_number [.ref a] h (e_is (e_rn c_I q))) {this : Nat} {p0 : Int32} {p1 : Int32} {p2 : Int32} {h : eH} {q} (hf : fX35_rule N sE sL sN this p0 p1 p2 h = some q) : wm w d YX35_rule [.ref this, .int p0, .int p1, .int p2] h (e_is (e_rn c_V q)) := by
  obtain ⟨d, rfl⟩ : ∃ e, d = e + 1 := ⟨d - 1, by omega⟩
  show wp w (d + 1) YX35_rule 0 [some (.ref this), some (.int p0), some (.int p1), some (.int p2), none, none, none, none] [] h _
  unfold fX35_rule at hf
  refine w_iload_n dX35_rule_0 rfl rfl ?_
  refine w_istore dX35_rule_1 (by decide) (ls' := [some (.ref this), some (.int p0), some (.int p1), some (.int p2), some (.int p0), none, none, none]) rfl ?_
  refine w_iload_n dX35_rule_3 rfl rfl ?_
  refine w_istore dX35_rule_4 (by decide) (ls' := [some (.ref this), some (.int p0), some (.int p1), some (.int p2), some (.int p0), some (.int p1), none, none]) rfl ?_
  refine w_iload_n dX35_rule_6 rfl rfl ?_
  refine w_istore dX35_rule_7 (by decide) (ls' := [some (.ref this), some (.int p0), some (.int p1), some (.int p2), some (.int p0), some (.int p1), some (.int p2), none]) rfl ?_
  refine w_iconst dX35_rule_9 (v := 1) (by decide) ?_
  refine w_istore dX35_rule_10 (by decide) (ls' := [some (.ref this), some (.int p0), some (.int p1), some (.int p2), some (.int p0), some (.int p1), some (.int p2), some (.int (1 : Int32))]) rfl ?_
  exact (pX35_rule_b12 hd hdr hsE hsL hsN N _ _ _ _ _ _ _ hf).to ⟨rfl, rfl, rfl, rfl, rfl, trivial⟩
abbrev cX35_indent : ByteArray := prog_37_method_181_code
def yX35_indent : MethodName := ⟨RX35, "indent", "()V"⟩
def YX35_indent : eY := (yX35_indent, cX35_indent, 2, none, [])
theorem mX35_indent : e_mv YX35_indent RX35 0 := ⟨q6038, qs422, q6039, by decide, by decide +kernel, (e_sig (by decide +kernel))⟩
theorem dX35_indent_0 : decode cX35_indent 0 = .ok (.aload_n 0, 1) := dc_42 (by decide +kernel)
theorem dX35_indent_1 : decode cX35_indent 1 = .ok (.invokevirtual 810, 3) := dc_182 (a := 3) (b := 42) (n := 810) (by decide +kernel)
theorem dX35_indent_4 : decode cX35_indent 4 = .ok (.ifCond .eq 9, 3) := dc_153 (a := 0) (b := 9) (v := 9) (by decide +kernel)
theorem dX35_indent_7 : decode cX35_indent 7 = .ok (.aload_n 0, 1) := dc_42 (by decide +kernel)
theorem dX35_indent_8 : decode cX35_indent 8 = .ok (.iconst 1, 1) := dc_4 (by decide +kernel)
theorem dX35_indent_9 : decode cX35_indent 9 = .ok (.invokevirtual 869, 3) := dc_182 (a := 3) (b := 101) (n := 869) (by decide +kernel)
theorem dX35_indent_12 : decode cX35_indent 12 = .ok (.return_, 1) := dc_177 (by decide +kernel)
theorem dX35_indent_13 : decode cX35_indent 13 = .ok (.aload_n 0, 1) := dc_42 (by decide +kernel)
theorem dX35_indent_14 : decode cX35_indent 14 = .ok (.aload_n 0, 1) := dc_42 (by decide +kernel)
theorem dX35_indent_15 : decode cX35_indent 15 = .ok (.getfield 136, 3) := dc_180 (a := 0) (b := 136) (n := 136) (by decide +kernel)
theorem dX35_indent_18 : decode cX35_indent 18 = .ok (.aload_n 0, 1) := dc_42 (by decide +kernel)
theorem dX35_indent_19 : decode cX35_indent 19 = .ok (.getfield 370, 3) := dc_180 (a := 1) (b := 114) (n := 370) (by decide +kernel)
theorem dX35_indent_22 : decode cX35_indent 22 = .ok (.aload_n 0, 1) := dc_42 (by decide +kernel)
theorem dX35_indent_23 : decode cX35_indent 23 = .ok (.getfield 370, 3) := dc_180 (a := 1) (b := 114) (n := 370) (by decide +kernel)
theorem dX35_indent_26 : decode cX35_indent 26 = .ok (.iconst 0, 1) := dc_3 (by decide +kernel)
theorem dX35_indent_27 : decode cX35_indent 27 = .ok (.iconst 1, 1) := dc_4 (by decide +kernel)
theorem dX35_indent_28 : decode cX35_indent 28 = .ok (.aload_n 0, 1) := dc_42 (by decide +kernel)
theorem dX35_indent_29 : decode cX35_indent 29 = .ok (.sipush 2243, 3) := dc_17 (a := 8) (b := 195) (v := 2243) (by decide +kernel)
theorem dX35_indent_32 : decode cX35_indent 32 = .ok (.invokevirtual 431, 3) := dc_182 (a := 1) (b := 175) (n := 431) (by decide +kernel)
theorem dX35_indent_35 : decode cX35_indent 35 = .ok (.invokevirtual 879, 3) := dc_182 (a := 3) (b := 111) (n := 879) (by decide +kernel)
theorem dX35_indent_38 : decode cX35_indent 38 = .ok (.istore_n 1, 1) := dc_60 (by decide +kernel)
theorem dX35_indent_39 : decode cX35_indent 39 = .ok (.aload_n 0, 1) := dc_42 (by decide +kernel)
theorem dX35_indent_40 : decode cX35_indent 40 = .ok (.getfield 321, 3) := dc_180 (a := 1) (b := 65) (n := 321) (by decide +kernel)
theorem dX35_indent_43 : decode cX35_indent 43 = .ok (.ifCond .ne 9, 3) := dc_154 (a := 0) (b := 9) (v := 9) (by decide +kernel)
theorem dX35_indent_46 : decode cX35_indent 46 = .ok (.aload_n 0, 1) := dc_42 (by decide +kernel)
theorem dX35_indent_47 : decode cX35_indent 47 = .ok (.iload_n 1, 1) := dc_27 (by decide +kernel)
theorem dX35_indent_48 : decode cX35_indent 48 = .ok (.iconst 0, 1) := dc_3 (by decide +kernel)
theorem dX35_indent_49 : decode cX35_indent 49 = .ok (.invokevirtual 883, 3) := dc_182 (a := 3) (b := 115) (n := 883) (by decide +kernel)
theorem dX35_indent_52 : decode cX35_indent 52 = .ok (.return_, 1) := dc_177 (by decide +kernel)
def fX35_indent_b52 (N : Nat) (sL : Nat → Int32 → Int64 → Int64 → eH → Option (Int32 × eH))  (h : eH) : Option (Unit × eH) :=
  some ((), h)
theorem pX35_indent_b52 {w : eW} {d : Nat} {dr : Nat} (hd : dr + 13 ≤ d + 1) (hdr : 12 ≤ dr) {N : Nat} {sL : Nat → Int32 → Int64 → Int64 → eH → Option (Int32 × eH)} (hsL : ∀ a t0 t1 t2 h q, sL a t0 t1 t2 h = some q → wm w dr YX35_layBox [.ref a, .int t0, .long t1, .long t2] h (e_is (e_rn c_I q)))  {h : eH} {q} (hf : fX35_indent_b52 N sL h = some q) : wp w (d + 1) YX35_indent 52 [none, none] [] h (e_is (e_rn c_V q)) := by
  unfold fX35_indent_b52 at hf
  cases hf
  exact w_vret dX35_indent_52 rfl rfl
def fX35_indent (N : Nat) (sL : Nat → Int32 → Int64 → Int64 → eH → Option (Int32 × eH)) (this : Nat) (h : eH) : Option (Unit × eH) :=
  (k_ok 34 h this).bind fun _ =>
  (fX35_isVertical this h).bind fun q2 =>
  if q2.1 = 0 then
    (g_A 34 q2.2 this 55).bind fun a4 =>
    (g_I 34 q2.2 this 56).bind fun x6 =>
    (g_I 34 q2.2 this 56).bind fun x8 =>
    (k_ok 34 q2.2 this).bind fun _ =>
    (fX35_now this (2243 : Int32) q2.2).bind fun q11 =>
    (k_ok 34 q11.2 this).bind fun _ =>
    (fX35_pack N this a4 x6 x8 (0 : Int32) (1 : Int32) q11.1 q11.2).bind fun q13 =>
    (g_I 34 q13.2 this 46).bind fun x14 =>
    if ¬ x14 = 0 then
      fX35_indent_b52 N sL q13.2
    else
      (k_ok 34 q13.2 this).bind fun _ =>
      (fX35_boxItem N sL this q13.1 (0 : Int32) q13.2).bind fun q18 =>
      fX35_indent_b52 N sL q18.2
  else
    (k_ok 34 q2.2 this).bind fun _ =>
    (fX35_beginParagraph N sL this (1 : Int32) q2.2).bind fun q20 =>
    some ((), q20.2)
theorem pX35_indent {w : eW} {d : Nat} {dr : Nat} (hd : dr + 13 ≤ d) (hdr : 12 ≤ dr) {N : Nat} {sL : Nat → Int32 → Int64 → Int64 → eH → Option (Int32 × eH)} (hsL : ∀ a t0 t1 t2 h q, sL a t0 t1 t2 h = some q → wm w dr YX35_layBox [.ref a, .int t0, .long t1, .long t2] h (e_is (e_rn c_I q))) {this : Nat} {h : eH} {q} (hf : fX35_indent N sL this h = some q) : wm w d YX35_indent [.ref this] h (e_is (e_rn c_V q)) := by
  obtain ⟨d, rfl⟩ : ∃ e, d = e + 1 := ⟨d - 1, by omega⟩
  show wp w (d + 1) YX35_indent 0 [some (.ref this), none] [] h _
  unfold fX35_indent at hf
  refine w_aload_n dX35_indent_0 rfl rfl ?_
  obtain ⟨_, b1, hf⟩ := Option.bind_eq_some_iff.mp hf
  refine x_cnI hf (e_stV (Yc := YX35_isVertical) (ci := 34) (av := []) (st := []) dX35_indent_1 q5449 mX35_isVertical rfl (k_ok_some b1).1 (k_ok_some b1).2) mX35_isVertical.2.2.1 mX35_isVertical.2.2.2.2.1 (Nat.le_of_ble_eq_true rfl) (Nat.le_of_ble_eq_true rfl) (fun q hq => pX35_isVertical (by omega) hq) (fun q2 hf => ?_)
  refine w_if_eq 13 dX35_indent_4 (by decide) (fun c3 => ?_) (fun c3 => ?_)
  · replace hf := (if_pos (show q2.1 = 0 from c3)).symm.trans hf
    refine w_aload_n dX35_indent_13 rfl rfl ?_
    refine w_aload_n dX35_indent_14 rfl rfl ?_
    obtain ⟨a4, b5, hf⟩ := Option.bind_eq_some_iff.mp hf
    refine GX35_136 b5 dX35_indent_15 rfl ?_
    refine w_aload_n dX35_indent_18 rfl rfl ?_
    obtain ⟨x6, b7, hf⟩ := Option.bind_eq_some_iff.mp hf
    refine GX35_370 b7 dX35_indent_19 rfl ?_
    refine w_aload_n dX35_indent_22 rfl rfl ?_
    obtain ⟨x8, b9, hf⟩ := Option.bind_eq_some_iff.mp hf
    refine GX35_370 b9 dX35_indent_23 rfl ?_
    refine w_iconst dX35_indent_26 (v := 0) (by decide) ?_
    refine w_iconst dX35_indent_27 (v := 1) (by decide) ?_
    refine w_aload_n dX35_indent_28 rfl rfl ?_
    refine w_sipush dX35_indent_29 (v := 2243) (by decide) ?_
    obtain ⟨_, b10, hf⟩ := Option.bind_eq_some_iff.mp hf
    refine x_cnI hf (e_stV (Yc := YX35_now) (ci := 34) (av := [.int (2243 : Int32)]) (st := [.int (1 : Int32), .int (0 : Int32), .int x8, .int x6, .ref a4, .ref this]) dX35_indent_32 q5097 mX35_now rfl (k_ok_some b10).1 (k_ok_some b10).2) mX35_now.2.2.1 mX35_now.2.2.2.2.1 (Nat.le_of_ble_eq_true rfl) (Nat.le_of_ble_eq_true rfl) (fun q hq => pX35_now (by omega) hq) (fun q11 hf => ?_)
    obtain ⟨_, b12, hf⟩ := Option.bind_eq_some_iff.mp hf
    refine x_cnI hf (e_stV (Yc := YX35_pack) (ci := 34) (av := [.ref a4, .int x6, .int x8, .int (0 : Int32), .int (1 : Int32), .int q11.1]) (st := []) dX35_indent_35 q5654 mX35_pack rfl (k_ok_some b12).1 (k_ok_some b12).2) mX35_pack.2.2.1 mX35_pack.2.2.2.2.1 (Nat.le_of_ble_eq_true rfl) (Nat.le_of_ble_eq_true rfl) (fun q hq => pX35_pack (by omega) hq) (fun q13 hf => ?_)
    refine w_istore_n dX35_indent_38 rfl (by decide) (ls' := [some (.ref this), some (.int q13.1)]) rfl ?_
    refine w_aload_n dX35_indent_39 rfl rfl ?_
    obtain ⟨x14, b15, hf⟩ := Option.bind_eq_some_iff.mp hf
    refine GX35_321 b15 dX35_indent_40 rfl ?_
    refine w_if_ne 52 dX35_indent_43 (by decide) (fun c16 => ?_) (fun c16 => ?_)
    · replace hf := (if_pos (show ¬ x14 = 0 from c16)).symm.trans hf
      exact (pX35_indent_b52 hd hdr hsL hf).to trivial
    · replace hf := (if_neg (show ¬ (¬ x14 = 0) from (fun z => z c16))).symm.trans hf
      refine w_aload_n dX35_indent_46 rfl rfl ?_
      refine w_iload_n dX35_indent_47 rfl rfl ?_
      refine w_iconst dX35_indent_48 (v := 0) (by decide) ?_
      obtain ⟨_, b17, hf⟩ := Option.bind_eq_some_iff.mp hf
      refine x_cnV hf (e_stV (Yc := YX35_boxItem) (ci := 34) (av := [.int q13.1, .int (0 : Int32)]) (st := []) dX35_indent_49 q5663 mX35_boxItem rfl (k_ok_some b17).1 (k_ok_some b17).2) mX35_boxItem.2.2.1 mX35_boxItem.2.2.2.2.1 (Nat.le_of_ble_eq_true rfl) (Nat.le_of_ble_eq_true rfl) (fun q hq => pX35_boxItem (by omega) hdr hsL hq) (fun q18 hf => ?_)
      exact (pX35_indent_b52 hd hdr hsL hf).to trivial
  · replace hf := (if_neg (show ¬ (q2.1 = 0) from c3)).symm.trans hf
    refine w_aload_n dX35_indent_7 rfl rfl ?_
    refine w_iconst dX35_indent_8 (v := 1) (by decide) ?_
    obtain ⟨_, b19, hf⟩ := Option.bind_eq_some_iff.mp hf
    refine x_cnV hf (e_stV (Yc := YX35_beginParagraph) (ci := 34) (av := [.int (1 : Int32)]) (st := []) dX35_indent_9 q5453 mX35_beginParagraph rfl (k_ok_some b19).1 (k_ok_some b19).2) mX35_beginParagraph.2.2.1 mX35_beginParagraph.2.2.2.2.1 (Nat.le_of_ble_eq_true rfl) (Nat.le_of_ble_eq_true rfl) (fun q hq => pX35_beginParagraph (by omega) hdr hsL hq) (fun q20 hf => ?_)
    cases hf
    exact w_vret dX35_indent_12 rfl rfl
abbrev cX35_readBox : ByteArray := prog_37_method_169_code
def yX35_readBox : MethodName := ⟨RX35, "readBox", "(IIZ)V"⟩
def YX35_readBox : eY := (yX35_readBox, cX35_readBox, 5, none, [])
theorem mX35_readBox : e_mv YX35_readBox RX35 3 := ⟨q5985, qs410, q5986, by decide, by decide +kernel, (e_sig (by decide +kernel))⟩
theorem dX35_readBox_0 : decode cX35_readBox 0 = .ok (.aload_n 0, 1) := dc_42 (by decide +kernel)
theorem dX35_readBox_1 : decode cX35_readBox 1 = .ok (.aload_n 0, 1) := dc_42 (by decide +kernel)
theorem dX35_readBox_2 : decode cX35_readBox 2 = .ok (.invokevirtual 1143, 3) := dc_182 (a := 4) (b := 119) (n := 1143) (by decide +kernel)
theorem dX35_readBox_5 : decode cX35_readBox 5 = .ok (.invokevirtual 621, 3) := dc_182 (a := 2) (b := 109) (n := 621) (by decide +kernel)
theorem dX35_readBox_8 : decode cX35_readBox 8 = .ok (.istore 4, 2) := dc_54 (a := 4) (by decide +kernel)
theorem dX35_readBox_10 : decode cX35_readBox 10 = .ok (.aload_n 0, 1) := dc_42 (by decide +kernel)
theorem dX35_readBox_11 : decode cX35_readBox 11 = .ok (.getfield 321, 3) := dc_180 (a := 1) (b := 65) (n := 321) (by decide +kernel)
theorem dX35_readBox_14 : decode cX35_readBox 14 = .ok (.ifCond .ne 12, 3) := dc_154 (a := 0) (b := 12) (v := 12) (by decide +kernel)
theorem dX35_readBox_17 : decode cX35_readBox 17 = .ok (.aload_n 0, 1) := dc_42 (by decide +kernel)
theorem dX35_readBox_18 : decode cX35_readBox 18 = .ok (.iload 4, 2) := dc_21 (a := 4) (by decide +kernel)
theorem dX35_readBox_20 : decode cX35_readBox 20 = .ok (.iload_n 1, 1) := dc_27 (by decide +kernel)
theorem dX35_readBox_21 : decode cX35_readBox 21 = .ok (.iload_n 2, 1) := dc_28 (by decide +kernel)
theorem dX35_readBox_22 : decode cX35_readBox 22 = .ok (.iload_n 3, 1) := dc_29 (by decide +kernel)
theorem dX35_readBox_23 : decode cX35_readBox 23 = .ok (.invokevirtual 1146, 3) := dc_182 (a := 4) (b := 122) (n := 1146) (by decide +kernel)
theorem dX35_readBox_26 : decode cX35_readBox 26 = .ok (.return_, 1) := dc_177 (by decide +kernel)
def fX35_readBox_b26 (N : Nat) (sE : Nat → Int32 → eH → Option (Unit × eH)) (sL : Nat → Int32 → Int64 → Int64 → eH → Option (Int32 × eH)) (sN : Nat → eH → Option (Int32 × eH))  (h : eH) : Option (Unit × eH) :=
  some ((), h)
theorem pX35_readBox_b26 {w : eW} {d : Nat} {dr : Nat} (hd : dr + 14 ≤ d + 1) (hdr : 12 ≤ dr) {N : Nat} {sE : Nat → Int32 → eH → Option (Unit × eH)} {sL : Nat → Int32 → Int64 → Int64 → eH → Option (Int32 × eH)} {sN : Nat → eH → Option (Int32 × eH)} (hsE : ∀ a t0 h q, sE a t0 h = some q → wm w dr YX35_expand [.ref a, .int t0] h (e_is (e_rn c_V q))) (hsL : ∀ a t0 t1 t2 h q, sL a t0 t1 t2 h = some q → wm w dr YX35_layBox [.ref a, .int t0, .long t1, .long t2] h (e_is (e_rn c_I q))) (hsN : ∀ a h q, sN a h = some q → wm w dr YX35_number [.ref a] h (e_is (e_rn c_I q)))  {h : eH} {q} (hf : fX35_readBox_b26 N sE sL sN h = some q) : wp w (d + 1) YX35_readBox 26 [none, none, none, none, none] [] h (e_is (e_rn c_V q)) := by
  unfold fX35_readBox_b26 at hf
  cases hf
  exact w_vret dX35_readBox_26 rfl rfl
def fX35_readBox (N : Nat) (sE : Nat → Int32 → eH → Option (Unit × eH)) (sL : Nat → Int32 → Int64 → Int64 → eH → Option (Int32 × eH)) (sN : Nat → eH → Option (Int32 × eH)) (this : Nat) (p0 : Int32) (p1 : Int32) (p2 : Int32) (h : eH) : Option (Unit × eH) :=
  (k_ok 34 h this).bind fun _ =>
  (fX35_needSolid N sE this h).bind fun q2 =>
  (k_ok 34 q2.2 this).bind fun _ =>
  (fX35_primitiveOf this q2.1 q2.2).bind fun q4 =>
  (g_I 34 q4.2 this 46).bind fun x5 =>
  if ¬ x5 = 0 then
    fX35_readBox_b26 N sE sL sN q4.2
  else
    (k_ok 34 q4.2 this).bind fun _ =>
    (fX35_readFrom N sE sL sN this q4.1 p0 p1 p2 q4.2).bind fun q9 =>
    fX35_readBox_b26 N sE sL sN q9.2
theorem pX35_readBox {w : eW} {d : Nat} {dr : Nat} (hd : dr + 14 ≤ d) (hdr : 12 ≤ dr) {N : Nat} {sE : Nat → Int32 → eH → Option (Unit × eH)} {sL : Nat → Int32 → Int64 → Int64 → eH → Option (Int32 × eH)} {sN : Nat → eH → Option (Int32 × eH)} (hsE : ∀ a t0 h q, sE a t0 h = some q → wm w dr YX35_expand [.ref a, .int t0] h (e_is (e_rn c_V q))) (hsL : ∀ a t0 t1 t2 h q, sL a t0 t1 t2 h = some q → wm w dr YX35_layBox [.ref a, .int t0, .long t1, .long t2] h (e_is (e_rn c_I q))) (hsN : ∀ a h q, sN a h = some q → wm w dr YX35_number [.ref a] h (e_is (e_rn c_I q))) {this : Nat} {p0 : Int32} {p1 : Int32} {p2 : Int32} {h : eH} {q} (hf : fX35_readBox N sE sL sN this p0 p1 p2 h = some q) : wm w d YX35_readBox [.ref this, .int p0, .int p1, .int p2] h (e_is (e_rn c_V q)) := by
  obtain ⟨d, rfl⟩ : ∃ e, d = e + 1 := ⟨d - 1, by omega⟩
  show wp w (d + 1) YX35_readBox 0 [some (.ref this), some (.int p0), some (.int p1), some (.int p2), none] [] h _
  unfold fX35_readBox at hf
  refine w_aload_n dX35_readBox_0 rfl rfl ?_
  refine w_aload_n dX35_readBox_1 rfl rfl ?_
  obtain ⟨_, b1, hf⟩ := Option.bind_eq_some_iff.mp hf
  refine x_cnI hf (e_stV (Yc := YX35_needSolid) (ci := 34) (av := []) (st := [.ref this]) dX35_readBox_2 q5911 mX35_needSolid rfl (k_ok_some b1).1 (k_ok_some b1).2) mX35_needSolid.2.2.1 mX35_needSolid.2.2.2.2.1 (Nat.le_of_ble_eq_true rfl) (Nat.le_of_ble_eq_true rfl) (fun q hq => pX35_needSolid (by omega) hdr hsE hq) (fun q2 hf => ?_)
  obtain ⟨_, b3, hf⟩ := Option.bind_eq_some_iff.mp hf
  refine x_cnI hf (e_stV (Yc := YX35_primitiveOf) (ci := 34) (av := [.int q2.1]) (st := []) dX35_readBox_5 q5254 mX35_primitiveOf rfl (k_ok_some b3).1 (k_ok_some b3).2) mX35_primitiveOf.2.2.1 mX35_primitiveOf.2.2.2.2.1 (Nat.le_of_ble_eq_true rfl) (Nat.le_of_ble_eq_true rfl) (fun q hq => pX35_primitiveOf (by omega) hq) (fun q4 hf => ?_)
  refine w_istore dX35_readBox_8 (by decide) (ls' := [some (.ref this), some (.int p0), some (.int p1), some (.int p2), some (.int q4.1)]) rfl ?_
  refine w_aload_n dX35_readBox_10 rfl rfl ?_
  obtain ⟨x5, b6, hf⟩ := Option.bind_eq_some_iff.mp hf
  refine GX35_321 b6 dX35_readBox_11 rfl ?_
  refine w_if_ne 26 dX35_readBox_14 (by decide) (fun c7 => ?_) (fun c7 => ?_)
  · replace hf := (if_pos (show ¬ x5 = 0 from c7)).symm.trans hf
    exact (pX35_readBox_b26 hd hdr hsE hsL hsN hf).to trivial
  · replace hf := (if_neg (show ¬ (¬ x5 = 0) from (fun z => z c7))).symm.trans hf
    refine w_aload_n dX35_readBox_17 rfl rfl ?_
    refine w_iload dX35_readBox_18 rfl ?_
    refine w_iload_n dX35_readBox_20 rfl rfl ?_
    refine w_iload_n dX35_readBox_21 rfl rfl ?_
    refine w_iload_n dX35_readBox_22 rfl rfl ?_
    obtain ⟨_, b8, hf⟩ := Option.bind_eq_some_iff.mp hf
    refine x_cnV hf (e_stV (Yc := YX35_readFrom) (ci := 34) (av := [.int q4.1, .int p0, .int p1, .int p2]) (st := []) dX35_readBox_23 q5987 mX35_readFrom rfl (k_ok_some b8).1 (k_ok_some b8).2) mX35_readFrom.2.2.1 mX35_readFrom.2.2.2.2.1 (Nat.le_of_ble_eq_true rfl) (Nat.le_of_ble_eq_true rfl) (fun q hq => pX35_readFrom (by omega) hdr hsE hsL hsN hq) (fun q9 hf => ?_)
    exact (pX35_readBox_b26 hd hdr hsE hsL hsN hf).to trivial
abbrev cX35_shifted : ByteArray := prog_37_method_182_code
def yX35_shifted : MethodName := ⟨RX35, "shifted", "(ZZ)V"⟩
def YX35_shifted : eY := (yX35_shifted, cX35_shifted, 4, none, [])
theorem mX35_shifted : e_mv YX35_shifted RX35 2 := ⟨q6042, qs423, q6043, by decide, by decide +kernel, (e_sig (by decide +kernel))⟩
theorem dX35_shifted_0 : decode cX35_shifted 0 = .ok (.iload_n 1, 1) := dc_27 (by decide +kernel)
theorem dX35_shifted_1 : decode cX35_shifted 1 = .ok (.ifCond .eq 10, 3) := dc_153 (a := 0) (b := 10) (v := 10) (by decide +kernel)
theorem dX35_shifted_4 : decode cX35_shifted 4 = .ok (.aload_n 0, 1) := dc_42 (by decide +kernel)
theorem dX35_shifted_5 : decode cX35_shifted 5 = .ok (.bipush 15, 2) := dc_16 (a := 15) (v := 15) (by decide +kernel)
theorem dX35_shifted_7 : decode cX35_shifted 7 = .ok (.invokevirtual 428, 3) := dc_182 (a := 1) (b := 172) (n := 428) (by decide +kernel)
theorem dX35_shifted_10 : decode cX35_shifted 10 = .ok (.return_, 1) := dc_177 (by decide +kernel)
theorem dX35_shifted_11 : decode cX35_shifted 11 = .ok (.aload_n 0, 1) := dc_42 (by decide +kernel)
theorem dX35_shifted_12 : decode cX35_shifted 12 = .ok (.invokevirtual 614, 3) := dc_182 (a := 2) (b := 102) (n := 614) (by decide +kernel)
theorem dX35_shifted_15 : decode cX35_shifted 15 = .ok (.istore_n 3, 1) := dc_62 (by decide +kernel)
theorem dX35_shifted_16 : decode cX35_shifted 16 = .ok (.aload_n 0, 1) := dc_42 (by decide +kernel)
theorem dX35_shifted_17 : decode cX35_shifted 17 = .ok (.getfield 321, 3) := dc_180 (a := 1) (b := 65) (n := 321) (by decide +kernel)
theorem dX35_shifted_20 : decode cX35_shifted 20 = .ok (.ifCond .ne 19, 3) := dc_154 (a := 0) (b := 19) (v := 19) (by decide +kernel)
theorem dX35_shifted_23 : decode cX35_shifted 23 = .ok (.aload_n 0, 1) := dc_42 (by decide +kernel)
theorem dX35_shifted_24 : decode cX35_shifted 24 = .ok (.iconst (-1), 1) := dc_2 (by decide +kernel)
theorem dX35_shifted_25 : decode cX35_shifted 25 = .ok (.iload_n 2, 1) := dc_28 (by decide +kernel)
theorem dX35_shifted_26 : decode cX35_shifted 26 = .ok (.ifCond .eq 8, 3) := dc_153 (a := 0) (b := 8) (v := 8) (by decide +kernel)
theorem dX35_shifted_29 : decode cX35_shifted 29 = .ok (.iload_n 3, 1) := dc_29 (by decide +kernel)
theorem dX35_shifted_30 : decode cX35_shifted 30 = .ok (.ineg, 1) := dc_116 (by decide +kernel)
theorem dX35_shifted_31 : decode cX35_shifted 31 = .ok (.goto 4, 3) := dc_167 (a := 0) (b := 4) (v := 4) (by decide +kernel)
theorem dX35_shifted_34 : decode cX35_shifted 34 = .ok (.iload_n 3, 1) := dc_29 (by decide +kernel)
theorem dX35_shifted_35 : decode cX35_shifted 35 = .ok (.iconst 0, 1) := dc_3 (by decide +kernel)
theorem dX35_shifted_36 : decode cX35_shifted 36 = .ok (.invokevirtual 1221, 3) := dc_182 (a := 4) (b := 197) (n := 1221) (by decide +kernel)
theorem dX35_shifted_39 : decode cX35_shifted 39 = .ok (.return_, 1) := dc_177 (by decide +kernel)
def fX35_shifted_b39 (N : Nat) (sE : Nat → Int32 → eH → Option (Unit × eH)) (sL : Nat → Int32 → Int64 → Int64 → eH → Option (Int32 × eH)) (sN : Nat → eH → Option (Int32 × eH))  (h : eH) : Option (Unit × eH) :=
  some ((), h)
theorem pX35_shifted_b39 {w : eW} {d : Nat} {dr : Nat} (hd : dr + 15 ≤ d + 1) (hdr : 12 ≤ dr) {N : Nat} {sE : Nat → Int32 → eH → Option (Unit × eH)} {sL : Nat → Int32 → Int64 → Int64 → eH → Option (Int32 × eH)} {sN : Nat → eH → Option (Int32 × eH)} (hsE : ∀ a t0 h q, sE a t0 h = some q → wm w dr YX35_expand [.ref a, .int t0] h (e_is (e_rn c_V q))) (hsL : ∀ a t0 t1 t2 h q, sL a t0 t1 t2 h = some q → wm w dr YX35_layBox [.ref a, .int t0, .long t1, .long t2] h (e_is (e_rn c_I q))) (hsN : ∀ a h q, sN a h = some q → wm w dr YX35_number [.ref a] h (e_is (e_rn c_I q)))  {h : eH} {q} (hf : fX35_shifted_b39 N sE sL sN h = some q) : wp w (d + 1) YX35_shifted 39 [none, none, none, none] [] h (e_is (e_rn c_V q)) := by
  unfold fX35_shifted_b39 at hf
  cases hf
  exact w_vret dX35_shifted_39 rfl rfl
def fX35_shifted_b35 (N : Nat) (sE : Nat → Int32 → eH → Option (Unit × eH)) (sL : Nat → Int32 → Int64 → Int64 → eH → Option (Int32 × eH)) (sN : Nat → eH → Option (Int32 × eH)) (s0 : Nat) (s1 : Int32) (s2 : Int32) (h : eH) : Option (Unit × eH) :=
  (k_ok 34 h s0).bind fun _ =>
  (fX35_readBox N sE sL sN s0 s1 s2 (0 : Int32) h).bind fun q2 =>
  fX35_shifted_b39 N sE sL sN q2.2
theorem pX35_shifted_b35 {w : eW} {d : Nat} {dr : Nat} (hd : dr + 15 ≤ d + 1) (hdr : 12 ≤ dr) {N : Nat} {sE : Nat → Int32 → eH → Option (Unit × eH)} {sL : Nat → Int32 → Int64 → Int64 → eH → Option (Int32 × eH)} {sN : Nat → eH → Option (Int32 × eH)} (hsE : ∀ a t0 h q, sE a t0 h = some q → wm w dr YX35_expand [.ref a, .int t0] h (e_is (e_rn c_V q))) (hsL : ∀ a t0 t1 t2 h q, sL a t0 t1 t2 h = some q → wm w dr YX35_layBox [.ref a, .int t0, .long t1, .long t2] h (e_is (e_rn c_I q))) (hsN : ∀ a h q, sN a h = some q → wm w dr YX35_number [.ref a] h (e_is (e_rn c_I q))) {s0 : Nat} {s1 : Int32} {s2 : Int32} {h : eH} {q} (hf : fX35_shifted_b35 N sE sL sN s0 s1 s2 h = some q) : wp w (d + 1) YX35_shifted 35 [none, none, none, none] [.int s2, .int s1, .ref s0] h (e_is (e_rn c_V q)) := by
  unfold fX35_shifted_b35 at hf
  refine w_iconst dX35_shifted_35 (v := 0) (by decide) ?_
  obtain ⟨_, b1, hf⟩ := Option.bind_eq_some_iff.mp hf
  refine x_cnV hf (e_stV (Yc := YX35_readBox) (ci := 34) (av := [.int s1, .int s2, .int (0 : Int32)]) (st := []) dX35_shifted_36 q5983 mX35_readBox rfl (k_ok_some b1).1 (k_ok_some b1).2) mX35_readBox.2.2.1 mX35_readBox.2.2.2.2.1 (Nat.le_of_ble_eq_true rfl) (Nat.le_of_ble_eq_true rfl) (fun q hq => pX35_readBox (by omega) hdr hsE hsL hsN hq) (fun q2 hf => ?_)
  exact (pX35_shifted_b39 hd hdr hsE hsL hsN hf).to trivial
def fX35_shifted (N : Nat) (sE : Nat → Int32 → eH → Option (Unit × eH)) (sL : Nat → Int32 → Int64 → Int64 → eH → Option (Int32 × eH)) (sN : Nat → eH → Option (Int32 × eH)) (this : Nat) (p0 : Int32) (p1 : Int32) (h : eH) : Option (Unit × eH) :=
  if p0 = 0 then
    (k_ok 34 h this).bind fun _ =>
    (fX35_dimension N sE sN this h).bind fun q3 =>
    (g_I 34 q3.2 this 46).bind fun x4 =>
    if ¬ x4 = 0 then
      fX35_shifted_b39 N sE sL sN q3.2
    else
      if p1 = 0 then
        fX35_shifted_b35 N sE sL sN this (-1 : Int32) q3.1 q3.2
      else
        fX35_shifted_b35 N sE sL sN this (-1 : Int32) (-q3.1) q3.2
  else
    (k_ok 34 h this).bind fun _ =>
    (fX35_fail this (15 : Int32) h).bind fun q9 =>
    some ((), q9.2)
theorem pX35_shifted {w : eW} {d : Nat} {dr : Nat} (hd : dr + 15 ≤ d) (hdr : 12 ≤ dr) {N : Nat} {sE : Nat → Int32 → eH → Option (Unit × eH)} {sL : Nat → Int32 → Int64 → Int64 → eH → Option (Int32 × eH)} {sN : Nat → eH → Option (Int32 × eH)} (hsE : ∀ a t0 h q, sE a t0 h = some q → wm w dr YX35_expand [.ref a, .int t0] h (e_is (e_rn c_V q))) (hsL : ∀ a t0 t1 t2 h q, sL a t0 t1 t2 h = some q → wm w dr YX35_layBox [.ref a, .int t0, .long t1, .long t2] h (e_is (e_rn c_I q))) (hsN : ∀ a h q, sN a h = some q → wm w dr YX35_number [.ref a] h (e_is (e_rn c_I q))) {this : Nat} {p0 : Int32} {p1 : Int32} {h : eH} {q} (hf : fX35_shifted N sE sL sN this p0 p1 h = some q) : wm w d YX35_shifted [.ref this, .int p0, .int p1] h (e_is (e_rn c_V q)) := by
  obtain ⟨d, rfl⟩ : ∃ e, d = e + 1 := ⟨d - 1, by omega⟩
  show wp w (d + 1) YX35_shifted 0 [some (.ref this), some (.int p0), some (.int p1), none] [] h _
  unfold fX35_shifted at hf
  refine w_iload_n dX35_shifted_0 rfl rfl ?_
  refine w_if_eq 11 dX35_shifted_1 (by decide) (fun c1 => ?_) (fun c1 => ?_)
  · replace hf := (if_pos (show p0 = 0 from c1)).symm.trans hf
    refine w_aload_n dX35_shifted_11 rfl rfl ?_
    obtain ⟨_, b2, hf⟩ := Option.bind_eq_some_iff.mp hf
    refine x_cnI hf (e_stV (Yc := YX35_dimension) (ci := 34) (av := []) (st := []) dX35_shifted_12 q5333 mX35_dimension rfl (k_ok_some b2).1 (k_ok_some b2).2) mX35_dimension.2.2.1 mX35_dimension.2.2.2.2.1 (Nat.le_of_ble_eq_true rfl) (Nat.le_of_ble_eq_true rfl) (fun q hq => pX35_dimension (by omega) hdr hsE hsN hq) (fun q3 hf => ?_)
    refine w_istore_n dX35_shifted_15 rfl (by decide) (ls' := [some (.ref this), some (.int p0), some (.int p1), some (.int q3.1)]) rfl ?_
    refine w_aload_n dX35_shifted_16 rfl rfl ?_
    obtain ⟨x4, b5, hf⟩ := Option.bind_eq_some_iff.mp hf
    refine GX35_321 b5 dX35_shifted_17 rfl ?_
    refine w_if_ne 39 dX35_shifted_20 (by decide) (fun c6 => ?_) (fun c6 => ?_)
    · replace hf := (if_pos (show ¬ x4 = 0 from c6)).symm.trans hf
      exact (pX35_shifted_b39 hd hdr hsE hsL hsN hf).to trivial
    · replace hf := (if_neg (show ¬ (¬ x4 = 0) from (fun z => z c6))).symm.trans hf
      refine w_aload_n dX35_shifted_23 rfl rfl ?_
      refine w_iconst dX35_shifted_24 (v := -1) (by decide) ?_
      refine w_iload_n dX35_shifted_25 rfl rfl ?_
      refine w_if_eq 34 dX35_shifted_26 (by decide) (fun c7 => ?_) (fun c7 => ?_)
      · replace hf := (if_pos (show p1 = 0 from c7)).symm.trans hf
        refine w_iload_n dX35_shifted_34 rfl rfl ?_
        exact (pX35_shifted_b35 hd hdr hsE hsL hsN hf).to trivial
      · replace hf := (if_neg (show ¬ (p1 = 0) from c7)).symm.trans hf
        refine w_iload_n dX35_shifted_29 rfl rfl ?_
        refine w_ineg dX35_shifted_30 ?_
        refine w_goto 35 dX35_shifted_31 (by decide) ?_
        exact (pX35_shifted_b35 hd hdr hsE hsL hsN hf).to trivial
  · replace hf := (if_neg (show ¬ (p0 = 0) from c1)).symm.trans hf
    refine w_aload_n dX35_shifted_4 rfl rfl ?_
    refine w_bipush dX35_shifted_5 (v := 15) (by decide) ?_
    obtain ⟨_, b8, hf⟩ := Option.bind_eq_some_iff.mp hf
    refine x_cnV hf (e_stV (Yc := YX35_fail) (ci := 34) (av := [.int (15 : Int32)]) (st := []) dX35_shifted_7 q5109 mX35_fail rfl (k_ok_some b8).1 (k_ok_some b8).2) mX35_fail.2.2.1 mX35_fail.2.2.2.2.1 (Nat.le_of_ble_eq_true rfl) (Nat.le_of_ble_eq_true rfl) (fun q hq => pX35_fail (by omega) hq) (fun q9 hf => ?_)
    cases hf
    exact w_vret dX35_shifted_10 rfl rfl
abbrev cX35_soft : ByteArray := prog_37_method_183_code
def yX35_soft : MethodName := ⟨RX35, "soft", "()V"⟩
def YX35_soft : eY := (yX35_soft, cX35_soft, 3, none, [])
theorem mX35_soft : e_mv YX35_soft RX35 0 := ⟨q6046, qs424, q6047, by decide, by decide +kernel, (e_sig (by decide +kernel))⟩
theorem dX35_soft_0 : decode cX35_soft 0 = .ok (.aload_n 0, 1) := dc_42 (by decide +kernel)
theorem dX35_soft_1 : decode cX35_soft 1 = .ok (.invokevirtual 587, 3) := dc_182 (a := 2) (b := 75) (n := 587) (by decide +kernel)
theorem dX35_soft_4 : decode cX35_soft 4 = .ok (.iconst 2, 1) := dc_5 (by decide +kernel)
theorem dX35_soft_5 : decode cX35_soft 5 = .ok (.if_icmp .eq 4, 3) := dc_159 (a := 0) (b := 4) (v := 4) (by decide +kernel)
theorem dX35_soft_8 : decode cX35_soft 8 = .ok (.return_, 1) := dc_177 (by decide +kernel)
theorem dX35_soft_9 : decode cX35_soft 9 = .ok (.aload_n 0, 1) := dc_42 (by decide +kernel)
theorem dX35_soft_10 : decode cX35_soft 10 = .ok (.sipush 3811, 3) := dc_17 (a := 14) (b := 227) (v := 3811) (by decide +kernel)
theorem dX35_soft_13 : decode cX35_soft 13 = .ok (.invokevirtual 431, 3) := dc_182 (a := 1) (b := 175) (n := 431) (by decide +kernel)
theorem dX35_soft_16 : decode cX35_soft 16 = .ok (.istore_n 1, 1) := dc_60 (by decide +kernel)
theorem dX35_soft_17 : decode cX35_soft 17 = .ok (.iload_n 1, 1) := dc_27 (by decide +kernel)
theorem dX35_soft_18 : decode cX35_soft 18 = .ok (.ifCond .lt 20, 3) := dc_155 (a := 0) (b := 20) (v := 20) (by decide +kernel)
theorem dX35_soft_21 : decode cX35_soft 21 = .ok (.aload_n 0, 1) := dc_42 (by decide +kernel)
theorem dX35_soft_22 : decode cX35_soft 22 = .ok (.iload_n 1, 1) := dc_27 (by decide +kernel)
theorem dX35_soft_23 : decode cX35_soft 23 = .ok (.invokevirtual 817, 3) := dc_182 (a := 3) (b := 49) (n := 817) (by decide +kernel)
theorem dX35_soft_26 : decode cX35_soft 26 = .ok (.bipush 45, 2) := dc_16 (a := 45) (v := 45) (by decide +kernel)
theorem dX35_soft_28 : decode cX35_soft 28 = .ok (.invokevirtual 857, 3) := dc_182 (a := 3) (b := 89) (n := 857) (by decide +kernel)
theorem dX35_soft_31 : decode cX35_soft 31 = .ok (.ifCond .eq 7, 3) := dc_153 (a := 0) (b := 7) (v := 7) (by decide +kernel)
theorem dX35_soft_34 : decode cX35_soft 34 = .ok (.iconst 1, 1) := dc_4 (by decide +kernel)
theorem dX35_soft_35 : decode cX35_soft 35 = .ok (.goto 4, 3) := dc_167 (a := 0) (b := 4) (v := 4) (by decide +kernel)
theorem dX35_soft_38 : decode cX35_soft 38 = .ok (.iconst 0, 1) := dc_3 (by decide +kernel)
theorem dX35_soft_39 : decode cX35_soft 39 = .ok (.istore_n 2, 1) := dc_61 (by decide +kernel)
theorem dX35_soft_40 : decode cX35_soft 40 = .ok (.aload_n 0, 1) := dc_42 (by decide +kernel)
theorem dX35_soft_41 : decode cX35_soft 41 = .ok (.bipush 6, 2) := dc_16 (a := 6) (v := 6) (by decide +kernel)
theorem dX35_soft_43 : decode cX35_soft 43 = .ok (.iload_n 2, 1) := dc_28 (by decide +kernel)
theorem dX35_soft_44 : decode cX35_soft 44 = .ok (.ifCond .eq 7, 3) := dc_153 (a := 0) (b := 7) (v := 7) (by decide +kernel)
theorem dX35_soft_47 : decode cX35_soft 47 = .ok (.iload_n 1, 1) := dc_27 (by decide +kernel)
theorem dX35_soft_48 : decode cX35_soft 48 = .ok (.goto 4, 3) := dc_167 (a := 0) (b := 4) (v := 4) (by decide +kernel)
theorem dX35_soft_51 : decode cX35_soft 51 = .ok (.iconst (-1), 1) := dc_2 (by decide +kernel)
theorem dX35_soft_52 : decode cX35_soft 52 = .ok (.iconst 0, 1) := dc_3 (by decide +kernel)
theorem dX35_soft_53 : decode cX35_soft 53 = .ok (.iload_n 2, 1) := dc_28 (by decide +kernel)
theorem dX35_soft_54 : decode cX35_soft 54 = .ok (.ifCond .eq 23, 3) := dc_153 (a := 0) (b := 23) (v := 23) (by decide +kernel)
theorem dX35_soft_57 : decode cX35_soft 57 = .ok (.aload_n 0, 1) := dc_42 (by decide +kernel)
theorem dX35_soft_58 : decode cX35_soft 58 = .ok (.iload_n 1, 1) := dc_27 (by decide +kernel)
theorem dX35_soft_59 : decode cX35_soft 59 = .ok (.invokevirtual 817, 3) := dc_182 (a := 3) (b := 49) (n := 817) (by decide +kernel)
theorem dX35_soft_62 : decode cX35_soft 62 = .ok (.bipush 45, 2) := dc_16 (a := 45) (v := 45) (by decide +kernel)
theorem dX35_soft_64 : decode cX35_soft 64 = .ok (.iconst 0, 1) := dc_3 (by decide +kernel)
theorem dX35_soft_65 : decode cX35_soft 65 = .ok (.aload_n 0, 1) := dc_42 (by decide +kernel)
theorem dX35_soft_66 : decode cX35_soft 66 = .ok (.getfield 124, 3) := dc_180 (a := 0) (b := 124) (n := 124) (by decide +kernel)
theorem dX35_soft_69 : decode cX35_soft 69 = .ok (.iload_n 1, 1) := dc_27 (by decide +kernel)
theorem dX35_soft_70 : decode cX35_soft 70 = .ok (.iaload, 1) := dc_46 (by decide +kernel)
theorem dX35_soft_71 : decode cX35_soft 71 = .ok (.invokevirtual 821, 3) := dc_182 (a := 3) (b := 53) (n := 821) (by decide +kernel)
theorem dX35_soft_74 : decode cX35_soft 74 = .ok (.goto 4, 3) := dc_167 (a := 0) (b := 4) (v := 4) (by decide +kernel)
theorem dX35_soft_77 : decode cX35_soft 77 = .ok (.iconst 0, 1) := dc_3 (by decide +kernel)
theorem dX35_soft_78 : decode cX35_soft 78 = .ok (.iconst 0, 1) := dc_3 (by decide +kernel)
theorem dX35_soft_79 : decode cX35_soft 79 = .ok (.iconst 0, 1) := dc_3 (by decide +kernel)
theorem dX35_soft_80 : decode cX35_soft 80 = .ok (.invokevirtual 798, 3) := dc_182 (a := 3) (b := 30) (n := 798) (by decide +kernel)
theorem dX35_soft_83 : decode cX35_soft 83 = .ok (.return_, 1) := dc_177 (by decide +kernel)
def fX35_soft_b78 (N : Nat) (s0 : Nat) (s1 : Int32) (s2 : Int32) (s3 : Int32) (s4 : Int32) (h : eH) : Option (Unit × eH) :=
  (k_ok 34 h s0).bind fun _ =>
  (fX35_item N s0 s1 s2 s3 s4 (0 : Int32) (0 : Int32) h).bind fun q2 =>
  some ((), q2.2)
theorem pX35_soft_b78 {w : eW} {d : Nat} (hd : 6 ≤ d + 1) {N : Nat} {s0 : Nat} {s1 : Int32} {s2 : Int32} {s3 : Int32} {s4 : Int32} {h : eH} {q} (hf : fX35_soft_b78 N s0 s1 s2 s3 s4 h = some q) : wp w (d + 1) YX35_soft 78 [none, none, none] [.int s4, .int s3, .int s2, .int s1, .ref s0] h (e_is (e_rn c_V q)) := by
  unfold fX35_soft_b78 at hf
  refine w_iconst dX35_soft_78 (v := 0) (by decide) ?_
  refine w_iconst dX35_soft_79 (v := 0) (by decide) ?_
  obtain ⟨_, b1, hf⟩ := Option.bind_eq_some_iff.mp hf
  refine x_cnV hf (e_stV (Yc := YX35_item) (ci := 34) (av := [.int s1, .int s2, .int s3, .int s4, .int (0 : Int32), .int (0 : Int32)]) (st := []) dX35_soft_80 q5643 mX35_item rfl (k_ok_some b1).1 (k_ok_some b1).2) mX35_item.2.2.1 mX35_item.2.2.2.2.1 (Nat.le_of_ble_eq_true rfl) (Nat.le_of_ble_eq_true rfl) (fun q hq => pX35_item (by omega) hq) (fun q2 hf => ?_)
  cases hf
  exact w_vret dX35_soft_83 rfl rfl
def fX35_soft_b52 (N : Nat) (l0 : Nat) (l1 : Int32) (l2 : Int32) (s0 : Nat) (s1 : Int32) (s2 : Int32) (h : eH) : Option (Unit × eH) :=
  if l2 = 0 then
    fX35_soft_b78 N s0 s1 s2 (0 : Int32) (0 : Int32) h
  else
    (k_ok 34 h l0).bind fun _ =>
    (fX35_metrics l0 l1 h).bind fun q3 =>
    (g_A 34 q3.2 l0 50).bind fun a4 =>
    (r_I 100 q3.2 a4 l1).bind fun x6 =>
    (k_ok 42 q3.2 q3.1).bind fun _ =>
    (fX40_of N q3.1 (45 : Int32) (0 : Int32) x6 q3.2).bind fun q9 =>
    fX35_soft_b78 N s0 s1 s2 (0 : Int32) q9.1 q9.2
theorem pX35_soft_b52 {w : eW} {d : Nat} (hd : 6 ≤ d + 1) {N : Nat} {l0 : Nat} {l1 : Int32} {l2 : Int32} {s0 : Nat} {s1 : Int32} {s2 : Int32} {h : eH} {q} (hf : fX35_soft_b52 N l0 l1 l2 s0 s1 s2 h = some q) : wp w (d + 1) YX35_soft 52 [some (.ref l0), some (.int l1), some (.int l2)] [.int s2, .int s1, .ref s0] h (e_is (e_rn c_V q)) := by
  unfold fX35_soft_b52 at hf
  refine w_iconst dX35_soft_52 (v := 0) (by decide) ?_
  refine w_iload_n dX35_soft_53 rfl rfl ?_
  refine w_if_eq 77 dX35_soft_54 (by decide) (fun c1 => ?_) (fun c1 => ?_)
  · replace hf := (if_pos (show l2 = 0 from c1)).symm.trans hf
    refine w_iconst dX35_soft_77 (v := 0) (by decide) ?_
    exact (pX35_soft_b78 hd hf).to trivial
  · replace hf := (if_neg (show ¬ (l2 = 0) from c1)).symm.trans hf
    refine w_aload_n dX35_soft_57 rfl rfl ?_
    refine w_iload_n dX35_soft_58 rfl rfl ?_
    obtain ⟨_, b2, hf⟩ := Option.bind_eq_some_iff.mp hf
    refine x_cnA hf (e_stV (Yc := YX35_metrics) (ci := 34) (av := [.int l1]) (st := [.int (0 : Int32), .int s2, .int s1, .ref s0]) dX35_soft_59 q5667 mX35_metrics rfl (k_ok_some b2).1 (k_ok_some b2).2) mX35_metrics.2.2.1 mX35_metrics.2.2.2.2.1 (Nat.le_of_ble_eq_true rfl) (Nat.le_of_ble_eq_true rfl) (fun q hq => pX35_metrics (by omega) hq) (fun q3 hf => ?_)
    refine w_bipush dX35_soft_62 (v := 45) (by decide) ?_
    refine w_iconst dX35_soft_64 (v := 0) (by decide) ?_
    refine w_aload_n dX35_soft_65 rfl rfl ?_
    obtain ⟨a4, b5, hf⟩ := Option.bind_eq_some_iff.mp hf
    refine GX35_124 b5 dX35_soft_66 rfl ?_
    refine w_iload_n dX35_soft_69 rfl rfl ?_
    obtain ⟨x6, b7, hf⟩ := Option.bind_eq_some_iff.mp hf
    refine x_rI b7 dX35_soft_70 ?_
    obtain ⟨_, b8, hf⟩ := Option.bind_eq_some_iff.mp hf
    refine x_cnI hf (e_stV (Yc := YX40_of) (ci := 42) (av := [.int (45 : Int32), .int (0 : Int32), .int x6]) (st := [.int (0 : Int32), .int s2, .int s1, .ref s0]) dX35_soft_71 q5722 mX40_of rfl (k_ok_some b8).1 (k_ok_some b8).2) mX40_of.2.2.1 mX40_of.2.2.2.2.1 (Nat.le_of_ble_eq_true rfl) (Nat.le_of_ble_eq_true rfl) (fun q hq => pX40_of (by omega) hq) (fun q9 hf => ?_)
    refine w_goto 78 dX35_soft_74 (by decide) ?_
    exact (pX35_soft_b78 hd hf).to trivial
def fX35_soft_b39 (N : Nat) (l0 : Nat) (l1 : Int32) (s0 : Int32) (h : eH) : Option (Unit × eH) :=
  if s0 = 0 then
    fX35_soft_b52 N l0 l1 s0 l0 (6 : Int32) (-1 : Int32) h
  else
    fX35_soft_b52 N l0 l1 s0 l0 (6 : Int32) l1 h
theorem pX35_soft_b39 {w : eW} {d : Nat} (hd : 6 ≤ d + 1) {N : Nat} {l0 : Nat} {l1 : Int32} {s0 : Int32} {h : eH} {q} (hf : fX35_soft_b39 N l0 l1 s0 h = some q) : wp w (d + 1) YX35_soft 39 [some (.ref l0), some (.int l1), none] [.int s0] h (e_is (e_rn c_V q)) := by
  unfold fX35_soft_b39 at hf
  refine w_istore_n dX35_soft_39 rfl (by decide) (ls' := [some (.ref l0), some (.int l1), some (.int s0)]) rfl ?_
  refine w_aload_n dX35_soft_40 rfl rfl ?_
  refine w_bipush dX35_soft_41 (v := 6) (by decide) ?_
  refine w_iload_n dX35_soft_43 rfl rfl ?_
  refine w_if_eq 51 dX35_soft_44 (by decide) (fun c1 => ?_) (fun c1 => ?_)
  · replace hf := (if_pos (show s0 = 0 from c1)).symm.trans hf
    refine w_iconst dX35_soft_51 (v := -1) (by decide) ?_
    exact (pX35_soft_b52 hd hf).to ⟨rfl, rfl, rfl, trivial⟩
  · replace hf := (if_neg (show ¬ (s0 = 0) from c1)).symm.trans hf
    refine w_iload_n dX35_soft_47 rfl rfl ?_
    refine w_goto 52 dX35_soft_48 (by decide) ?_
    exact (pX35_soft_b52 hd hf).to ⟨rfl, rfl, rfl, trivial⟩
def fX35_soft_b38 (N : Nat) (l0 : Nat) (l1 : Int32) (h : eH) : Option (Unit × eH) :=
  fX35_soft_b39 N l0 l1 (0 : Int32) h
theorem pX35_soft_b38 {w : eW} {d : Nat} (hd : 6 ≤ d + 1) {N : Nat} {l0 : Nat} {l1 : Int32} {h : eH} {q} (hf : fX35_soft_b38 N l0 l1 h = some q) : wp w (d + 1) YX35_soft 38 [some (.ref l0), some (.int l1), none] [] h (e_is (e_rn c_V q)) := by
  unfold fX35_soft_b38 at hf
  refine w_iconst dX35_soft_38 (v := 0) (by decide) ?_
  exact (pX35_soft_b39 hd hf).to ⟨rfl, rfl, trivial⟩
def fX35_soft (N : Nat) (this : Nat) (h : eH) : Option (Unit × eH) :=
  (k_ok 34 h this).bind fun _ =>
  (fX35_mode this h).bind fun q2 =>
  if q2.1 = (2 : Int32) then
    (k_ok 34 q2.2 this).bind fun _ =>
    (fX35_now this (3811 : Int32) q2.2).bind fun q5 =>
    if q5.1 < 0 then
      fX35_soft_b38 N this q5.1 q5.2
    else
      (k_ok 34 q5.2 this).bind fun _ =>
      (fX35_metrics this q5.1 q5.2).bind fun q8 =>
      (k_ok 42 q8.2 q8.1).bind fun _ =>
      (fX40_isThere_2 N q8.1 (45 : Int32) q8.2).bind fun q10 =>
      if q10.1 = 0 then
        fX35_soft_b38 N this q5.1 q10.2
      else
        fX35_soft_b39 N this q5.1 (1 : Int32) q10.2
  else
    some ((), q2.2)
theorem pX35_soft {w : eW} {d : Nat} (hd : 6 ≤ d) {N : Nat} {this : Nat} {h : eH} {q} (hf : fX35_soft N this h = some q) : wm w d YX35_soft [.ref this] h (e_is (e_rn c_V q)) := by
  obtain ⟨d, rfl⟩ : ∃ e, d = e + 1 := ⟨d - 1, by omega⟩
  show wp w (d + 1) YX35_soft 0 [some (.ref this), none, none] [] h _
  unfold fX35_soft at hf
  refine w_aload_n dX35_soft_0 rfl rfl ?_
  obtain ⟨_, b1, hf⟩ := Option.bind_eq_some_iff.mp hf
  refine x_cnI hf (e_stV (Yc := YX35_mode) (ci := 34) (av := []) (st := []) dX35_soft_1 q5417 mX35_mode rfl (k_ok_some b1).1 (k_ok_some b1).2) mX35_mode.2.2.1 mX35_mode.2.2.2.2.1 (Nat.le_of_ble_eq_true rfl) (Nat.le_of_ble_eq_true rfl) (fun q hq => pX35_mode (by omega) hq) (fun q2 hf => ?_)
  refine w_iconst dX35_soft_4 (v := 2) (by decide) ?_
  refine w_icmp_eq 9 dX35_soft_5 (by decide) (fun c3 => ?_) (fun c3 => ?_)
  · replace hf := (if_pos (show q2.1 = (2 : Int32) from c3)).symm.trans hf
    refine w_aload_n dX35_soft_9 rfl rfl ?_
    refine w_sipush dX35_soft_10 (v := 3811) (by decide) ?_
    obtain ⟨_, b4, hf⟩ := Option.bind_eq_some_iff.mp hf
    refine x_cnI hf (e_stV (Yc := YX35_now) (ci := 34) (av := [.int (3811 : Int32)]) (st := []) dX35_soft_13 q5097 mX35_now rfl (k_ok_some b4).1 (k_ok_some b4).2) mX35_now.2.2.1 mX35_now.2.2.2.2.1 (Nat.le_of_ble_eq_true rfl) (Nat.le_of_ble_eq_true rfl) (fun q hq => pX35_now (by omega) hq) (fun q5 hf => ?_)
    refine w_istore_n dX35_soft_16 rfl (by decide) (ls' := [some (.ref this), some (.int q5.1), none]) rfl ?_
    refine w_iload_n dX35_soft_17 rfl rfl ?_
    refine w_if_lt 38 dX35_soft_18 (by decide) (fun c6 => ?_) (fun c6 => ?_)
    · replace hf := (if_pos (show q5.1 < 0 from c6)).symm.trans hf
      exact (pX35_soft_b38 hd hf).to ⟨rfl, rfl, trivial⟩
    · replace hf := (if_neg (show ¬ (q5.1 < 0) from c6)).symm.trans hf
      refine w_aload_n dX35_soft_21 rfl rfl ?_
      refine w_iload_n dX35_soft_22 rfl rfl ?_
      obtain ⟨_, b7, hf⟩ := Option.bind_eq_some_iff.mp hf
      refine x_cnA hf (e_stV (Yc := YX35_metrics) (ci := 34) (av := [.int q5.1]) (st := []) dX35_soft_23 q5667 mX35_metrics rfl (k_ok_some b7).1 (k_ok_some b7).2) mX35_metrics.2.2.1 mX35_metrics.2.2.2.2.1 (Nat.le_of_ble_eq_true rfl) (Nat.le_of_ble_eq_true rfl) (fun q hq => pX35_metrics (by omega) hq) (fun q8 hf => ?_)
      refine w_bipush dX35_soft_26 (v := 45) (by decide) ?_
      obtain ⟨_, b9, hf⟩ := Option.bind_eq_some_iff.mp hf
      refine x_cnI hf (e_stV (Yc := YX40_isThere_2) (ci := 42) (av := [.int (45 : Int32)]) (st := []) dX35_soft_28 q5671 mX40_isThere_2 rfl (k_ok_some b9).1 (k_ok_some b9).2) mX40_isThere_2.2.2.1 mX40_isThere_2.2.2.2.2.1 (Nat.le_of_ble_eq_true rfl) (Nat.le_of_ble_eq_true rfl) (fun q hq => pX40_isThere_2 (by omega) hq) (fun q10 hf => ?_)
      refine w_if_eq 38 dX35_soft_31 (by decide) (fun c11 => ?_) (fun c11 => ?_)
      · replace hf := (if_pos (show q10.1 = 0 from c11)).symm.trans hf
        exact (pX35_soft_b38 hd hf).to ⟨rfl, rfl, trivial⟩
      · replace hf := (if_neg (show ¬ (q10.1 = 0) from c11)).symm.trans hf
        refine w_iconst dX35_soft_34 (v := 1) (by decide) ?_
        refine w_goto 39 dX35_soft_35 (by decide) ?_
        exact (pX35_soft_b39 hd hf).to ⟨rfl, rfl, trivial⟩
  · replace hf := (if_neg (show ¬ (q2.1 = (2 : Int32)) from c3)).symm.trans hf
    cases hf
    exact w_vret dX35_soft_8 rfl rfl
abbrev cX35_doMore : ByteArray := prog_37_method_178_code
def yX35_doMore : MethodName := ⟨RX35, "doMore", "(I)V"⟩
def YX35_doMore : eY := (yX35_doMore, cX35_doMore, 2, none, [])
theorem mX35_doMore : e_mv YX35_doMore RX35 1 := ⟨q6034, qs421, q6035, by decide, by decide +kernel, (e_sig (by decide +kernel))⟩
theorem dX35_doMore_0 : decode cX35_doMore 0 = .ok (.iload_n 1, 1) := dc_27 (by decide +kernel)
theorem dX35_doMore_1 : decode cX35_doMore 1 = .ok (.tableswitch 131 62 68 #[43, 50, 65, 65, 87, 87, 117], 43) := by decide +kernel
theorem dX35_doMore_44 : decode cX35_doMore 44 = .ok (.aload_n 0, 1) := dc_42 (by decide +kernel)
theorem dX35_doMore_45 : decode cX35_doMore 45 = .ok (.invokevirtual 1202, 3) := dc_182 (a := 4) (b := 178) (n := 1202) (by decide +kernel)
theorem dX35_doMore_48 : decode cX35_doMore 48 = .ok (.goto 95, 3) := dc_167 (a := 0) (b := 95) (v := 95) (by decide +kernel)
theorem dX35_doMore_51 : decode cX35_doMore 51 = .ok (.aload_n 0, 1) := dc_42 (by decide +kernel)
theorem dX35_doMore_52 : decode cX35_doMore 52 = .ok (.invokevirtual 810, 3) := dc_182 (a := 3) (b := 42) (n := 810) (by decide +kernel)
theorem dX35_doMore_55 : decode cX35_doMore 55 = .ok (.ifCond .eq 88, 3) := dc_153 (a := 0) (b := 88) (v := 88) (by decide +kernel)
theorem dX35_doMore_58 : decode cX35_doMore 58 = .ok (.aload_n 0, 1) := dc_42 (by decide +kernel)
theorem dX35_doMore_59 : decode cX35_doMore 59 = .ok (.iconst 0, 1) := dc_3 (by decide +kernel)
theorem dX35_doMore_60 : decode cX35_doMore 60 = .ok (.invokevirtual 869, 3) := dc_182 (a := 3) (b := 101) (n := 869) (by decide +kernel)
theorem dX35_doMore_63 : decode cX35_doMore 63 = .ok (.goto 80, 3) := dc_167 (a := 0) (b := 80) (v := 80) (by decide +kernel)
theorem dX35_doMore_66 : decode cX35_doMore 66 = .ok (.aload_n 0, 1) := dc_42 (by decide +kernel)
theorem dX35_doMore_67 : decode cX35_doMore 67 = .ok (.aload_n 0, 1) := dc_42 (by decide +kernel)
theorem dX35_doMore_68 : decode cX35_doMore 68 = .ok (.invokevirtual 810, 3) := dc_182 (a := 3) (b := 42) (n := 810) (by decide +kernel)
theorem dX35_doMore_71 : decode cX35_doMore 71 = .ok (.iload_n 1, 1) := dc_27 (by decide +kernel)
theorem dX35_doMore_72 : decode cX35_doMore 72 = .ok (.bipush 64, 2) := dc_16 (a := 64) (v := 64) (by decide +kernel)
theorem dX35_doMore_74 : decode cX35_doMore 74 = .ok (.if_icmp .ne 7, 3) := dc_160 (a := 0) (b := 7) (v := 7) (by decide +kernel)
theorem dX35_doMore_77 : decode cX35_doMore 77 = .ok (.iconst 1, 1) := dc_4 (by decide +kernel)
theorem dX35_doMore_78 : decode cX35_doMore 78 = .ok (.goto 4, 3) := dc_167 (a := 0) (b := 4) (v := 4) (by decide +kernel)
theorem dX35_doMore_81 : decode cX35_doMore 81 = .ok (.iconst 0, 1) := dc_3 (by decide +kernel)
theorem dX35_doMore_82 : decode cX35_doMore 82 = .ok (.invokevirtual 1205, 3) := dc_182 (a := 4) (b := 181) (n := 1205) (by decide +kernel)
theorem dX35_doMore_85 : decode cX35_doMore 85 = .ok (.goto 58, 3) := dc_167 (a := 0) (b := 58) (v := 58) (by decide +kernel)
theorem dX35_doMore_88 : decode cX35_doMore 88 = .ok (.aload_n 0, 1) := dc_42 (by decide +kernel)
theorem dX35_doMore_89 : decode cX35_doMore 89 = .ok (.aload_n 0, 1) := dc_42 (by decide +kernel)
theorem dX35_doMore_90 : decode cX35_doMore 90 = .ok (.invokevirtual 810, 3) := dc_182 (a := 3) (b := 42) (n := 810) (by decide +kernel)
theorem dX35_doMore_93 : decode cX35_doMore 93 = .ok (.ifCond .ne 7, 3) := dc_154 (a := 0) (b := 7) (v := 7) (by decide +kernel)
theorem dX35_doMore_96 : decode cX35_doMore 96 = .ok (.iconst 1, 1) := dc_4 (by decide +kernel)
theorem dX35_doMore_97 : decode cX35_doMore 97 = .ok (.goto 4, 3) := dc_167 (a := 0) (b := 4) (v := 4) (by decide +kernel)
theorem dX35_doMore_100 : decode cX35_doMore 100 = .ok (.iconst 0, 1) := dc_3 (by decide +kernel)
theorem dX35_doMore_101 : decode cX35_doMore 101 = .ok (.iload_n 1, 1) := dc_27 (by decide +kernel)
theorem dX35_doMore_102 : decode cX35_doMore 102 = .ok (.bipush 66, 2) := dc_16 (a := 66) (v := 66) (by decide +kernel)
theorem dX35_doMore_104 : decode cX35_doMore 104 = .ok (.if_icmp .ne 7, 3) := dc_160 (a := 0) (b := 7) (v := 7) (by decide +kernel)
theorem dX35_doMore_107 : decode cX35_doMore 107 = .ok (.iconst 1, 1) := dc_4 (by decide +kernel)
theorem dX35_doMore_108 : decode cX35_doMore 108 = .ok (.goto 4, 3) := dc_167 (a := 0) (b := 4) (v := 4) (by decide +kernel)
theorem dX35_doMore_111 : decode cX35_doMore 111 = .ok (.iconst 0, 1) := dc_3 (by decide +kernel)
theorem dX35_doMore_112 : decode cX35_doMore 112 = .ok (.invokevirtual 1205, 3) := dc_182 (a := 4) (b := 181) (n := 1205) (by decide +kernel)
theorem dX35_doMore_115 : decode cX35_doMore 115 = .ok (.goto 28, 3) := dc_167 (a := 0) (b := 28) (v := 28) (by decide +kernel)
theorem dX35_doMore_118 : decode cX35_doMore 118 = .ok (.aload_n 0, 1) := dc_42 (by decide +kernel)
theorem dX35_doMore_119 : decode cX35_doMore 119 = .ok (.invokevirtual 1184, 3) := dc_182 (a := 4) (b := 160) (n := 1184) (by decide +kernel)
theorem dX35_doMore_122 : decode cX35_doMore 122 = .ok (.ifCond .eq 21, 3) := dc_153 (a := 0) (b := 21) (v := 21) (by decide +kernel)
theorem dX35_doMore_125 : decode cX35_doMore 125 = .ok (.aload_n 0, 1) := dc_42 (by decide +kernel)
theorem dX35_doMore_126 : decode cX35_doMore 126 = .ok (.invokevirtual 1209, 3) := dc_182 (a := 4) (b := 185) (n := 1209) (by decide +kernel)
theorem dX35_doMore_129 : decode cX35_doMore 129 = .ok (.goto 14, 3) := dc_167 (a := 0) (b := 14) (v := 14) (by decide +kernel)
theorem dX35_doMore_132 : decode cX35_doMore 132 = .ok (.aload_n 0, 1) := dc_42 (by decide +kernel)
theorem dX35_doMore_133 : decode cX35_doMore 133 = .ok (.invokevirtual 1184, 3) := dc_182 (a := 4) (b := 160) (n := 1184) (by decide +kernel)
theorem dX35_doMore_136 : decode cX35_doMore 136 = .ok (.ifCond .eq 7, 3) := dc_153 (a := 0) (b := 7) (v := 7) (by decide +kernel)
theorem dX35_doMore_139 : decode cX35_doMore 139 = .ok (.aload_n 0, 1) := dc_42 (by decide +kernel)
theorem dX35_doMore_140 : decode cX35_doMore 140 = .ok (.invokevirtual 1166, 3) := dc_182 (a := 4) (b := 142) (n := 1166) (by decide +kernel)
theorem dX35_doMore_143 : decode cX35_doMore 143 = .ok (.return_, 1) := dc_177 (by decide +kernel)
def fX35_doMore_b143 (N : Nat) (sE : Nat → Int32 → eH → Option (Unit × eH)) (sL : Nat → Int32 → Int64 → Int64 → eH → Option (Int32 × eH)) (sN : Nat → eH → Option (Int32 × eH))  (h : eH) : Option (Unit × eH) :=
  some ((), h)
theorem pX35_doMore_b143 {w : eW} {d : Nat} {dr : Nat} (hd : dr + 16 ≤ d + 1) (hdr : 12 ≤ dr) {N : Nat} {sE : Nat → Int32 → eH → Option (Unit × eH)} {sL : Nat → Int32 → Int64 → Int64 → eH → Option (Int32 × eH)} {sN : Nat → eH → Option (Int32 × eH)} (hsE : ∀ a t0 h q, sE a t0 h = some q → wm w dr YX35_expand [.ref a, .int t0] h (e_is (e_rn c_V q))) (hsL : ∀ a t0 t1 t2 h q, sL a t0 t1 t2 h = some q → wm w dr YX35_layBox [.ref a, .int t0, .long t1, .long t2] h (e_is (e_rn c_I q))) (hsN : ∀ a h q, sN a h = some q → wm w dr YX35_number [.ref a] h (e_is (e_rn c_I q)))  {h : eH} {q} (hf : fX35_doMore_b143 N sE sL sN h = some q) : wp w (d + 1) YX35_doMore 143 [none, none] [] h (e_is (e_rn c_V q)) := by
  unfold fX35_doMore_b143 at hf
  cases hf
  exact w_vret dX35_doMore_143 rfl rfl
def fX35_doMore_b82 (N : Nat) (sE : Nat → Int32 → eH → Option (Unit × eH)) (sL : Nat → Int32 → Int64 → Int64 → eH → Option (Int32 × eH)) (sN : Nat → eH → Option (Int32 × eH)) (s0 : Nat) (s1 : Int32) (s2 : Int32) (h : eH) : Option (Unit × eH) :=
  (k_ok 34 h s0).bind fun _ =>
  (fX35_shifted N sE sL sN s0 s1 s2 h).bind fun q2 =>
  fX35_doMore_b143 N sE sL sN q2.2
theorem pX35_doMore_b82 {w : eW} {d : Nat} {dr : Nat} (hd : dr + 16 ≤ d + 1) (hdr : 12 ≤ dr) {N : Nat} {sE : Nat → Int32 → eH → Option (Unit × eH)} {sL : Nat → Int32 → Int64 → Int64 → eH → Option (Int32 × eH)} {sN : Nat → eH → Option (Int32 × eH)} (hsE : ∀ a t0 h q, sE a t0 h = some q → wm w dr YX35_expand [.ref a, .int t0] h (e_is (e_rn c_V q))) (hsL : ∀ a t0 t1 t2 h q, sL a t0 t1 t2 h = some q → wm w dr YX35_layBox [.ref a, .int t0, .long t1, .long t2] h (e_is (e_rn c_I q))) (hsN : ∀ a h q, sN a h = some q → wm w dr YX35_number [.ref a] h (e_is (e_rn c_I q))) {s0 : Nat} {s1 : Int32} {s2 : Int32} {h : eH} {q} (hf : fX35_doMore_b82 N sE sL sN s0 s1 s2 h = some q) : wp w (d + 1) YX35_doMore 82 [none, none] [.int s2, .int s1, .ref s0] h (e_is (e_rn c_V q)) := by
  unfold fX35_doMore_b82 at hf
  obtain ⟨_, b1, hf⟩ := Option.bind_eq_some_iff.mp hf
  refine x_cnV hf (e_stV (Yc := YX35_shifted) (ci := 34) (av := [.int s1, .int s2]) (st := []) dX35_doMore_82 q6040 mX35_shifted rfl (k_ok_some b1).1 (k_ok_some b1).2) mX35_shifted.2.2.1 mX35_shifted.2.2.2.2.1 (Nat.le_of_ble_eq_true rfl) (Nat.le_of_ble_eq_true rfl) (fun q hq => pX35_shifted (by omega) hdr hsE hsL hsN hq) (fun q2 hf => ?_)
  refine w_goto 143 dX35_doMore_85 (by decide) ?_
  exact (pX35_doMore_b143 hd hdr hsE hsL hsN hf).to trivial
def fX35_doMore_b112 (N : Nat) (sE : Nat → Int32 → eH → Option (Unit × eH)) (sL : Nat → Int32 → Int64 → Int64 → eH → Option (Int32 × eH)) (sN : Nat → eH → Option (Int32 × eH)) (s0 : Nat) (s1 : Int32) (s2 : Int32) (h : eH) : Option (Unit × eH) :=
  (k_ok 34 h s0).bind fun _ =>
  (fX35_shifted N sE sL sN s0 s1 s2 h).bind fun q2 =>
  fX35_doMore_b143 N sE sL sN q2.2
theorem pX35_doMore_b112 {w : eW} {d : Nat} {dr : Nat} (hd : dr + 16 ≤ d + 1) (hdr : 12 ≤ dr) {N : Nat} {sE : Nat → Int32 → eH → Option (Unit × eH)} {sL : Nat → Int32 → Int64 → Int64 → eH → Option (Int32 × eH)} {sN : Nat → eH → Option (Int32 × eH)} (hsE : ∀ a t0 h q, sE a t0 h = some q → wm w dr YX35_expand [.ref a, .int t0] h (e_is (e_rn c_V q))) (hsL : ∀ a t0 t1 t2 h q, sL a t0 t1 t2 h = some q → wm w dr YX35_layBox [.ref a, .int t0, .long t1, .long t2] h (e_is (e_rn c_I q))) (hsN : ∀ a h q, sN a h = some q → wm w dr YX35_number [.ref a] h (e_is (e_rn c_I q))) {s0 : Nat} {s1 : Int32} {s2 : Int32} {h : eH} {q} (hf : fX35_doMore_b112 N sE sL sN s0 s1 s2 h = some q) : wp w (d + 1) YX35_doMore 112 [none, none] [.int s2, .int s1, .ref s0] h (e_is (e_rn c_V q)) := by
  unfold fX35_doMore_b112 at hf
  obtain ⟨_, b1, hf⟩ := Option.bind_eq_some_iff.mp hf
  refine x_cnV hf (e_stV (Yc := YX35_shifted) (ci := 34) (av := [.int s1, .int s2]) (st := []) dX35_doMore_112 q6040 mX35_shifted rfl (k_ok_some b1).1 (k_ok_some b1).2) mX35_shifted.2.2.1 mX35_shifted.2.2.2.2.1 (Nat.le_of_ble_eq_true rfl) (Nat.le_of_ble_eq_true rfl) (fun q hq => pX35_shifted (by omega) hdr hsE hsL hsN hq) (fun q2 hf => ?_)
  refine w_goto 143 dX35_doMore_115 (by decide) ?_
  exact (pX35_doMore_b143 hd hdr hsE hsL hsN hf).to trivial
def fX35_doMore_b101 (N : Nat) (sE : Nat → Int32 → eH → Option (Unit × eH)) (sL : Nat → Int32 → Int64 → Int64 → eH → Option (Int32 × eH)) (sN : Nat → eH → Option (Int32 × eH)) (l1 : Int32) (s0 : Nat) (s1 : Int32) (h : eH) : Option (Unit × eH) :=
  if ¬ l1 = (66 : Int32) then
    fX35_doMore_b112 N sE sL sN s0 s1 (0 : Int32) h
  else
    fX35_doMore_b112 N sE sL sN s0 s1 (1 : Int32) h
theorem pX35_doMore_b101 {w : eW} {d : Nat} {dr : Nat} (hd : dr + 16 ≤ d + 1) (hdr : 12 ≤ dr) {N : Nat} {sE : Nat → Int32 → eH → Option (Unit × eH)} {sL : Nat → Int32 → Int64 → Int64 → eH → Option (Int32 × eH)} {sN : Nat → eH → Option (Int32 × eH)} (hsE : ∀ a t0 h q, sE a t0 h = some q → wm w dr YX35_expand [.ref a, .int t0] h (e_is (e_rn c_V q))) (hsL : ∀ a t0 t1 t2 h q, sL a t0 t1 t2 h = some q → wm w dr YX35_layBox [.ref a, .int t0, .long t1, .long t2] h (e_is (e_rn c_I q))) (hsN : ∀ a h q, sN a h = some q → wm w dr YX35_number [.ref a] h (e_is (e_rn c_I q))) {l1 : Int32} {s0 : Nat} {s1 : Int32} {h : eH} {q} (hf : fX35_doMore_b101 N sE sL sN l1 s0 s1 h = some q) : wp w (d + 1) YX35_doMore 101 [none, some (.int l1)] [.int s1, .ref s0] h (e_is (e_rn c_V q)) := by
  unfold fX35_doMore_b101 at hf
  refine w_iload_n dX35_doMore_101 rfl rfl ?_
  refine w_bipush dX35_doMore_102 (v := 66) (by decide) ?_
  refine w_icmp_ne 111 dX35_doMore_104 (by decide) (fun c1 => ?_) (fun c1 => ?_)
  · replace hf := (if_pos (show ¬ l1 = (66 : Int32) from c1)).symm.trans hf
    refine w_iconst dX35_doMore_111 (v := 0) (by decide) ?_
    exact (pX35_doMore_b112 hd hdr hsE hsL hsN hf).to trivial
  · replace hf := (if_neg (show ¬ (¬ l1 = (66 : Int32)) from (fun z => z c1))).symm.trans hf
    refine w_iconst dX35_doMore_107 (v := 1) (by decide) ?_
    refine w_goto 112 dX35_doMore_108 (by decide) ?_
    exact (pX35_doMore_b112 hd hdr hsE hsL hsN hf).to trivial
def fX35_doMore (N : Nat) (sE : Nat → Int32 → eH → Option (Unit × eH)) (sL : Nat → Int32 → Int64 → Int64 → eH → Option (Int32 × eH)) (sN : Nat → eH → Option (Int32 × eH)) (this : Nat) (p0 : Int32) (h : eH) : Option (Unit × eH) :=
  if p0 = (62 : Int32) then
    (k_ok 34 h this).bind fun _ =>
    (fX35_indent N sL this h).bind fun q3 =>
    fX35_doMore_b143 N sE sL sN q3.2
  else
  if p0 = (63 : Int32) then
    (k_ok 34 h this).bind fun _ =>
    (fX35_isVertical this h).bind fun q6 =>
    if q6.1 = 0 then
      fX35_doMore_b143 N sE sL sN q6.2
    else
      (k_ok 34 q6.2 this).bind fun _ =>
      (fX35_beginParagraph N sL this (0 : Int32) q6.2).bind fun q9 =>
      fX35_doMore_b143 N sE sL sN q9.2
  else
  if p0 = (64 : Int32) then
    (k_ok 34 h this).bind fun _ =>
    (fX35_isVertical this h).bind fun q12 =>
    if ¬ p0 = (64 : Int32) then
      fX35_doMore_b82 N sE sL sN this q12.1 (0 : Int32) q12.2
    else
      fX35_doMore_b82 N sE sL sN this q12.1 (1 : Int32) q12.2
  else
  if p0 = (65 : Int32) then
    (k_ok 34 h this).bind fun _ =>
    (fX35_isVertical this h).bind fun q16 =>
    if ¬ p0 = (64 : Int32) then
      fX35_doMore_b82 N sE sL sN this q16.1 (0 : Int32) q16.2
    else
      fX35_doMore_b82 N sE sL sN this q16.1 (1 : Int32) q16.2
  else
  if p0 = (66 : Int32) then
    (k_ok 34 h this).bind fun _ =>
    (fX35_isVertical this h).bind fun q20 =>
    if ¬ q20.1 = 0 then
      fX35_doMore_b101 N sE sL sN p0 this (0 : Int32) q20.2
    else
      fX35_doMore_b101 N sE sL sN p0 this (1 : Int32) q20.2
  else
  if p0 = (67 : Int32) then
    (k_ok 34 h this).bind fun _ =>
    (fX35_isVertical this h).bind fun q24 =>
    if ¬ q24.1 = 0 then
      fX35_doMore_b101 N sE sL sN p0 this (0 : Int32) q24.2
    else
      fX35_doMore_b101 N sE sL sN p0 this (1 : Int32) q24.2
  else
  if p0 = (68 : Int32) then
    (k_ok 34 h this).bind fun _ =>
    (fX35_horizontally N sL this h).bind fun q28 =>
    if q28.1 = 0 then
      fX35_doMore_b143 N sE sL sN q28.2
    else
      (k_ok 34 q28.2 this).bind fun _ =>
      (fX35_soft N this q28.2).bind fun q31 =>
      fX35_doMore_b143 N sE sL sN q31.2
  else
  (k_ok 34 h this).bind fun _ =>
  (fX35_horizontally N sL this h).bind fun q33 =>
  if q33.1 = 0 then
    fX35_doMore_b143 N sE sL sN q33.2
  else
    (k_ok 34 q33.2 this).bind fun _ =>
    (fX35_space N sL this q33.2).bind fun q36 =>
    fX35_doMore_b143 N sE sL sN q36.2
theorem pX35_doMore {w : eW} {d : Nat} {dr : Nat} (hd : dr + 16 ≤ d) (hdr : 12 ≤ dr) {N : Nat} {sE : Nat → Int32 → eH → Option (Unit × eH)} {sL : Nat → Int32 → Int64 → Int64 → eH → Option (Int32 × eH)} {sN : Nat → eH → Option (Int32 × eH)} (hsE : ∀ a t0 h q, sE a t0 h = some q → wm w dr YX35_expand [.ref a, .int t0] h (e_is (e_rn c_V q))) (hsL : ∀ a t0 t1 t2 h q, sL a t0 t1 t2 h = some q → wm w dr YX35_layBox [.ref a, .int t0, .long t1, .long t2] h (e_is (e_rn c_I q))) (hsN : ∀ a h q, sN a h = some q → wm w dr YX35_number [.ref a] h (e_is (e_rn c_I q))) {this : Nat} {p0 : Int32} {h : eH} {q} (hf : fX35_doMore N sE sL sN this p0 h = some q) : wm w d YX35_doMore [.ref this, .int p0] h (e_is (e_rn c_V q)) := by
  obtain ⟨d, rfl⟩ : ∃ e, d = e + 1 := ⟨d - 1, by omega⟩
  show wp w (d + 1) YX35_doMore 0 [some (.ref this), some (.int p0)] [] h _
  unfold fX35_doMore at hf
  refine w_iload_n dX35_doMore_0 rfl rfl ?_
  by_cases c1 : p0 = (62 : Int32)
  · replace hf := (if_pos c1).symm.trans hf
    refine w_tableIn 44 dX35_doMore_1 (by rw [c1]; decide) (by rw [c1]; decide) (by rw [c1]; rfl) (by decide) ?_
    refine w_aload_n dX35_doMore_44 rfl rfl ?_
    obtain ⟨_, b2, hf⟩ := Option.bind_eq_some_iff.mp hf
    refine x_cnV hf (e_stV (Yc := YX35_indent) (ci := 34) (av := []) (st := []) dX35_doMore_45 q6036 mX35_indent rfl (k_ok_some b2).1 (k_ok_some b2).2) mX35_indent.2.2.1 mX35_indent.2.2.2.2.1 (Nat.le_of_ble_eq_true rfl) (Nat.le_of_ble_eq_true rfl) (fun q hq => pX35_indent (by omega) hdr hsL hq) (fun q3 hf => ?_)
    refine w_goto 143 dX35_doMore_48 (by decide) ?_
    exact (pX35_doMore_b143 hd hdr hsE hsL hsN hf).to trivial
  replace hf := (if_neg c1).symm.trans hf
  by_cases c4 : p0 = (63 : Int32)
  · replace hf := (if_pos c4).symm.trans hf
    refine w_tableIn 51 dX35_doMore_1 (by rw [c4]; decide) (by rw [c4]; decide) (by rw [c4]; rfl) (by decide) ?_
    refine w_aload_n dX35_doMore_51 rfl rfl ?_
    obtain ⟨_, b5, hf⟩ := Option.bind_eq_some_iff.mp hf
    refine x_cnI hf (e_stV (Yc := YX35_isVertical) (ci := 34) (av := []) (st := []) dX35_doMore_52 q5449 mX35_isVertical rfl (k_ok_some b5).1 (k_ok_some b5).2) mX35_isVertical.2.2.1 mX35_isVertical.2.2.2.2.1 (Nat.le_of_ble_eq_true rfl) (Nat.le_of_ble_eq_true rfl) (fun q hq => pX35_isVertical (by omega) hq) (fun q6 hf => ?_)
    refine w_if_eq 143 dX35_doMore_55 (by decide) (fun c7 => ?_) (fun c7 => ?_)
    · replace hf := (if_pos (show q6.1 = 0 from c7)).symm.trans hf
      exact (pX35_doMore_b143 hd hdr hsE hsL hsN hf).to trivial
    · replace hf := (if_neg (show ¬ (q6.1 = 0) from c7)).symm.trans hf
      refine w_aload_n dX35_doMore_58 rfl rfl ?_
      refine w_iconst dX35_doMore_59 (v := 0) (by decide) ?_
      obtain ⟨_, b8, hf⟩ := Option.bind_eq_some_iff.mp hf
      refine x_cnV hf (e_stV (Yc := YX35_beginParagraph) (ci := 34) (av := [.int (0 : Int32)]) (st := []) dX35_doMore_60 q5453 mX35_beginParagraph rfl (k_ok_some b8).1 (k_ok_some b8).2) mX35_beginParagraph.2.2.1 mX35_beginParagraph.2.2.2.2.1 (Nat.le_of_ble_eq_true rfl) (Nat.le_of_ble_eq_true rfl) (fun q hq => pX35_beginParagraph (by omega) hdr hsL hq) (fun q9 hf => ?_)
      refine w_goto 143 dX35_doMore_63 (by decide) ?_
      exact (pX35_doMore_b143 hd hdr hsE hsL hsN hf).to trivial
  replace hf := (if_neg c4).symm.trans hf
  by_cases c10 : p0 = (64 : Int32)
  · replace hf := (if_pos c10).symm.trans hf
    refine w_tableIn 66 dX35_doMore_1 (by rw [c10]; decide) (by rw [c10]; decide) (by rw [c10]; rfl) (by decide) ?_
    refine w_aload_n dX35_doMore_66 rfl rfl ?_
    refine w_aload_n dX35_doMore_67 rfl rfl ?_
    obtain ⟨_, b11, hf⟩ := Option.bind_eq_some_iff.mp hf
    refine x_cnI hf (e_stV (Yc := YX35_isVertical) (ci := 34) (av := []) (st := [.ref this]) dX35_doMore_68 q5449 mX35_isVertical rfl (k_ok_some b11).1 (k_ok_some b11).2) mX35_isVertical.2.2.1 mX35_isVertical.2.2.2.2.1 (Nat.le_of_ble_eq_true rfl) (Nat.le_of_ble_eq_true rfl) (fun q hq => pX35_isVertical (by omega) hq) (fun q12 hf => ?_)
    refine w_iload_n dX35_doMore_71 rfl rfl ?_
    refine w_bipush dX35_doMore_72 (v := 64) (by decide) ?_
    refine w_icmp_ne 81 dX35_doMore_74 (by decide) (fun c13 => ?_) (fun c13 => ?_)
    · replace hf := (if_pos (show ¬ p0 = (64 : Int32) from c13)).symm.trans hf
      refine w_iconst dX35_doMore_81 (v := 0) (by decide) ?_
      exact (pX35_doMore_b82 hd hdr hsE hsL hsN hf).to trivial
    · replace hf := (if_neg (show ¬ (¬ p0 = (64 : Int32)) from (fun z => z c13))).symm.trans hf
      refine w_iconst dX35_doMore_77 (v := 1) (by decide) ?_
      refine w_goto 82 dX35_doMore_78 (by decide) ?_
      exact (pX35_doMore_b82 hd hdr hsE hsL hsN hf).to trivial
  replace hf := (if_neg c10).symm.trans hf
  by_cases c14 : p0 = (65 : Int32)
  · replace hf := (if_pos c14).symm.trans hf
    refine w_tableIn 66 dX35_doMore_1 (by rw [c14]; decide) (by rw [c14]; decide) (by rw [c14]; rfl) (by decide) ?_
    refine w_aload_n dX35_doMore_66 rfl rfl ?_
    refine w_aload_n dX35_doMore_67 rfl rfl ?_
    obtain ⟨_, b15, hf⟩ := Option.bind_eq_some_iff.mp hf
    refine x_cnI hf (e_stV (Yc := YX35_isVertical) (ci := 34) (av := []) (st := [.ref this]) dX35_doMore_68 q5449 mX35_isVertical rfl (k_ok_some b15).1 (k_ok_some b15).2) mX35_isVertical.2.2.1 mX35_isVertical.2.2.2.2.1 (Nat.le_of_ble_eq_true rfl) (Nat.le_of_ble_eq_true rfl) (fun q hq => pX35_isVertical (by omega) hq) (fun q16 hf => ?_)
    refine w_iload_n dX35_doMore_71 rfl rfl ?_
    refine w_bipush dX35_doMore_72 (v := 64) (by decide) ?_
    refine w_icmp_ne 81 dX35_doMore_74 (by decide) (fun c17 => ?_) (fun c17 => ?_)
    · replace hf := (if_pos (show ¬ p0 = (64 : Int32) from c17)).symm.trans hf
      refine w_iconst dX35_doMore_81 (v := 0) (by decide) ?_
      exact (pX35_doMore_b82 hd hdr hsE hsL hsN hf).to trivial
    · replace hf := (if_neg (show ¬ (¬ p0 = (64 : Int32)) from (fun z => z c17))).symm.trans hf
      refine w_iconst dX35_doMore_77 (v := 1) (by decide) ?_
      refine w_goto 82 dX35_doMore_78 (by decide) ?_
      exact (pX35_doMore_b82 hd hdr hsE hsL hsN hf).to trivial
  replace hf := (if_neg c14).symm.trans hf
  by_cases c18 : p0 = (66 : Int32)
  · replace hf := (if_pos c18).symm.trans hf
    refine w_tableIn 88 dX35_doMore_1 (by rw [c18]; decide) (by rw [c18]; decide) (by rw [c18]; rfl) (by decide) ?_
    refine w_aload_n dX35_doMore_88 rfl rfl ?_
    refine w_aload_n dX35_doMore_89 rfl rfl ?_
    obtain ⟨_, b19, hf⟩ := Option.bind_eq_some_iff.mp hf
    refine x_cnI hf (e_stV (Yc := YX35_isVertical) (ci := 34) (av := []) (st := [.ref this]) dX35_doMore_90 q5449 mX35_isVertical rfl (k_ok_some b19).1 (k_ok_some b19).2) mX35_isVertical.2.2.1 mX35_isVertical.2.2.2.2.1 (Nat.le_of_ble_eq_true rfl) (Nat.le_of_ble_eq_true rfl) (fun q hq => pX35_isVertical (by omega) hq) (fun q20 hf => ?_)
    refine w_if_ne 100 dX35_doMore_93 (by decide) (fun c21 => ?_) (fun c21 => ?_)
    · replace hf := (if_pos (show ¬ q20.1 = 0 from c21)).symm.trans hf
      refine w_iconst dX35_doMore_100 (v := 0) (by decide) ?_
      exact (pX35_doMore_b101 hd hdr hsE hsL hsN hf).to ⟨rfl, trivial⟩
    · replace hf := (if_neg (show ¬ (¬ q20.1 = 0) from (fun z => z c21))).symm.trans hf
      refine w_iconst dX35_doMore_96 (v := 1) (by decide) ?_
      refine w_goto 101 dX35_doMore_97 (by decide) ?_
      exact (pX35_doMore_b101 hd hdr hsE hsL hsN hf).to ⟨rfl, trivial⟩
  replace hf := (if_neg c18).symm.trans hf
  by_cases c22 : p0 = (67 : Int32)
  · replace hf := (if_pos c22).symm.trans hf
    refine w_tableIn 88 dX35_doMore_1 (by rw [c22]; decide) (by rw [c22]; decide) (by rw [c22]; rfl) (by decide) ?_
    refine w_aload_n dX35_doMore_88 rfl rfl ?_
    refine w_aload_n dX35_doMore_89 rfl rfl ?_
    obtain ⟨_, b23, hf⟩ := Option.bind_eq_some_iff.mp hf
    refine x_cnI hf (e_stV (Yc := YX35_isVertical) (ci := 34) (av := []) (st := [.ref this]) dX35_doMore_90 q5449 mX35_isVertical rfl (k_ok_some b23).1 (k_ok_some b23).2) mX35_isVertical.2.2.1 mX35_isVertical.2.2.2.2.1 (Nat.le_of_ble_eq_true rfl) (Nat.le_of_ble_eq_true rfl) (fun q hq => pX35_isVertical (by omega) hq) (fun q24 hf => ?_)
    refine w_if_ne 100 dX35_doMore_93 (by decide) (fun c25 => ?_) (fun c25 => ?_)
    · replace hf := (if_pos (show ¬ q24.1 = 0 from c25)).symm.trans hf
      refine w_iconst dX35_doMore_100 (v := 0) (by decide) ?_
      exact (pX35_doMore_b101 hd hdr hsE hsL hsN hf).to ⟨rfl, trivial⟩
    · replace hf := (if_neg (show ¬ (¬ q24.1 = 0) from (fun z => z c25))).symm.trans hf
      refine w_iconst dX35_doMore_96 (v := 1) (by decide) ?_
      refine w_goto 101 dX35_doMore_97 (by decide) ?_
      exact (pX35_doMore_b101 hd hdr hsE hsL hsN hf).to ⟨rfl, trivial⟩
  replace hf := (if_neg c22).symm.trans hf
  by_cases c26 : p0 = (68 : Int32)
  · replace hf := (if_pos c26).symm.trans hf
    refine w_tableIn 118 dX35_doMore_1 (by rw [c26]; decide) (by rw [c26]; decide) (by rw [c26]; rfl) (by decide) ?_
    refine w_aload_n dX35_doMore_118 rfl rfl ?_
    obtain ⟨_, b27, hf⟩ := Option.bind_eq_some_iff.mp hf
    refine x_cnI hf (e_stV (Yc := YX35_horizontally) (ci := 34) (av := []) (st := []) dX35_doMore_119 q6005 mX35_horizontally rfl (k_ok_some b27).1 (k_ok_some b27).2) mX35_horizontally.2.2.1 mX35_horizontally.2.2.2.2.1 (Nat.le_of_ble_eq_true rfl) (Nat.le_of_ble_eq_true rfl) (fun q hq => pX35_horizontally (by omega) hdr hsL hq) (fun q28 hf => ?_)
    refine w_if_eq 143 dX35_doMore_122 (by decide) (fun c29 => ?_) (fun c29 => ?_)
    · replace hf := (if_pos (show q28.1 = 0 from c29)).symm.trans hf
      exact (pX35_doMore_b143 hd hdr hsE hsL hsN hf).to trivial
    · replace hf := (if_neg (show ¬ (q28.1 = 0) from c29)).symm.trans hf
      refine w_aload_n dX35_doMore_125 rfl rfl ?_
      obtain ⟨_, b30, hf⟩ := Option.bind_eq_some_iff.mp hf
      refine x_cnV hf (e_stV (Yc := YX35_soft) (ci := 34) (av := []) (st := []) dX35_doMore_126 q6044 mX35_soft rfl (k_ok_some b30).1 (k_ok_some b30).2) mX35_soft.2.2.1 mX35_soft.2.2.2.2.1 (Nat.le_of_ble_eq_true rfl) (Nat.le_of_ble_eq_true rfl) (fun q hq => pX35_soft (by omega) hq) (fun q31 hf => ?_)
      refine w_goto 143 dX35_doMore_129 (by decide) ?_
      exact (pX35_doMore_b143 hd hdr hsE hsL hsN hf).to trivial
  replace hf := (if_neg c26).symm.trans hf
  refine w_tableOut 132 dX35_doMore_1 (by have n0 := sw_ne c1 (by decide : (62 : Int32).toInt = 62); have n1 := sw_ne c4 (by decide : (63 : Int32).toInt = 63); have n2 := sw_ne c10 (by decide : (64 : Int32).toInt = 64); have n3 := sw_ne c14 (by decide : (65 : Int32).toInt = 65); have n4 := sw_ne c18 (by decide : (66 : Int32).toInt = 66); have n5 := sw_ne c22 (by decide : (67 : Int32).toInt = 67); have n6 := sw_ne c26 (by decide : (68 : Int32).toInt = 68); omega) (by decide) ?_
  refine w_aload_n dX35_doMore_132 rfl rfl ?_
  obtain ⟨_, b32, hf⟩ := Option.bind_eq_some_iff.mp hf
  refine x_cnI hf (e_stV (Yc := YX35_horizontally) (ci := 34) (av := []) (st := []) dX35_doMore_133 q6005 mX35_horizontally rfl (k_ok_some b32).1 (k_ok_some b32).2) mX35_horizontally.2.2.1 mX35_horizontally.2.2.2.2.1 (Nat.le_of_ble_eq_true rfl) (Nat.le_of_ble_eq_true rfl) (fun q hq => pX35_horizontally (by omega) hdr hsL hq) (fun q33 hf => ?_)
  refine w_if_eq 143 dX35_doMore_136 (by decide) (fun c34 => ?_) (fun c34 => ?_)
  · replace hf := (if_pos (show q33.1 = 0 from c34)).symm.trans hf
    exact (pX35_doMore_b143 hd hdr hsE hsL hsN hf).to trivial
  · replace hf := (if_neg (show ¬ (q33.1 = 0) from c34)).symm.trans hf
    refine w_aload_n dX35_doMore_139 rfl rfl ?_
    obtain ⟨_, b35, hf⟩ := Option.bind_eq_some_iff.mp hf
    refine x_cnV hf (e_stV (Yc := YX35_space) (ci := 34) (av := []) (st := []) dX35_doMore_140 q5899 mX35_space rfl (k_ok_some b35).1 (k_ok_some b35).2) mX35_space.2.2.1 mX35_space.2.2.2.2.1 (Nat.le_of_ble_eq_true rfl) (Nat.le_of_ble_eq_true rfl) (fun q hq => pX35_space (by omega) hdr hsL hq) (fun q36 hf => ?_)
    exact (pX35_doMore_b143 hd hdr hsE hsL hsN hf).to trivial
abbrev cX35_doList : ByteArray := prog_37_method_177_code
def yX35_doList : MethodName := ⟨RX35, "doList", "(I)V"⟩
def YX35_doList : eY := (yX35_doList, cX35_doList, 4, none, [])
theorem mX35_doList : e_mv YX35_doList RX35 1 := ⟨q6003, qs414, q6004, by decide, by decide +kernel, (e_sig (by decide +kernel))⟩
theorem dX35_doList_0 : decode cX35_doList 0 = .ok (.iload_n 1, 1) := dc_27 (by decide +kernel)
theorem dX35_doList_1 : decode cX35_doList 1 = .ok (.tableswitch 257 47 61 #[75, 75, 75, 75, 257, 86, 114, 114, 100, 143, 143, 172, 192, 213, 234], 75) := by decide +kernel
theorem dX35_doList_76 : decode cX35_doList 76 = .ok (.aload_n 0, 1) := dc_42 (by decide +kernel)
theorem dX35_doList_77 : decode cX35_doList 77 = .ok (.iload_n 1, 1) := dc_27 (by decide +kernel)
theorem dX35_doList_78 : decode cX35_doList 78 = .ok (.iconst (-1), 1) := dc_2 (by decide +kernel)
theorem dX35_doList_79 : decode cX35_doList 79 = .ok (.iconst 0, 1) := dc_3 (by decide +kernel)
theorem dX35_doList_80 : decode cX35_doList 80 = .ok (.iconst 0, 1) := dc_3 (by decide +kernel)
theorem dX35_doList_81 : decode cX35_doList 81 = .ok (.invokevirtual 1146, 3) := dc_182 (a := 4) (b := 122) (n := 1146) (by decide +kernel)
theorem dX35_doList_84 : decode cX35_doList 84 = .ok (.goto 179, 3) := dc_167 (a := 0) (b := 179) (v := 179) (by decide +kernel)
theorem dX35_doList_87 : decode cX35_doList 87 = .ok (.aload_n 0, 1) := dc_42 (by decide +kernel)
theorem dX35_doList_88 : decode cX35_doList 88 = .ok (.invokevirtual 1184, 3) := dc_182 (a := 4) (b := 160) (n := 1184) (by decide +kernel)
theorem dX35_doList_91 : decode cX35_doList 91 = .ok (.ifCond .eq 172, 3) := dc_153 (a := 0) (b := 172) (v := 172) (by decide +kernel)
theorem dX35_doList_94 : decode cX35_doList 94 = .ok (.aload_n 0, 1) := dc_42 (by decide +kernel)
theorem dX35_doList_95 : decode cX35_doList 95 = .ok (.invokevirtual 1187, 3) := dc_182 (a := 4) (b := 163) (n := 1187) (by decide +kernel)
theorem dX35_doList_98 : decode cX35_doList 98 = .ok (.goto 165, 3) := dc_167 (a := 0) (b := 165) (v := 165) (by decide +kernel)
theorem dX35_doList_101 : decode cX35_doList 101 = .ok (.aload_n 0, 1) := dc_42 (by decide +kernel)
theorem dX35_doList_102 : decode cX35_doList 102 = .ok (.invokevirtual 1190, 3) := dc_182 (a := 4) (b := 166) (n := 1190) (by decide +kernel)
theorem dX35_doList_105 : decode cX35_doList 105 = .ok (.ifCond .eq 158, 3) := dc_153 (a := 0) (b := 158) (v := 158) (by decide +kernel)
theorem dX35_doList_108 : decode cX35_doList 108 = .ok (.aload_n 0, 1) := dc_42 (by decide +kernel)
theorem dX35_doList_109 : decode cX35_doList 109 = .ok (.invokevirtual 1187, 3) := dc_182 (a := 4) (b := 163) (n := 1187) (by decide +kernel)
theorem dX35_doList_112 : decode cX35_doList 112 = .ok (.goto 151, 3) := dc_167 (a := 0) (b := 151) (v := 151) (by decide +kernel)
theorem dX35_doList_115 : decode cX35_doList 115 = .ok (.aload_n 0, 1) := dc_42 (by decide +kernel)
theorem dX35_doList_116 : decode cX35_doList 116 = .ok (.invokevirtual 1184, 3) := dc_182 (a := 4) (b := 160) (n := 1184) (by decide +kernel)
theorem dX35_doList_119 : decode cX35_doList 119 = .ok (.ifCond .eq 144, 3) := dc_153 (a := 0) (b := 144) (v := 144) (by decide +kernel)
theorem dX35_doList_122 : decode cX35_doList 122 = .ok (.aload_n 0, 1) := dc_42 (by decide +kernel)
theorem dX35_doList_123 : decode cX35_doList 123 = .ok (.iconst 0, 1) := dc_3 (by decide +kernel)
theorem dX35_doList_124 : decode cX35_doList 124 = .ok (.ldc 7, 2) := dc_18 (a := 7) (by decide +kernel)
theorem dX35_doList_126 : decode cX35_doList 126 = .ok (.iload_n 1, 1) := dc_27 (by decide +kernel)
theorem dX35_doList_127 : decode cX35_doList 127 = .ok (.bipush 53, 2) := dc_16 (a := 53) (v := 53) (by decide +kernel)
theorem dX35_doList_129 : decode cX35_doList 129 = .ok (.if_icmp .ne 7, 3) := dc_160 (a := 0) (b := 7) (v := 7) (by decide +kernel)
theorem dX35_doList_132 : decode cX35_doList 132 = .ok (.iconst 1, 1) := dc_4 (by decide +kernel)
theorem dX35_doList_133 : decode cX35_doList 133 = .ok (.goto 4, 3) := dc_167 (a := 0) (b := 4) (v := 4) (by decide +kernel)
theorem dX35_doList_136 : decode cX35_doList 136 = .ok (.iconst 2, 1) := dc_5 (by decide +kernel)
theorem dX35_doList_137 : decode cX35_doList 137 = .ok (.iconst 0, 1) := dc_3 (by decide +kernel)
theorem dX35_doList_138 : decode cX35_doList 138 = .ok (.invokevirtual 802, 3) := dc_182 (a := 3) (b := 34) (n := 802) (by decide +kernel)
theorem dX35_doList_141 : decode cX35_doList 141 = .ok (.goto 122, 3) := dc_167 (a := 0) (b := 122) (v := 122) (by decide +kernel)
theorem dX35_doList_144 : decode cX35_doList 144 = .ok (.aload_n 0, 1) := dc_42 (by decide +kernel)
theorem dX35_doList_145 : decode cX35_doList 145 = .ok (.invokevirtual 1190, 3) := dc_182 (a := 4) (b := 166) (n := 1190) (by decide +kernel)
theorem dX35_doList_148 : decode cX35_doList 148 = .ok (.ifCond .eq 115, 3) := dc_153 (a := 0) (b := 115) (v := 115) (by decide +kernel)
theorem dX35_doList_151 : decode cX35_doList 151 = .ok (.aload_n 0, 1) := dc_42 (by decide +kernel)
theorem dX35_doList_152 : decode cX35_doList 152 = .ok (.iconst 0, 1) := dc_3 (by decide +kernel)
theorem dX35_doList_153 : decode cX35_doList 153 = .ok (.ldc 7, 2) := dc_18 (a := 7) (by decide +kernel)
theorem dX35_doList_155 : decode cX35_doList 155 = .ok (.iload_n 1, 1) := dc_27 (by decide +kernel)
theorem dX35_doList_156 : decode cX35_doList 156 = .ok (.bipush 56, 2) := dc_16 (a := 56) (v := 56) (by decide +kernel)
theorem dX35_doList_158 : decode cX35_doList 158 = .ok (.if_icmp .ne 7, 3) := dc_160 (a := 0) (b := 7) (v := 7) (by decide +kernel)
theorem dX35_doList_161 : decode cX35_doList 161 = .ok (.iconst 1, 1) := dc_4 (by decide +kernel)
theorem dX35_doList_162 : decode cX35_doList 162 = .ok (.goto 4, 3) := dc_167 (a := 0) (b := 4) (v := 4) (by decide +kernel)
theorem dX35_doList_165 : decode cX35_doList 165 = .ok (.iconst 2, 1) := dc_5 (by decide +kernel)
theorem dX35_doList_166 : decode cX35_doList 166 = .ok (.iconst 0, 1) := dc_3 (by decide +kernel)
theorem dX35_doList_167 : decode cX35_doList 167 = .ok (.invokevirtual 802, 3) := dc_182 (a := 3) (b := 34) (n := 802) (by decide +kernel)
theorem dX35_doList_170 : decode cX35_doList 170 = .ok (.goto 93, 3) := dc_167 (a := 0) (b := 93) (v := 93) (by decide +kernel)
theorem dX35_doList_173 : decode cX35_doList 173 = .ok (.aload_n 0, 1) := dc_42 (by decide +kernel)
theorem dX35_doList_174 : decode cX35_doList 174 = .ok (.invokevirtual 614, 3) := dc_182 (a := 2) (b := 102) (n := 614) (by decide +kernel)
theorem dX35_doList_177 : decode cX35_doList 177 = .ok (.istore_n 2, 1) := dc_61 (by decide +kernel)
theorem dX35_doList_178 : decode cX35_doList 178 = .ok (.aload_n 0, 1) := dc_42 (by decide +kernel)
theorem dX35_doList_179 : decode cX35_doList 179 = .ok (.getfield 321, 3) := dc_180 (a := 1) (b := 65) (n := 321) (by decide +kernel)
theorem dX35_doList_182 : decode cX35_doList 182 = .ok (.ifCond .ne 81, 3) := dc_154 (a := 0) (b := 81) (v := 81) (by decide +kernel)
theorem dX35_doList_185 : decode cX35_doList 185 = .ok (.aload_n 0, 1) := dc_42 (by decide +kernel)
theorem dX35_doList_186 : decode cX35_doList 186 = .ok (.iload_n 2, 1) := dc_28 (by decide +kernel)
theorem dX35_doList_187 : decode cX35_doList 187 = .ok (.invokevirtual 1193, 3) := dc_182 (a := 4) (b := 169) (n := 1193) (by decide +kernel)
theorem dX35_doList_190 : decode cX35_doList 190 = .ok (.goto 73, 3) := dc_167 (a := 0) (b := 73) (v := 73) (by decide +kernel)
theorem dX35_doList_193 : decode cX35_doList 193 = .ok (.aload_n 0, 1) := dc_42 (by decide +kernel)
theorem dX35_doList_194 : decode cX35_doList 194 = .ok (.invokevirtual 518, 3) := dc_182 (a := 2) (b := 6) (n := 518) (by decide +kernel)
theorem dX35_doList_197 : decode cX35_doList 197 = .ok (.istore_n 3, 1) := dc_62 (by decide +kernel)
theorem dX35_doList_198 : decode cX35_doList 198 = .ok (.aload_n 0, 1) := dc_42 (by decide +kernel)
theorem dX35_doList_199 : decode cX35_doList 199 = .ok (.getfield 321, 3) := dc_180 (a := 1) (b := 65) (n := 321) (by decide +kernel)
theorem dX35_doList_202 : decode cX35_doList 202 = .ok (.ifCond .ne 61, 3) := dc_154 (a := 0) (b := 61) (v := 61) (by decide +kernel)
theorem dX35_doList_205 : decode cX35_doList 205 = .ok (.aload_n 0, 1) := dc_42 (by decide +kernel)
theorem dX35_doList_206 : decode cX35_doList 206 = .ok (.iload_n 3, 1) := dc_29 (by decide +kernel)
theorem dX35_doList_207 : decode cX35_doList 207 = .ok (.i2l, 1) := dc_133 (by decide +kernel)
theorem dX35_doList_208 : decode cX35_doList 208 = .ok (.invokevirtual 948, 3) := dc_182 (a := 3) (b := 180) (n := 948) (by decide +kernel)
theorem dX35_doList_211 : decode cX35_doList 211 = .ok (.goto 52, 3) := dc_167 (a := 0) (b := 52) (v := 52) (by decide +kernel)
theorem dX35_doList_214 : decode cX35_doList 214 = .ok (.aload_n 0, 1) := dc_42 (by decide +kernel)
theorem dX35_doList_215 : decode cX35_doList 215 = .ok (.invokevirtual 1190, 3) := dc_182 (a := 4) (b := 166) (n := 1190) (by decide +kernel)
theorem dX35_doList_218 : decode cX35_doList 218 = .ok (.ifCond .eq 45, 3) := dc_153 (a := 0) (b := 45) (v := 45) (by decide +kernel)
theorem dX35_doList_221 : decode cX35_doList 221 = .ok (.aload_n 0, 1) := dc_42 (by decide +kernel)
theorem dX35_doList_222 : decode cX35_doList 222 = .ok (.ldc_w 816, 3) := dc_19 (a := 3) (b := 48) (n := 816) (by decide +kernel)
theorem dX35_doList_225 : decode cX35_doList 225 = .ok (.sipush 26214, 3) := dc_17 (a := 102) (b := 102) (v := 26214) (by decide +kernel)
theorem dX35_doList_228 : decode cX35_doList 228 = .ok (.iconst 0, 1) := dc_3 (by decide +kernel)
theorem dX35_doList_229 : decode cX35_doList 229 = .ok (.invokevirtual 1196, 3) := dc_182 (a := 4) (b := 172) (n := 1196) (by decide +kernel)
theorem dX35_doList_232 : decode cX35_doList 232 = .ok (.goto 31, 3) := dc_167 (a := 0) (b := 31) (v := 31) (by decide +kernel)
theorem dX35_doList_235 : decode cX35_doList 235 = .ok (.aload_n 0, 1) := dc_42 (by decide +kernel)
theorem dX35_doList_236 : decode cX35_doList 236 = .ok (.invokevirtual 1184, 3) := dc_182 (a := 4) (b := 160) (n := 1184) (by decide +kernel)
theorem dX35_doList_239 : decode cX35_doList 239 = .ok (.ifCond .eq 24, 3) := dc_153 (a := 0) (b := 24) (v := 24) (by decide +kernel)
theorem dX35_doList_242 : decode cX35_doList 242 = .ok (.aload_n 0, 1) := dc_42 (by decide +kernel)
theorem dX35_doList_243 : decode cX35_doList 243 = .ok (.sipush 26214, 3) := dc_17 (a := 102) (b := 102) (v := 26214) (by decide +kernel)
theorem dX35_doList_246 : decode cX35_doList 246 = .ok (.ldc_w 816, 3) := dc_19 (a := 3) (b := 48) (n := 816) (by decide +kernel)
theorem dX35_doList_249 : decode cX35_doList 249 = .ok (.ldc_w 816, 3) := dc_19 (a := 3) (b := 48) (n := 816) (by decide +kernel)
theorem dX35_doList_252 : decode cX35_doList 252 = .ok (.invokevirtual 1196, 3) := dc_182 (a := 4) (b := 172) (n := 1196) (by decide +kernel)
theorem dX35_doList_255 : decode cX35_doList 255 = .ok (.goto 8, 3) := dc_167 (a := 0) (b := 8) (v := 8) (by decide +kernel)
theorem dX35_doList_258 : decode cX35_doList 258 = .ok (.aload_n 0, 1) := dc_42 (by decide +kernel)
theorem dX35_doList_259 : decode cX35_doList 259 = .ok (.iload_n 1, 1) := dc_27 (by decide +kernel)
theorem dX35_doList_260 : decode cX35_doList 260 = .ok (.invokevirtual 1199, 3) := dc_182 (a := 4) (b := 175) (n := 1199) (by decide +kernel)
theorem dX35_doList_263 : decode cX35_doList 263 = .ok (.return_, 1) := dc_177 (by decide +kernel)
def fX35_doList_b263 (N : Nat) (sE : Nat → Int32 → eH → Option (Unit × eH)) (sL : Nat → Int32 → Int64 → Int64 → eH → Option (Int32 × eH)) (sN : Nat → eH → Option (Int32 × eH))  (h : eH) : Option (Unit × eH) :=
  some ((), h)
theorem pX35_doList_b263 {w : eW} {d : Nat} {dr : Nat} (hd : dr + 17 ≤ d + 1) (hdr : 12 ≤ dr) {N : Nat} {sE : Nat → Int32 → eH → Option (Unit × eH)} {sL : Nat → Int32 → Int64 → Int64 → eH → Option (Int32 × eH)} {sN : Nat → eH → Option (Int32 × eH)} (hsE : ∀ a t0 h q, sE a t0 h = some q → wm w dr YX35_expand [.ref a, .int t0] h (e_is (e_rn c_V q))) (hsL : ∀ a t0 t1 t2 h q, sL a t0 t1 t2 h = some q → wm w dr YX35_layBox [.ref a, .int t0, .long t1, .long t2] h (e_is (e_rn c_I q))) (hsN : ∀ a h q, sN a h = some q → wm w dr YX35_number [.ref a] h (e_is (e_rn c_I q)))  {h : eH} {q} (hf : fX35_doList_b263 N sE sL sN h = some q) : wp w (d + 1) YX35_doList 263 [none, none, none, none] [] h (e_is (e_rn c_V q)) := by
  unfold fX35_doList_b263 at hf
  cases hf
  exact w_vret dX35_doList_263 rfl rfl
def fX35_doList_b137 (N : Nat) (sE : Nat → Int32 → eH → Option (Unit × eH)) (sL : Nat → Int32 → Int64 → Int64 → eH → Option (Int32 × eH)) (sN : Nat → eH → Option (Int32 × eH)) (s0 : Nat) (s1 : Int32) (s2 : Int32) (s3 : Int32) (h : eH) : Option (Unit × eH) :=
  (k_ok 34 h s0).bind fun _ =>
  (fX35_glueItem N sL s0 s1 s2 s3 (0 : Int32) h).bind fun q2 =>
  fX35_doList_b263 N sE sL sN q2.2
theorem pX35_doList_b137 {w : eW} {d : Nat} {dr : Nat} (hd : dr + 17 ≤ d + 1) (hdr : 12 ≤ dr) {N : Nat} {sE : Nat → Int32 → eH → Option (Unit × eH)} {sL : Nat → Int32 → Int64 → Int64 → eH → Option (Int32 × eH)} {sN : Nat → eH → Option (Int32 × eH)} (hsE : ∀ a t0 h q, sE a t0 h = some q → wm w dr YX35_expand [.ref a, .int t0] h (e_is (e_rn c_V q))) (hsL : ∀ a t0 t1 t2 h q, sL a t0 t1 t2 h = some q → wm w dr YX35_layBox [.ref a, .int t0, .long t1, .long t2] h (e_is (e_rn c_I q))) (hsN : ∀ a h q, sN a h = some q → wm w dr YX35_number [.ref a] h (e_is (e_rn c_I q))) {s0 : Nat} {s1 : Int32} {s2 : Int32} {s3 : Int32} {h : eH} {q} (hf : fX35_doList_b137 N sE sL sN s0 s1 s2 s3 h = some q) : wp w (d + 1) YX35_doList 137 [none, none, none, none] [.int s3, .int s2, .int s1, .ref s0] h (e_is (e_rn c_V q)) := by
  unfold fX35_doList_b137 at hf
  refine w_iconst dX35_doList_137 (v := 0) (by decide) ?_
  obtain ⟨_, b1, hf⟩ := Option.bind_eq_some_iff.mp hf
  refine x_cnV hf (e_stV (Yc := YX35_glueItem) (ci := 34) (av := [.int s1, .int s2, .int s3, .int (0 : Int32)]) (st := []) dX35_doList_138 q5461 mX35_glueItem rfl (k_ok_some b1).1 (k_ok_some b1).2) mX35_glueItem.2.2.1 mX35_glueItem.2.2.2.2.1 (Nat.le_of_ble_eq_true rfl) (Nat.le_of_ble_eq_true rfl) (fun q hq => pX35_glueItem (by omega) hdr hsL hq) (fun q2 hf => ?_)
  refine w_goto 263 dX35_doList_141 (by decide) ?_
  exact (pX35_doList_b263 hd hdr hsE hsL hsN hf).to trivial
def fX35_doList_b166 (N : Nat) (sE : Nat → Int32 → eH → Option (Unit × eH)) (sL : Nat → Int32 → Int64 → Int64 → eH → Option (Int32 × eH)) (sN : Nat → eH → Option (Int32 × eH)) (s0 : Nat) (s1 : Int32) (s2 : Int32) (s3 : Int32) (h : eH) : Option (Unit × eH) :=
  (k_ok 34 h s0).bind fun _ =>
  (fX35_glueItem N sL s0 s1 s2 s3 (0 : Int32) h).bind fun q2 =>
  fX35_doList_b263 N sE sL sN q2.2
theorem pX35_doList_b166 {w : eW} {d : Nat} {dr : Nat} (hd : dr + 17 ≤ d + 1) (hdr : 12 ≤ dr) {N : Nat} {sE : Nat → Int32 → eH → Option (Unit × eH)} {sL : Nat → Int32 → Int64 → Int64 → eH → Option (Int32 × eH)} {sN : Nat → eH → Option (Int32 × eH)} (hsE : ∀ a t0 h q, sE a t0 h = some q → wm w dr YX35_expand [.ref a, .int t0] h (e_is (e_rn c_V q))) (hsL : ∀ a t0 t1 t2 h q, sL a t0 t1 t2 h = some q → wm w dr YX35_layBox [.ref a, .int t0, .long t1, .long t2] h (e_is (e_rn c_I q))) (hsN : ∀ a h q, sN a h = some q → wm w dr YX35_number [.ref a] h (e_is (e_rn c_I q))) {s0 : Nat} {s1 : Int32} {s2 : Int32} {s3 : Int32} {h : eH} {q} (hf : fX35_doList_b166 N sE sL sN s0 s1 s2 s3 h = some q) : wp w (d + 1) YX35_doList 166 [none, none, none, none] [.int s3, .int s2, .int s1, .ref s0] h (e_is (e_rn c_V q)) := by
  unfold fX35_doList_b166 at hf
  refine w_iconst dX35_doList_166 (v := 0) (by decide) ?_
  obtain ⟨_, b1, hf⟩ := Option.bind_eq_some_iff.mp hf
  refine x_cnV hf (e_stV (Yc := YX35_glueItem) (ci := 34) (av := [.int s1, .int s2, .int s3, .int (0 : Int32)]) (st := []) dX35_doList_167 q5461 mX35_glueItem rfl (k_ok_some b1).1 (k_ok_some b1).2) mX35_glueItem.2.2.1 mX35_glueItem.2.2.2.2.1 (Nat.le_of_ble_eq_true rfl) (Nat.le_of_ble_eq_true rfl) (fun q hq => pX35_glueItem (by omega) hdr hsL hq) (fun q2 hf => ?_)
  refine w_goto 263 dX35_doList_170 (by decide) ?_
  exact (pX35_doList_b263 hd hdr hsE hsL hsN hf).to trivial
def fX35_doList (N : Nat) (sE : Nat → Int32 → eH → Option (Unit × eH)) (sL : Nat → Int32 → Int64 → Int64 → eH → Option (Int32 × eH)) (sN : Nat → eH → Option (Int32 × eH)) (this : Nat) (p0 : Int32) (h : eH) : Option (Unit × eH) :=
  if p0 = (47 : Int32) then
    (k_ok 34 h this).bind fun _ =>
    (fX35_readFrom N sE sL sN this p0 (-1 : Int32) (0 : Int32) (0 : Int32) h).bind fun q3 =>
    fX35_doList_b263 N sE sL sN q3.2
  else
  if p0 = (48 : Int32) then
    (k_ok 34 h this).bind fun _ =>
    (fX35_readFrom N sE sL sN this p0 (-1 : Int32) (0 : Int32) (0 : Int32) h).bind fun q6 =>
    fX35_doList_b263 N sE sL sN q6.2
  else
  if p0 = (49 : Int32) then
    (k_ok 34 h this).bind fun _ =>
    (fX35_readFrom N sE sL sN this p0 (-1 : Int32) (0 : Int32) (0 : Int32) h).bind fun q9 =>
    fX35_doList_b263 N sE sL sN q9.2
  else
  if p0 = (50 : Int32) then
    (k_ok 34 h this).bind fun _ =>
    (fX35_readFrom N sE sL sN this p0 (-1 : Int32) (0 : Int32) (0 : Int32) h).bind fun q12 =>
    fX35_doList_b263 N sE sL sN q12.2
  else
  if p0 = (51 : Int32) then
    (k_ok 34 h this).bind fun _ =>
    (fX35_doMore N sE sL sN this p0 h).bind fun q15 =>
    fX35_doList_b263 N sE sL sN q15.2
  else
  if p0 = (52 : Int32) then
    (k_ok 34 h this).bind fun _ =>
    (fX35_horizontally N sL this h).bind fun q18 =>
    if q18.1 = 0 then
      fX35_doList_b263 N sE sL sN q18.2
    else
      (k_ok 34 q18.2 this).bind fun _ =>
      (fX35_skip N sE sL sN this q18.2).bind fun q21 =>
      fX35_doList_b263 N sE sL sN q21.2
  else
  if p0 = (53 : Int32) then
    (k_ok 34 h this).bind fun _ =>
    (fX35_horizontally N sL this h).bind fun q24 =>
    if q24.1 = 0 then
      fX35_doList_b263 N sE sL sN q24.2
    else
      if ¬ p0 = (53 : Int32) then
        fX35_doList_b137 N sE sL sN this (0 : Int32) (65536 : Int32) (2 : Int32) q24.2
      else
        fX35_doList_b137 N sE sL sN this (0 : Int32) (65536 : Int32) (1 : Int32) q24.2
  else
  if p0 = (54 : Int32) then
    (k_ok 34 h this).bind fun _ =>
    (fX35_horizontally N sL this h).bind fun q29 =>
    if q29.1 = 0 then
      fX35_doList_b263 N sE sL sN q29.2
    else
      if ¬ p0 = (53 : Int32) then
        fX35_doList_b137 N sE sL sN this (0 : Int32) (65536 : Int32) (2 : Int32) q29.2
      else
        fX35_doList_b137 N sE sL sN this (0 : Int32) (65536 : Int32) (1 : Int32) q29.2
  else
  if p0 = (55 : Int32) then
    (k_ok 34 h this).bind fun _ =>
    (fX35_vertically N sL this h).bind fun q34 =>
    if q34.1 = 0 then
      fX35_doList_b263 N sE sL sN q34.2
    else
      (k_ok 34 q34.2 this).bind fun _ =>
      (fX35_skip N sE sL sN this q34.2).bind fun q37 =>
      fX35_doList_b263 N sE sL sN q37.2
  else
  if p0 = (56 : Int32) then
    (k_ok 34 h this).bind fun _ =>
    (fX35_vertically N sL this h).bind fun q40 =>
    if q40.1 = 0 then
      fX35_doList_b263 N sE sL sN q40.2
    else
      if ¬ p0 = (56 : Int32) then
        fX35_doList_b166 N sE sL sN this (0 : Int32) (65536 : Int32) (2 : Int32) q40.2
      else
        fX35_doList_b166 N sE sL sN this (0 : Int32) (65536 : Int32) (1 : Int32) q40.2
  else
  if p0 = (57 : Int32) then
    (k_ok 34 h this).bind fun _ =>
    (fX35_vertically N sL this h).bind fun q45 =>
    if q45.1 = 0 then
      fX35_doList_b263 N sE sL sN q45.2
    else
      if ¬ p0 = (56 : Int32) then
        fX35_doList_b166 N sE sL sN this (0 : Int32) (65536 : Int32) (2 : Int32) q45.2
      else
        fX35_doList_b166 N sE sL sN this (0 : Int32) (65536 : Int32) (1 : Int32) q45.2
  else
  if p0 = (58 : Int32) then
    (k_ok 34 h this).bind fun _ =>
    (fX35_dimension N sE sN this h).bind fun q50 =>
    (g_I 34 q50.2 this 46).bind fun x51 =>
    if ¬ x51 = 0 then
      fX35_doList_b263 N sE sL sN q50.2
    else
      (k_ok 34 q50.2 this).bind fun _ =>
      (fX35_kernItem N sL this q50.1 q50.2).bind fun q55 =>
      fX35_doList_b263 N sE sL sN q55.2
  else
  if p0 = (59 : Int32) then
    (k_ok 34 h this).bind fun _ =>
    (sN this h).bind fun q58 =>
    (g_I 34 q58.2 this 46).bind fun x59 =>
    if ¬ x59 = 0 then
      fX35_doList_b263 N sE sL sN q58.2
    else
      (k_ok 34 q58.2 this).bind fun _ =>
      (fX35_penaltyItem N sL this (q58.1).toInt64 q58.2).bind fun q63 =>
      fX35_doList_b263 N sE sL sN q63.2
  else
  if p0 = (60 : Int32) then
    (k_ok 34 h this).bind fun _ =>
    (fX35_vertically N sL this h).bind fun q66 =>
    if q66.1 = 0 then
      fX35_doList_b263 N sE sL sN q66.2
    else
      (k_ok 34 q66.2 this).bind fun _ =>
      (fX35_rule N sE sL sN this (-1073741824 : Int32) (26214 : Int32) (0 : Int32) q66.2).bind fun q69 =>
      fX35_doList_b263 N sE sL sN q69.2
  else
  if p0 = (61 : Int32) then
    (k_ok 34 h this).bind fun _ =>
    (fX35_horizontally N sL this h).bind fun q72 =>
    if q72.1 = 0 then
      fX35_doList_b263 N sE sL sN q72.2
    else
      (k_ok 34 q72.2 this).bind fun _ =>
      (fX35_rule N sE sL sN this (26214 : Int32) (-1073741824 : Int32) (-1073741824 : Int32) q72.2).bind fun q75 =>
      fX35_doList_b263 N sE sL sN q75.2
  else
  (k_ok 34 h this).bind fun _ =>
  (fX35_doMore N sE sL sN this p0 h).bind fun q77 =>
  fX35_doList_b263 N sE sL sN q77.2
theorem pX35_doList {w : eW} {d : Nat} {dr : Nat} (hd : dr + 17 ≤ d) (hdr : 12 ≤ dr) {N : Nat} {sE : Nat → Int32 → eH → Option (Unit × eH)} {sL : Nat → Int32 → Int64 → Int64 → eH → Option (Int32 × eH)} {sN : Nat → eH → Option (Int32 × eH)} (hsE : ∀ a t0 h q, sE a t0 h = some q → wm w dr YX35_expand [.ref a, .int t0] h (e_is (e_rn c_V q))) (hsL : ∀ a t0 t1 t2 h q, sL a t0 t1 t2 h = some q → wm w dr YX35_layBox [.ref a, .int t0, .long t1, .long t2] h (e_is (e_rn c_I q))) (hsN : ∀ a h q, sN a h = some q → wm w dr YX35_number [.ref a] h (e_is (e_rn c_I q))) {this : Nat} {p0 : Int32} {h : eH} {q} (hf : fX35_doList N sE sL sN this p0 h = some q) : wm w d YX35_doList [.ref this, .int p0] h (e_is (e_rn c_V q)) := by
  obtain ⟨d, rfl⟩ : ∃ e, d = e + 1 := ⟨d - 1, by omega⟩
  show wp w (d + 1) YX35_doList 0 [some (.ref this), some (.int p0), none, none] [] h _
  unfold fX35_doList at hf
  refine w_iload_n dX35_doList_0 rfl rfl ?_
  by_cases c1 : p0 = (47 : Int32)
  · replace hf := (if_pos c1).symm.trans hf
    refine w_tableIn 76 dX35_doList_1 (by rw [c1]; decide) (by rw [c1]; decide) (by rw [c1]; rfl) (by decide) ?_
    refine w_aload_n dX35_doList_76 rfl rfl ?_
    refine w_iload_n dX35_doList_77 rfl rfl ?_
    refine w_iconst dX35_doList_78 (v := -1) (by decide) ?_
    refine w_iconst dX35_doList_79 (v := 0) (by decide) ?_
    refine w_iconst dX35_doList_80 (v := 0) (by decide) ?_
    obtain ⟨_, b2, hf⟩ := Option.bind_eq_some_iff.mp hf
    refine x_cnV hf (e_stV (Yc := YX35_readFrom) (ci := 34) (av := [.int p0, .int (-1 : Int32), .int (0 : Int32), .int (0 : Int32)]) (st := []) dX35_doList_81 q5987 mX35_readFrom rfl (k_ok_some b2).1 (k_ok_some b2).2) mX35_readFrom.2.2.1 mX35_readFrom.2.2.2.2.1 (Nat.le_of_ble_eq_true rfl) (Nat.le_of_ble_eq_true rfl) (fun q hq => pX35_readFrom (by omega) hdr hsE hsL hsN hq) (fun q3 hf => ?_)
    refine w_goto 263 dX35_doList_84 (by decide) ?_
    exact (pX35_doList_b263 hd hdr hsE hsL hsN hf).to trivial
  replace hf := (if_neg c1).symm.trans hf
  by_cases c4 : p0 = (48 : Int32)
  · replace hf := (if_pos c4).symm.trans hf
    refine w_tableIn 76 dX35_doList_1 (by rw [c4]; decide) (by rw [c4]; decide) (by rw [c4]; rfl) (by decide) ?_
    refine w_aload_n dX35_doList_76 rfl rfl ?_
    refine w_iload_n dX35_doList_77 rfl rfl ?_
    refine w_iconst dX35_doList_78 (v := -1) (by decide) ?_
    refine w_iconst dX35_doList_79 (v := 0) (by decide) ?_
    refine w_iconst dX35_doList_80 (v := 0) (by decide) ?_
    obtain ⟨_, b5, hf⟩ := Option.bind_eq_some_iff.mp hf
    refine x_cnV hf (e_stV (Yc := YX35_readFrom) (ci := 34) (av := [.int p0, .int (-1 : Int32), .int (0 : Int32), .int (0 : Int32)]) (st := []) dX35_doList_81 q5987 mX35_readFrom rfl (k_ok_some b5).1 (k_ok_some b5).2) mX35_readFrom.2.2.1 mX35_readFrom.2.2.2.2.1 (Nat.le_of_ble_eq_true rfl) (Nat.le_of_ble_eq_true rfl) (fun q hq => pX35_readFrom (by omega) hdr hsE hsL hsN hq) (fun q6 hf => ?_)
    refine w_goto 263 dX35_doList_84 (by decide) ?_
    exact (pX35_doList_b263 hd hdr hsE hsL hsN hf).to trivial
  replace hf := (if_neg c4).symm.trans hf
  by_cases c7 : p0 = (49 : Int32)
  · replace hf := (if_pos c7).symm.trans hf
    refine w_tableIn 76 dX35_doList_1 (by rw [c7]; decide) (by rw [c7]; decide) (by rw [c7]; rfl) (by decide) ?_
    refine w_aload_n dX35_doList_76 rfl rfl ?_
    refine w_iload_n dX35_doList_77 rfl rfl ?_
    refine w_iconst dX35_doList_78 (v := -1) (by decide) ?_
    refine w_iconst dX35_doList_79 (v := 0) (by decide) ?_
    refine w_iconst dX35_doList_80 (v := 0) (by decide) ?_
    obtain ⟨_, b8, hf⟩ := Option.bind_eq_some_iff.mp hf
    refine x_cnV hf (e_stV (Yc := YX35_readFrom) (ci := 34) (av := [.int p0, .int (-1 : Int32), .int (0 : Int32), .int (0 : Int32)]) (st := []) dX35_doList_81 q5987 mX35_readFrom rfl (k_ok_some b8).1 (k_ok_some b8).2) mX35_readFrom.2.2.1 mX35_readFrom.2.2.2.2.1 (Nat.le_of_ble_eq_true rfl) (Nat.le_of_ble_eq_true rfl) (fun q hq => pX35_readFrom (by omega) hdr hsE hsL hsN hq) (fun q9 hf => ?_)
    refine w_goto 263 dX35_doList_84 (by decide) ?_
    exact (pX35_doList_b263 hd hdr hsE hsL hsN hf).to trivial
  replace hf := (if_neg c7).symm.trans hf
  by_cases c10 : p0 = (50 : Int32)
  · replace hf := (if_pos c10).symm.trans hf
    refine w_tableIn 76 dX35_doList_1 (by rw [c10]; decide) (by rw [c10]; decide) (by rw [c10]; rfl) (by decide) ?_
    refine w_aload_n dX35_doList_76 rfl rfl ?_
    refine w_iload_n dX35_doList_77 rfl rfl ?_
    refine w_iconst dX35_doList_78 (v := -1) (by decide) ?_
    refine w_iconst dX35_doList_79 (v := 0) (by decide) ?_
    refine w_iconst dX35_doList_80 (v := 0) (by decide) ?_
    obtain ⟨_, b11, hf⟩ := Option.bind_eq_some_iff.mp hf
    refine x_cnV hf (e_stV (Yc := YX35_readFrom) (ci := 34) (av := [.int p0, .int (-1 : Int32), .int (0 : Int32), .int (0 : Int32)]) (st := []) dX35_doList_81 q5987 mX35_readFrom rfl (k_ok_some b11).1 (k_ok_some b11).2) mX35_readFrom.2.2.1 mX35_readFrom.2.2.2.2.1 (Nat.le_of_ble_eq_true rfl) (Nat.le_of_ble_eq_true rfl) (fun q hq => pX35_readFrom (by omega) hdr hsE hsL hsN hq) (fun q12 hf => ?_)
    refine w_goto 263 dX35_doList_84 (by decide) ?_
    exact (pX35_doList_b263 hd hdr hsE hsL hsN hf).to trivial
  replace hf := (if_neg c10).symm.trans hf
  by_cases c13 : p0 = (51 : Int32)
  · replace hf := (if_pos c13).symm.trans hf
    refine w_tableIn 258 dX35_doList_1 (by rw [c13]; decide) (by rw [c13]; decide) (by rw [c13]; rfl) (by decide) ?_
    refine w_aload_n dX35_doList_258 rfl rfl ?_
    refine w_iload_n dX35_doList_259 rfl rfl ?_
    obtain ⟨_, b14, hf⟩ := Option.bind_eq_some_iff.mp hf
    refine x_cnV hf (e_stV (Yc := YX35_doMore) (ci := 34) (av := [.int p0]) (st := []) dX35_doList_260 q6032 mX35_doMore rfl (k_ok_some b14).1 (k_ok_some b14).2) mX35_doMore.2.2.1 mX35_doMore.2.2.2.2.1 (Nat.le_of_ble_eq_true rfl) (Nat.le_of_ble_eq_true rfl) (fun q hq => pX35_doMore (by omega) hdr hsE hsL hsN hq) (fun q15 hf => ?_)
    exact (pX35_doList_b263 hd hdr hsE hsL hsN hf).to trivial
  replace hf := (if_neg c13).symm.trans hf
  by_cases c16 : p0 = (52 : Int32)
  · replace hf := (if_pos c16).symm.trans hf
    refine w_tableIn 87 dX35_doList_1 (by rw [c16]; decide) (by rw [c16]; decide) (by rw [c16]; rfl) (by decide) ?_
    refine w_aload_n dX35_doList_87 rfl rfl ?_
    obtain ⟨_, b17, hf⟩ := Option.bind_eq_some_iff.mp hf
    refine x_cnI hf (e_stV (Yc := YX35_horizontally) (ci := 34) (av := []) (st := []) dX35_doList_88 q6005 mX35_horizontally rfl (k_ok_some b17).1 (k_ok_some b17).2) mX35_horizontally.2.2.1 mX35_horizontally.2.2.2.2.1 (Nat.le_of_ble_eq_true rfl) (Nat.le_of_ble_eq_true rfl) (fun q hq => pX35_horizontally (by omega) hdr hsL hq) (fun q18 hf => ?_)
    refine w_if_eq 263 dX35_doList_91 (by decide) (fun c19 => ?_) (fun c19 => ?_)
    · replace hf := (if_pos (show q18.1 = 0 from c19)).symm.trans hf
      exact (pX35_doList_b263 hd hdr hsE hsL hsN hf).to trivial
    · replace hf := (if_neg (show ¬ (q18.1 = 0) from c19)).symm.trans hf
      refine w_aload_n dX35_doList_94 rfl rfl ?_
      obtain ⟨_, b20, hf⟩ := Option.bind_eq_some_iff.mp hf
      refine x_cnV hf (e_stV (Yc := YX35_skip) (ci := 34) (av := []) (st := []) dX35_doList_95 q6009 mX35_skip rfl (k_ok_some b20).1 (k_ok_some b20).2) mX35_skip.2.2.1 mX35_skip.2.2.2.2.1 (Nat.le_of_ble_eq_true rfl) (Nat.le_of_ble_eq_true rfl) (fun q hq => pX35_skip (by omega) hdr hsE hsL hsN hq) (fun q21 hf => ?_)
      refine w_goto 263 dX35_doList_98 (by decide) ?_
      exact (pX35_doList_b263 hd hdr hsE hsL hsN hf).to trivial
  replace hf := (if_neg c16).symm.trans hf
  by_cases c22 : p0 = (53 : Int32)
  · replace hf := (if_pos c22).symm.trans hf
    refine w_tableIn 115 dX35_doList_1 (by rw [c22]; decide) (by rw [c22]; decide) (by rw [c22]; rfl) (by decide) ?_
    refine w_aload_n dX35_doList_115 rfl rfl ?_
    obtain ⟨_, b23, hf⟩ := Option.bind_eq_some_iff.mp hf
    refine x_cnI hf (e_stV (Yc := YX35_horizontally) (ci := 34) (av := []) (st := []) dX35_doList_116 q6005 mX35_horizontally rfl (k_ok_some b23).1 (k_ok_some b23).2) mX35_horizontally.2.2.1 mX35_horizontally.2.2.2.2.1 (Nat.le_of_ble_eq_true rfl) (Nat.le_of_ble_eq_true rfl) (fun q hq => pX35_horizontally (by omega) hdr hsL hq) (fun q24 hf => ?_)
    refine w_if_eq 263 dX35_doList_119 (by decide) (fun c25 => ?_) (fun c25 => ?_)
    · replace hf := (if_pos (show q24.1 = 0 from c25)).symm.trans hf
      exact (pX35_doList_b263 hd hdr hsE hsL hsN hf).to trivial
    · replace hf := (if_neg (show ¬ (q24.1 = 0) from c25)).symm.trans hf
      refine w_aload_n dX35_doList_122 rfl rfl ?_
      refine w_iconst dX35_doList_123 (v := 0) (by decide) ?_
      refine w_ldc dX35_doList_124 q4119 ?_
      refine w_iload_n dX35_doList_126 rfl rfl ?_
      refine w_bipush dX35_doList_127 (v := 53) (by decide) ?_
      refine w_icmp_ne 136 dX35_doList_129 (by decide) (fun c26 => ?_) (fun c26 => ?_)
      · replace hf := (if_pos (show ¬ p0 = (53 : Int32) from c26)).symm.trans hf
        refine w_iconst dX35_doList_136 (v := 2) (by decide) ?_
        exact (pX35_doList_b137 hd hdr hsE hsL hsN hf).to trivial
      · replace hf := (if_neg (show ¬ (¬ p0 = (53 : Int32)) from (fun z => z c26))).symm.trans hf
        refine w_iconst dX35_doList_132 (v := 1) (by decide) ?_
        refine w_goto 137 dX35_doList_133 (by decide) ?_
        exact (pX35_doList_b137 hd hdr hsE hsL hsN hf).to trivial
  replace hf := (if_neg c22).symm.trans hf
  by_cases c27 : p0 = (54 : Int32)
  · replace hf := (if_pos c27).symm.trans hf
    refine w_tableIn 115 dX35_doList_1 (by rw [c27]; decide) (by rw [c27]; decide) (by rw [c27]; rfl) (by decide) ?_
    refine w_aload_n dX35_doList_115 rfl rfl ?_
    obtain ⟨_, b28, hf⟩ := Option.bind_eq_some_iff.mp hf
    refine x_cnI hf (e_stV (Yc := YX35_horizontally) (ci := 34) (av := []) (st := []) dX35_doList_116 q6005 mX35_horizontally rfl (k_ok_some b28).1 (k_ok_some b28).2) mX35_horizontally.2.2.1 mX35_horizontally.2.2.2.2.1 (Nat.le_of_ble_eq_true rfl) (Nat.le_of_ble_eq_true rfl) (fun q hq => pX35_horizontally (by omega) hdr hsL hq) (fun q29 hf => ?_)
    refine w_if_eq 263 dX35_doList_119 (by decide) (fun c30 => ?_) (fun c30 => ?_)
    · replace hf := (if_pos (show q29.1 = 0 from c30)).symm.trans hf
      exact (pX35_doList_b263 hd hdr hsE hsL hsN hf).to trivial
    · replace hf := (if_neg (show ¬ (q29.1 = 0) from c30)).symm.trans hf
      refine w_aload_n dX35_doList_122 rfl rfl ?_
      refine w_iconst dX35_doList_123 (v := 0) (by decide) ?_
      refine w_ldc dX35_doList_124 q4119 ?_
      refine w_iload_n dX35_doList_126 rfl rfl ?_
      refine w_bipush dX35_doList_127 (v := 53) (by decide) ?_
      refine w_icmp_ne 136 dX35_doList_129 (by decide) (fun c31 => ?_) (fun c31 => ?_)
      · replace hf := (if_pos (show ¬ p0 = (53 : Int32) from c31)).symm.trans hf
        refine w_iconst dX35_doList_136 (v := 2) (by decide) ?_
        exact (pX35_doList_b137 hd hdr hsE hsL hsN hf).to trivial
      · replace hf := (if_neg (show ¬ (¬ p0 = (53 : Int32)) from (fun z => z c31))).symm.trans hf
        refine w_iconst dX35_doList_132 (v := 1) (by decide) ?_
        refine w_goto 137 dX35_doList_133 (by decide) ?_
        exact (pX35_doList_b137 hd hdr hsE hsL hsN hf).to trivial
  replace hf := (if_neg c27).symm.trans hf
  by_cases c32 : p0 = (55 : Int32)
  · replace hf := (if_pos c32).symm.trans hf
    refine w_tableIn 101 dX35_doList_1 (by rw [c32]; decide) (by rw [c32]; decide) (by rw [c32]; rfl) (by decide) ?_
    refine w_aload_n dX35_doList_101 rfl rfl ?_
    obtain ⟨_, b33, hf⟩ := Option.bind_eq_some_iff.mp hf
    refine x_cnI hf (e_stV (Yc := YX35_vertically) (ci := 34) (av := []) (st := []) dX35_doList_102 q6013 mX35_vertically rfl (k_ok_some b33).1 (k_ok_some b33).2) mX35_vertically.2.2.1 mX35_vertically.2.2.2.2.1 (Nat.le_of_ble_eq_true rfl) (Nat.le_of_ble_eq_true rfl) (fun q hq => pX35_vertically (by omega) hdr hsL hq) (fun q34 hf => ?_)
    refine w_if_eq 263 dX35_doList_105 (by decide) (fun c35 => ?_) (fun c35 => ?_)
    · replace hf := (if_pos (show q34.1 = 0 from c35)).symm.trans hf
      exact (pX35_doList_b263 hd hdr hsE hsL hsN hf).to trivial
    · replace hf := (if_neg (show ¬ (q34.1 = 0) from c35)).symm.trans hf
      refine w_aload_n dX35_doList_108 rfl rfl ?_
      obtain ⟨_, b36, hf⟩ := Option.bind_eq_some_iff.mp hf
      refine x_cnV hf (e_stV (Yc := YX35_skip) (ci := 34) (av := []) (st := []) dX35_doList_109 q6009 mX35_skip rfl (k_ok_some b36).1 (k_ok_some b36).2) mX35_skip.2.2.1 mX35_skip.2.2.2.2.1 (Nat.le_of_ble_eq_true rfl) (Nat.le_of_ble_eq_true rfl) (fun q hq => pX35_skip (by omega) hdr hsE hsL hsN hq) (fun q37 hf => ?_)
      refine w_goto 263 dX35_doList_112 (by decide) ?_
      exact (pX35_doList_b263 hd hdr hsE hsL hsN hf).to trivial
  replace hf := (if_neg c32).symm.trans hf
  by_cases c38 : p0 = (56 : Int32)
  · replace hf := (if_pos c38).symm.trans hf
    refine w_tableIn 144 dX35_doList_1 (by rw [c38]; decide) (by rw [c38]; decide) (by rw [c38]; rfl) (by decide) ?_
    refine w_aload_n dX35_doList_144 rfl rfl ?_
    obtain ⟨_, b39, hf⟩ := Option.bind_eq_some_iff.mp hf
    refine x_cnI hf (e_stV (Yc := YX35_vertically) (ci := 34) (av := []) (st := []) dX35_doList_145 q6013 mX35_vertically rfl (k_ok_some b39).1 (k_ok_some b39).2) mX35_vertically.2.2.1 mX35_vertically.2.2.2.2.1 (Nat.le_of_ble_eq_true rfl) (Nat.le_of_ble_eq_true rfl) (fun q hq => pX35_vertically (by omega) hdr hsL hq) (fun q40 hf => ?_)
    refine w_if_eq 263 dX35_doList_148 (by decide) (fun c41 => ?_) (fun c41 => ?_)
    · replace hf := (if_pos (show q40.1 = 0 from c41)).symm.trans hf
      exact (pX35_doList_b263 hd hdr hsE hsL hsN hf).to trivial
    · replace hf := (if_neg (show ¬ (q40.1 = 0) from c41)).symm.trans hf
      refine w_aload_n dX35_doList_151 rfl rfl ?_
      refine w_iconst dX35_doList_152 (v := 0) (by decide) ?_
      refine w_ldc dX35_doList_153 q4119 ?_
      refine w_iload_n dX35_doList_155 rfl rfl ?_
      refine w_bipush dX35_doList_156 (v := 56) (by decide) ?_
      refine w_icmp_ne 165 dX35_doList_158 (by decide) (fun c42 => ?_) (fun c42 => ?_)
      · replace hf := (if_pos (show ¬ p0 = (56 : Int32) from c42)).symm.trans hf
        refine w_iconst dX35_doList_165 (v := 2) (by decide) ?_
        exact (pX35_doList_b166 hd hdr hsE hsL hsN hf).to trivial
      · replace hf := (if_neg (show ¬ (¬ p0 = (56 : Int32)) from (fun z => z c42))).symm.trans hf
        refine w_iconst dX35_doList_161 (v := 1) (by decide) ?_
        refine w_goto 166 dX35_doList_162 (by decide) ?_
        exact (pX35_doList_b166 hd hdr hsE hsL hsN hf).to trivial
  replace hf := (if_neg c38).symm.trans hf
  by_cases c43 : p0 = (57 : Int32)
  · replace hf := (if_pos c43).symm.trans hf
    refine w_tableIn 144 dX35_doList_1 (by rw [c43]; decide) (by rw [c43]; decide) (by rw [c43]; rfl) (by decide) ?_
    refine w_aload_n dX35_doList_144 rfl rfl ?_
    obtain ⟨_, b44, hf⟩ := Option.bind_eq_some_iff.mp hf
    refine x_cnI hf (e_stV (Yc := YX35_vertically) (ci := 34) (av := []) (st := []) dX35_doList_145 q6013 mX35_vertically rfl (k_ok_some b44).1 (k_ok_some b44).2) mX35_vertically.2.2.1 mX35_vertically.2.2.2.2.1 (Nat.le_of_ble_eq_true rfl) (Nat.le_of_ble_eq_true rfl) (fun q hq => pX35_vertically (by omega) hdr hsL hq) (fun q45 hf => ?_)
    refine w_if_eq 263 dX35_doList_148 (by decide) (fun c46 => ?_) (fun c46 => ?_)
    · replace hf := (if_pos (show q45.1 = 0 from c46)).symm.trans hf
      exact (pX35_doList_b263 hd hdr hsE hsL hsN hf).to trivial
    · replace hf := (if_neg (show ¬ (q45.1 = 0) from c46)).symm.trans hf
      refine w_aload_n dX35_doList_151 rfl rfl ?_
      refine w_iconst dX35_doList_152 (v := 0) (by decide) ?_
      refine w_ldc dX35_doList_153 q4119 ?_
      refine w_iload_n dX35_doList_155 rfl rfl ?_
      refine w_bipush dX35_doList_156 (v := 56) (by decide) ?_
      refine w_icmp_ne 165 dX35_doList_158 (by decide) (fun c47 => ?_) (fun c47 => ?_)
      · replace hf := (if_pos (show ¬ p0 = (56 : Int32) from c47)).symm.trans hf
        refine w_iconst dX35_doList_165 (v := 2) (by decide) ?_
        exact (pX35_doList_b166 hd hdr hsE hsL hsN hf).to trivial
      · replace hf := (if_neg (show ¬ (¬ p0 = (56 : Int32)) from (fun z => z c47))).symm.trans hf
        refine w_iconst dX35_doList_161 (v := 1) (by decide) ?_
        refine w_goto 166 dX35_doList_162 (by decide) ?_
        exact (pX35_doList_b166 hd hdr hsE hsL hsN hf).to trivial
  replace hf := (if_neg c43).symm.trans hf
  by_cases c48 : p0 = (58 : Int32)
  · replace hf := (if_pos c48).symm.trans hf
    refine w_tableIn 173 dX35_doList_1 (by rw [c48]; decide) (by rw [c48]; decide) (by rw [c48]; rfl) (by decide) ?_
    refine w_aload_n dX35_doList_173 rfl rfl ?_
    obtain ⟨_, b49, hf⟩ := Option.bind_eq_some_iff.mp hf
    refine x_cnI hf (e_stV (Yc := YX35_dimension) (ci := 34) (av := []) (st := []) dX35_doList_174 q5333 mX35_dimension rfl (k_ok_some b49).1 (k_ok_some b49).2) mX35_dimension.2.2.1 mX35_dimension.2.2.2.2.1 (Nat.le_of_ble_eq_true rfl) (Nat.le_of_ble_eq_true rfl) (fun q hq => pX35_dimension (by omega) hdr hsE hsN hq) (fun q50 hf => ?_)
    refine w_istore_n dX35_doList_177 rfl (by decide) (ls' := [some (.ref this), some (.int p0), some (.int q50.1), none]) rfl ?_
    refine w_aload_n dX35_doList_178 rfl rfl ?_
    obtain ⟨x51, b52, hf⟩ := Option.bind_eq_some_iff.mp hf
    refine GX35_321 b52 dX35_doList_179 rfl ?_
    refine w_if_ne 263 dX35_doList_182 (by decide) (fun c53 => ?_) (fun c53 => ?_)
    · replace hf := (if_pos (show ¬ x51 = 0 from c53)).symm.trans hf
      exact (pX35_doList_b263 hd hdr hsE hsL hsN hf).to trivial
    · replace hf := (if_neg (show ¬ (¬ x51 = 0) from (fun z => z c53))).symm.trans hf
      refine w_aload_n dX35_doList_185 rfl rfl ?_
      refine w_iload_n dX35_doList_186 rfl rfl ?_
      obtain ⟨_, b54, hf⟩ := Option.bind_eq_some_iff.mp hf
      refine x_cnV hf (e_stV (Yc := YX35_kernItem) (ci := 34) (av := [.int q50.1]) (st := []) dX35_doList_187 q6017 mX35_kernItem rfl (k_ok_some b54).1 (k_ok_some b54).2) mX35_kernItem.2.2.1 mX35_kernItem.2.2.2.2.1 (Nat.le_of_ble_eq_true rfl) (Nat.le_of_ble_eq_true rfl) (fun q hq => pX35_kernItem (by omega) hdr hsL hq) (fun q55 hf => ?_)
      refine w_goto 263 dX35_doList_190 (by decide) ?_
      exact (pX35_doList_b263 hd hdr hsE hsL hsN hf).to trivial
  replace hf := (if_neg c48).symm.trans hf
  by_cases c56 : p0 = (59 : Int32)
  · replace hf := (if_pos c56).symm.trans hf
    refine w_tableIn 193 dX35_doList_1 (by rw [c56]; decide) (by rw [c56]; decide) (by rw [c56]; rfl) (by decide) ?_
    refine w_aload_n dX35_doList_193 rfl rfl ?_
    obtain ⟨_, b57, hf⟩ := Option.bind_eq_some_iff.mp hf
    refine x_cnI hf (e_stV (Yc := YX35_number) (ci := 34) (av := []) (st := []) dX35_doList_194 q5217 mX35_number rfl (k_ok_some b57).1 (k_ok_some b57).2) mX35_number.2.2.1 mX35_number.2.2.2.2.1 (Nat.le_of_ble_eq_true rfl) (Nat.le_of_ble_eq_true rfl) (fun q hq => (hsN _ _ _ hq).up (by omega)) (fun q58 hf => ?_)
    refine w_istore_n dX35_doList_197 rfl (by decide) (ls' := [some (.ref this), some (.int p0), none, some (.int q58.1)]) rfl ?_
    refine w_aload_n dX35_doList_198 rfl rfl ?_
    obtain ⟨x59, b60, hf⟩ := Option.bind_eq_some_iff.mp hf
    refine GX35_321 b60 dX35_doList_199 rfl ?_
    refine w_if_ne 263 dX35_doList_202 (by decide) (fun c61 => ?_) (fun c61 => ?_)
    · replace hf := (if_pos (show ¬ x59 = 0 from c61)).symm.trans hf
      exact (pX35_doList_b263 hd hdr hsE hsL hsN hf).to trivial
    · replace hf := (if_neg (show ¬ (¬ x59 = 0) from (fun z => z c61))).symm.trans hf
      refine w_aload_n dX35_doList_205 rfl rfl ?_
      refine w_iload_n dX35_doList_206 rfl rfl ?_
      refine w_i2l dX35_doList_207 ?_
      obtain ⟨_, b62, hf⟩ := Option.bind_eq_some_iff.mp hf
      refine x_cnV hf (e_stV (Yc := YX35_penaltyItem) (ci := 34) (av := [.long (q58.1).toInt64]) (st := []) dX35_doList_208 q5887 mX35_penaltyItem rfl (k_ok_some b62).1 (k_ok_some b62).2) mX35_penaltyItem.2.2.1 mX35_penaltyItem.2.2.2.2.1 (Nat.le_of_ble_eq_true rfl) (Nat.le_of_ble_eq_true rfl) (fun q hq => pX35_penaltyItem (by omega) hdr hsL hq) (fun q63 hf => ?_)
      refine w_goto 263 dX35_doList_211 (by decide) ?_
      exact (pX35_doList_b263 hd hdr hsE hsL hsN hf).to trivial
  replace hf := (if_neg c56).symm.trans hf
  by_cases c64 : p0 = (60 : Int32)
  · replace hf := (if_pos c64).symm.trans hf
    refine w_tableIn 214 dX35_doList_1 (by rw [c64]; decide) (by rw [c64]; decide) (by rw [c64]; rfl) (by decide) ?_
    refine w_aload_n dX35_doList_214 rfl rfl ?_
    obtain ⟨_, b65, hf⟩ := Option.bind_eq_some_iff.mp hf
    refine x_cnI hf (e_stV (Yc := YX35_vertically) (ci := 34) (av := []) (st := []) dX35_doList_215 q6013 mX35_vertically rfl (k_ok_some b65).1 (k_ok_some b65).2) mX35_vertically.2.2.1 mX35_vertically.2.2.2.2.1 (Nat.le_of_ble_eq_true rfl) (Nat.le_of_ble_eq_true rfl) (fun q hq => pX35_vertically (by omega) hdr hsL hq) (fun q66 hf => ?_)
    refine w_if_eq 263 dX35_doList_218 (by decide) (fun c67 => ?_) (fun c67 => ?_)
    · replace hf := (if_pos (show q66.1 = 0 from c67)).symm.trans hf
      exact (pX35_doList_b263 hd hdr hsE hsL hsN hf).to trivial
    · replace hf := (if_neg (show ¬ (q66.1 = 0) from c67)).symm.trans hf
      refine w_aload_n dX35_doList_221 rfl rfl ?_
      refine w_ldc_w dX35_doList_222 q5562 ?_
      refine w_sipush dX35_doList_225 (v := 26214) (by decide) ?_
      refine w_iconst dX35_doList_228 (v := 0) (by decide) ?_
      obtain ⟨_, b68, hf⟩ := Option.bind_eq_some_iff.mp hf
      refine x_cnV hf (e_stV (Yc := YX35_rule) (ci := 34) (av := [.int (-1073741824 : Int32), .int (26214 : Int32), .int (0 : Int32)]) (st := []) dX35_doList_229 q6021 mX35_rule rfl (k_ok_some b68).1 (k_ok_some b68).2) mX35_rule.2.2.1 mX35_rule.2.2.2.2.1 (Nat.le_of_ble_eq_true rfl) (Nat.le_of_ble_eq_true rfl) (fun q hq => pX35_rule (by omega) hdr hsE hsL hsN hq) (fun q69 hf => ?_)
      refine w_goto 263 dX35_doList_232 (by decide) ?_
      exact (pX35_doList_b263 hd hdr hsE hsL hsN hf).to trivial
  replace hf := (if_neg c64).symm.trans hf
  by_cases c70 : p0 = (61 : Int32)
  · replace hf := (if_pos c70).symm.trans hf
    refine w_tableIn 235 dX35_doList_1 (by rw [c70]; decide) (by rw [c70]; decide) (by rw [c70]; rfl) (by decide) ?_
    refine w_aload_n dX35_doList_235 rfl rfl ?_
    obtain ⟨_, b71, hf⟩ := Option.bind_eq_some_iff.mp hf
    refine x_cnI hf (e_stV (Yc := YX35_horizontally) (ci := 34) (av := []) (st := []) dX35_doList_236 q6005 mX35_horizontally rfl (k_ok_some b71).1 (k_ok_some b71).2) mX35_horizontally.2.2.1 mX35_horizontally.2.2.2.2.1 (Nat.le_of_ble_eq_true rfl) (Nat.le_of_ble_eq_true rfl) (fun q hq => pX35_horizontally (by omega) hdr hsL hq) (fun q72 hf => ?_)
    refine w_if_eq 263 dX35_doList_239 (by decide) (fun c73 => ?_) (fun c73 => ?_)
    · replace hf := (if_pos (show q72.1 = 0 from c73)).symm.trans hf
      exact (pX35_doList_b263 hd hdr hsE hsL hsN hf).to trivial
    · replace hf := (if_neg (show ¬ (q72.1 = 0) from c73)).symm.trans hf
      refine w_aload_n dX35_doList_242 rfl rfl ?_
      refine w_sipush dX35_doList_243 (v := 26214) (by decide) ?_
      refine w_ldc_w dX35_doList_246 q5562 ?_
      refine w_ldc_w dX35_doList_249 q5562 ?_
      obtain ⟨_, b74, hf⟩ := Option.bind_eq_some_iff.mp hf
      refine x_cnV hf (e_stV (Yc := YX35_rule) (ci := 34) (av := [.int (26214 : Int32), .int (-1073741824 : Int32), .int (-1073741824 : Int32)]) (st := []) dX35_doList_252 q6021 mX35_rule rfl (k_ok_some b74).1 (k_ok_some b74).2) mX35_rule.2.2.1 mX35_rule.2.2.2.2.1 (Nat.le_of_ble_eq_true rfl) (Nat.le_of_ble_eq_true rfl) (fun q hq => pX35_rule (by omega) hdr hsE hsL hsN hq) (fun q75 hf => ?_)
      refine w_goto 263 dX35_doList_255 (by decide) ?_
      exact (pX35_doList_b263 hd hdr hsE hsL hsN hf).to trivial
  replace hf := (if_neg c70).symm.trans hf
  refine w_tableOut 258 dX35_doList_1 (by have n0 := sw_ne c1 (by decide : (47 : Int32).toInt = 47); have n1 := sw_ne c4 (by decide : (48 : Int32).toInt = 48); have n2 := sw_ne c7 (by decide : (49 : Int32).toInt = 49); have n3 := sw_ne c10 (by decide : (50 : Int32).toInt = 50); have n4 := sw_ne c13 (by decide : (51 : Int32).toInt = 51); have n5 := sw_ne c16 (by decide : (52 : Int32).toInt = 52); have n6 := sw_ne c22 (by decide : (53 : Int32).toInt = 53); have n7 := sw_ne c27 (by decide : (54 : Int32).toInt = 54); have n8 := sw_ne c32 (by decide : (55 : Int32).toInt = 55); have n9 := sw_ne c38 (by decide : (56 : Int32).toInt = 56); have n10 := sw_ne c43 (by decide : (57 : Int32).toInt = 57); have n11 := sw_ne c48 (by decide : (58 : Int32).toInt = 58); have n12 := sw_ne c56 (by decide : (59 : Int32).toInt = 59); have n13 := sw_ne c64 (by decide : (60 : Int32).toInt = 60); have n14 := sw_ne c70 (by decide : (61 : Int32).toInt = 61); omega) (by decide) ?_
  refine w_aload_n dX35_doList_258 rfl rfl ?_
  refine w_iload_n dX35_doList_259 rfl rfl ?_
  obtain ⟨_, b76, hf⟩ := Option.bind_eq_some_iff.mp hf
  refine x_cnV hf (e_stV (Yc := YX35_doMore) (ci := 34) (av := [.int p0]) (st := []) dX35_doList_260 q6032 mX35_doMore rfl (k_ok_some b76).1 (k_ok_some b76).2) mX35_doMore.2.2.1 mX35_doMore.2.2.2.2.1 (Nat.le_of_ble_eq_true rfl) (Nat.le_of_ble_eq_true rfl) (fun q hq => pX35_doMore (by omega) hdr hsE hsL hsN hq) (fun q77 hf => ?_)
  exact (pX35_doList_b263 hd hdr hsE hsL hsN hf).to trivial
abbrev cX35_isSettable : ByteArray := prog_37_method_184_code
def yX35_isSettable : MethodName := ⟨RX35, "isSettable", "(I)Z"⟩
def YX35_isSettable : eY := (yX35_isSettable, cX35_isSettable, 1, (Option.some FieldType.boolean), [])
theorem mX35_isSettable : e_ms YX35_isSettable 1 := ⟨q5916, q466, q5917, by decide, by decide +kernel, (e_sig (by decide +kernel))⟩
theorem dX35_isSettable_0 : decode cX35_isSettable 0 = .ok (.iload_n 0, 1) := dc_26 (by decide +kernel)
theorem dX35_isSettable_1 : decode cX35_isSettable 1 = .ok (.bipush 28, 2) := dc_16 (a := 28) (v := 28) (by decide +kernel)
theorem dX35_isSettable_3 : decode cX35_isSettable 3 = .ok (.if_icmp .lt 9, 3) := dc_161 (a := 0) (b := 9) (v := 9) (by decide +kernel)
theorem dX35_isSettable_6 : decode cX35_isSettable 6 = .ok (.iload_n 0, 1) := dc_26 (by decide +kernel)
theorem dX35_isSettable_7 : decode cX35_isSettable 7 = .ok (.bipush 38, 2) := dc_16 (a := 38) (v := 38) (by decide +kernel)
theorem dX35_isSettable_9 : decode cX35_isSettable 9 = .ok (.if_icmp .le 30, 3) := dc_164 (a := 0) (b := 30) (v := 30) (by decide +kernel)
theorem dX35_isSettable_12 : decode cX35_isSettable 12 = .ok (.iload_n 0, 1) := dc_26 (by decide +kernel)
theorem dX35_isSettable_13 : decode cX35_isSettable 13 = .ok (.bipush 40, 2) := dc_16 (a := 40) (v := 40) (by decide +kernel)
theorem dX35_isSettable_15 : decode cX35_isSettable 15 = .ok (.if_icmp .eq 24, 3) := dc_159 (a := 0) (b := 24) (v := 24) (by decide +kernel)
theorem dX35_isSettable_18 : decode cX35_isSettable 18 = .ok (.iload_n 0, 1) := dc_26 (by decide +kernel)
theorem dX35_isSettable_19 : decode cX35_isSettable 19 = .ok (.invokestatic 634, 3) := dc_184 (a := 2) (b := 122) (n := 634) (by decide +kernel)
theorem dX35_isSettable_22 : decode cX35_isSettable 22 = .ok (.ifCond .ne 17, 3) := dc_154 (a := 0) (b := 17) (v := 17) (by decide +kernel)
theorem dX35_isSettable_25 : decode cX35_isSettable 25 = .ok (.iload_n 0, 1) := dc_26 (by decide +kernel)
theorem dX35_isSettable_26 : decode cX35_isSettable 26 = .ok (.invokestatic 624, 3) := dc_184 (a := 2) (b := 112) (n := 624) (by decide +kernel)
theorem dX35_isSettable_29 : decode cX35_isSettable 29 = .ok (.ifCond .ne 10, 3) := dc_154 (a := 0) (b := 10) (v := 10) (by decide +kernel)
theorem dX35_isSettable_32 : decode cX35_isSettable 32 = .ok (.iload_n 0, 1) := dc_26 (by decide +kernel)
theorem dX35_isSettable_33 : decode cX35_isSettable 33 = .ok (.invokestatic 630, 3) := dc_184 (a := 2) (b := 118) (n := 630) (by decide +kernel)
theorem dX35_isSettable_36 : decode cX35_isSettable 36 = .ok (.ifCond .eq 7, 3) := dc_153 (a := 0) (b := 7) (v := 7) (by decide +kernel)
theorem dX35_isSettable_39 : decode cX35_isSettable 39 = .ok (.iconst 1, 1) := dc_4 (by decide +kernel)
theorem dX35_isSettable_40 : decode cX35_isSettable 40 = .ok (.goto 4, 3) := dc_167 (a := 0) (b := 4) (v := 4) (by decide +kernel)
theorem dX35_isSettable_43 : decode cX35_isSettable 43 = .ok (.iconst 0, 1) := dc_3 (by decide +kernel)
theorem dX35_isSettable_44 : decode cX35_isSettable 44 = .ok (.ireturn, 1) := dc_172 (by decide +kernel)
def fX35_isSettable_b44 (s0 : Int32) (h : eH) : Option (Int32 × eH) :=
  z_r s0 (s0, h)
theorem pX35_isSettable_b44 {w : eW} {d : Nat} (hd : 1 ≤ d + 1) {s0 : Int32} {h : eH} {q} (hf : fX35_isSettable_b44 s0 h = some q) : wp w (d + 1) YX35_isSettable 44 [none] [.int s0] h (e_is (e_rn c_I q)) := by
  unfold fX35_isSettable_b44 at hf
  obtain ⟨b1, rfl⟩ := z_r_some hf
  exact w_iret dX35_isSettable_44 rfl b1 rfl
def fX35_isSettable_b39  (h : eH) : Option (Int32 × eH) :=
  fX35_isSettable_b44 (1 : Int32) h
theorem pX35_isSettable_b39 {w : eW} {d : Nat} (hd : 1 ≤ d + 1)  {h : eH} {q} (hf : fX35_isSettable_b39  h = some q) : wp w (d + 1) YX35_isSettable 39 [none] [] h (e_is (e_rn c_I q)) := by
  unfold fX35_isSettable_b39 at hf
  refine w_iconst dX35_isSettable_39 (v := 1) (by decide) ?_
  refine w_goto 44 dX35_isSettable_40 (by decide) ?_
  exact (pX35_isSettable_b44 hd hf).to trivial
def fX35_isSettable_b12 (l0 : Int32) (h : eH) : Option (Int32 × eH) :=
  if l0 = (40 : Int32) then
    fX35_isSettable_b39 h
  else
    (fX35_isCounter l0 h).bind fun q2 =>
    if ¬ q2.1 = 0 then
      fX35_isSettable_b39 q2.2
    else
      (fX35_isLength l0 q2.2).bind fun q4 =>
      if ¬ q4.1 = 0 then
        fX35_isSettable_b39 q4.2
      else
        (fX35_isGlue l0 q4.2).bind fun q6 =>
        if q6.1 = 0 then
          fX35_isSettable_b44 (0 : Int32) q6.2
        else
          fX35_isSettable_b39 q6.2
theorem pX35_isSettable_b12 {w : eW} {d : Nat} (hd : 1 ≤ d + 1) {l0 : Int32} {h : eH} {q} (hf : fX35_isSettable_b12 l0 h = some q) : wp w (d + 1) YX35_isSettable 12 [some (.int l0)] [] h (e_is (e_rn c_I q)) := by
  unfold fX35_isSettable_b12 at hf
  refine w_iload_n dX35_isSettable_12 rfl rfl ?_
  refine w_bipush dX35_isSettable_13 (v := 40) (by decide) ?_
  refine w_icmp_eq 39 dX35_isSettable_15 (by decide) (fun c1 => ?_) (fun c1 => ?_)
  · replace hf := (if_pos (show l0 = (40 : Int32) from c1)).symm.trans hf
    exact (pX35_isSettable_b39 hd hf).to trivial
  · replace hf := (if_neg (show ¬ (l0 = (40 : Int32)) from c1)).symm.trans hf
    refine w_iload_n dX35_isSettable_18 rfl rfl ?_
    refine x_cnI hf (e_stS (Yc := YX35_isCounter) (av := [.int l0]) (st := []) dX35_isSettable_19 q5258 mX35_isCounter) mX35_isCounter.2.2.1 mX35_isCounter.2.2.2.2.1 (Nat.le_of_ble_eq_true rfl) (Nat.le_of_ble_eq_true rfl) (fun q hq => pX35_isCounter (by omega) hq) (fun q2 hf => ?_)
    refine w_if_ne 39 dX35_isSettable_22 (by decide) (fun c3 => ?_) (fun c3 => ?_)
    · replace hf := (if_pos (show ¬ q2.1 = 0 from c3)).symm.trans hf
      exact (pX35_isSettable_b39 hd hf).to trivial
    · replace hf := (if_neg (show ¬ (¬ q2.1 = 0) from (fun z => z c3))).symm.trans hf
      refine w_iload_n dX35_isSettable_25 rfl rfl ?_
      refine x_cnI hf (e_stS (Yc := YX35_isLength) (av := [.int l0]) (st := []) dX35_isSettable_26 q5283 mX35_isLength) mX35_isLength.2.2.1 mX35_isLength.2.2.2.2.1 (Nat.le_of_ble_eq_true rfl) (Nat.le_of_ble_eq_true rfl) (fun q hq => pX35_isLength (by omega) hq) (fun q4 hf => ?_)
      refine w_if_ne 39 dX35_isSettable_29 (by decide) (fun c5 => ?_) (fun c5 => ?_)
      · replace hf := (if_pos (show ¬ q4.1 = 0 from c5)).symm.trans hf
        exact (pX35_isSettable_b39 hd hf).to trivial
      · replace hf := (if_neg (show ¬ (¬ q4.1 = 0) from (fun z => z c5))).symm.trans hf
        refine w_iload_n dX35_isSettable_32 rfl rfl ?_
        refine x_cnI hf (e_stS (Yc := YX35_isGlue) (av := [.int l0]) (st := []) dX35_isSettable_33 q5293 mX35_isGlue) mX35_isGlue.2.2.1 mX35_isGlue.2.2.2.2.1 (Nat.le_of_ble_eq_true rfl) (Nat.le_of_ble_eq_true rfl) (fun q hq => pX35_isGlue (by omega) hq) (fun q6 hf => ?_)
        refine w_if_eq 43 dX35_isSettable_36 (by decide) (fun c7 => ?_) (fun c7 => ?_)
        · replace hf := (if_pos (show q6.1 = 0 from c7)).symm.trans hf
          refine w_iconst dX35_isSettable_43 (v := 0) (by decide) ?_
          exact (pX35_isSettable_b44 hd hf).to trivial
        · replace hf := (if_neg (show ¬ (q6.1 = 0) from c7)).symm.trans hf
          exact (pX35_isSettable_b39 hd hf).to trivial
def fX35_isSettable (p0 : Int32) (h : eH) : Option (Int32 × eH) :=
  if p0 < (28 : Int32) then
    fX35_isSettable_b12 p0 h
  else
    if p0 ≤ (38 : Int32) then
      fX35_isSettable_b39 h
    else
      fX35_isSettable_b12 p0 h
theorem pX35_isSettable {w : eW} {d : Nat} (hd : 1 ≤ d) {p0 : Int32} {h : eH} {q} (hf : fX35_isSettable p0 h = some q) : wm w d YX35_isSettable [.int p0] h (e_is (e_rn c_I q)) := by
  obtain ⟨d, rfl⟩ : ∃ e, d = e + 1 := ⟨d - 1, by omega⟩
  show wp w (d + 1) YX35_isSettable 0 [some (.int p0)] [] h _
  unfold fX35_isSettable at hf
  refine w_iload_n dX35_isSettable_0 rfl rfl ?_
  refine w_bipush dX35_isSettable_1 (v := 28) (by decide) ?_
  refine w_icmp_lt 12 dX35_isSettable_3 (by decide) (fun c1 => ?_) (fun c1 => ?_)
  · replace hf := (if_pos (show p0 < (28 : Int32) from c1)).symm.trans hf
    exact (pX35_isSettable_b12 hd hf).to ⟨rfl, trivial⟩
  · replace hf := (if_neg (show ¬ (p0 < (28 : Int32)) from c1)).symm.trans hf
    refine w_iload_n dX35_isSettable_6 rfl rfl ?_
    refine w_bipush dX35_isSettable_7 (v := 38) (by decide) ?_
    refine w_icmp_le 39 dX35_isSettable_9 (by decide) (fun c2 => ?_) (fun c2 => ?_)
    · replace hf := (if_pos (show p0 ≤ (38 : Int32) from c2)).symm.trans hf
      exact (pX35_isSettable_b39 hd hf).to trivial
    · replace hf := (if_neg (show ¬ (p0 ≤ (38 : Int32)) from c2)).symm.trans hf
      exact (pX35_isSettable_b12 hd hf).to ⟨rfl, trivial⟩
abbrev cX35_let : ByteArray := prog_37_method_100_code
def yX35_let : MethodName := ⟨RX35, "let", "(Z)V"⟩
def YX35_let : eY := (yX35_let, cX35_let, 4, none, [])
theorem mX35_let : e_mv YX35_let RX35 1 := ⟨q5936, qs402, q5937, by decide, by decide +kernel, (e_sig (by decide +kernel))⟩
theorem dX35_let_0 : decode cX35_let 0 = .ok (.aload_n 0, 1) := dc_42 (by decide +kernel)
theorem dX35_let_1 : decode cX35_let 1 = .ok (.invokevirtual 784, 3) := dc_182 (a := 3) (b := 16) (n := 784) (by decide +kernel)
theorem dX35_let_4 : decode cX35_let 4 = .ok (.istore_n 2, 1) := dc_61 (by decide +kernel)
theorem dX35_let_5 : decode cX35_let 5 = .ok (.aload_n 0, 1) := dc_42 (by decide +kernel)
theorem dX35_let_6 : decode cX35_let 6 = .ok (.invokevirtual 506, 3) := dc_182 (a := 1) (b := 250) (n := 506) (by decide +kernel)
theorem dX35_let_9 : decode cX35_let 9 = .ok (.istore_n 3, 1) := dc_62 (by decide +kernel)
theorem dX35_let_10 : decode cX35_let 10 = .ok (.iload_n 3, 1) := dc_29 (by decide +kernel)
theorem dX35_let_11 : decode cX35_let 11 = .ok (.bipush 10, 2) := dc_16 (a := 10) (v := 10) (by decide +kernel)
theorem dX35_let_13 : decode cX35_let 13 = .ok (.invokestatic 493, 3) := dc_184 (a := 1) (b := 237) (n := 493) (by decide +kernel)
theorem dX35_let_16 : decode cX35_let 16 = .ok (.ifCond .eq 11, 3) := dc_153 (a := 0) (b := 11) (v := 11) (by decide +kernel)
theorem dX35_let_19 : decode cX35_let 19 = .ok (.aload_n 0, 1) := dc_42 (by decide +kernel)
theorem dX35_let_20 : decode cX35_let 20 = .ok (.invokevirtual 506, 3) := dc_182 (a := 1) (b := 250) (n := 506) (by decide +kernel)
theorem dX35_let_23 : decode cX35_let 23 = .ok (.istore_n 3, 1) := dc_62 (by decide +kernel)
theorem dX35_let_24 : decode cX35_let 24 = .ok (.goto (-14), 3) := dc_167 (a := 255) (b := 242) (v := -14) (by decide +kernel)
theorem dX35_let_27 : decode cX35_let 27 = .ok (.iload_n 3, 1) := dc_29 (by decide +kernel)
theorem dX35_let_28 : decode cX35_let 28 = .ok (.bipush 12, 2) := dc_16 (a := 12) (v := 12) (by decide +kernel)
theorem dX35_let_30 : decode cX35_let 30 = .ok (.bipush 61, 2) := dc_16 (a := 61) (v := 61) (by decide +kernel)
theorem dX35_let_32 : decode cX35_let 32 = .ok (.invokestatic 610, 3) := dc_184 (a := 2) (b := 98) (n := 610) (by decide +kernel)
theorem dX35_let_35 : decode cX35_let 35 = .ok (.ifCond .eq 26, 3) := dc_153 (a := 0) (b := 26) (v := 26) (by decide +kernel)
theorem dX35_let_38 : decode cX35_let 38 = .ok (.aload_n 0, 1) := dc_42 (by decide +kernel)
theorem dX35_let_39 : decode cX35_let 39 = .ok (.invokevirtual 506, 3) := dc_182 (a := 1) (b := 250) (n := 506) (by decide +kernel)
theorem dX35_let_42 : decode cX35_let 42 = .ok (.istore_n 3, 1) := dc_62 (by decide +kernel)
theorem dX35_let_43 : decode cX35_let 43 = .ok (.iload_n 3, 1) := dc_29 (by decide +kernel)
theorem dX35_let_44 : decode cX35_let 44 = .ok (.bipush 10, 2) := dc_16 (a := 10) (v := 10) (by decide +kernel)
theorem dX35_let_46 : decode cX35_let 46 = .ok (.invokestatic 493, 3) := dc_184 (a := 1) (b := 237) (n := 493) (by decide +kernel)
theorem dX35_let_49 : decode cX35_let 49 = .ok (.ifCond .eq 10, 3) := dc_153 (a := 0) (b := 10) (v := 10) (by decide +kernel)
theorem dX35_let_52 : decode cX35_let 52 = .ok (.aload_n 0, 1) := dc_42 (by decide +kernel)
theorem dX35_let_53 : decode cX35_let 53 = .ok (.invokevirtual 506, 3) := dc_182 (a := 1) (b := 250) (n := 506) (by decide +kernel)
theorem dX35_let_56 : decode cX35_let 56 = .ok (.goto 4, 3) := dc_167 (a := 0) (b := 4) (v := 4) (by decide +kernel)
theorem dX35_let_59 : decode cX35_let 59 = .ok (.iload_n 3, 1) := dc_29 (by decide +kernel)
theorem dX35_let_60 : decode cX35_let 60 = .ok (.istore_n 3, 1) := dc_62 (by decide +kernel)
theorem dX35_let_61 : decode cX35_let 61 = .ok (.aload_n 0, 1) := dc_42 (by decide +kernel)
theorem dX35_let_62 : decode cX35_let 62 = .ok (.getfield 321, 3) := dc_180 (a := 1) (b := 65) (n := 321) (by decide +kernel)
theorem dX35_let_65 : decode cX35_let 65 = .ok (.ifCond .ne 14, 3) := dc_154 (a := 0) (b := 14) (v := 14) (by decide +kernel)
theorem dX35_let_68 : decode cX35_let 68 = .ok (.aload_n 0, 1) := dc_42 (by decide +kernel)
theorem dX35_let_69 : decode cX35_let 69 = .ok (.iload_n 2, 1) := dc_28 (by decide +kernel)
theorem dX35_let_70 : decode cX35_let 70 = .ok (.aload_n 0, 1) := dc_42 (by decide +kernel)
theorem dX35_let_71 : decode cX35_let 71 = .ok (.iload_n 3, 1) := dc_29 (by decide +kernel)
theorem dX35_let_72 : decode cX35_let 72 = .ok (.invokevirtual 474, 3) := dc_182 (a := 1) (b := 218) (n := 474) (by decide +kernel)
theorem dX35_let_75 : decode cX35_let 75 = .ok (.iload_n 1, 1) := dc_27 (by decide +kernel)
theorem dX35_let_76 : decode cX35_let 76 = .ok (.invokevirtual 557, 3) := dc_182 (a := 2) (b := 45) (n := 557) (by decide +kernel)
theorem dX35_let_79 : decode cX35_let 79 = .ok (.return_, 1) := dc_177 (by decide +kernel)
def fX35_let_b79 (N : Nat)  (h : eH) : Option (Unit × eH) :=
  some ((), h)
theorem pX35_let_b79 {w : eW} {d : Nat} (hd : 7 ≤ d + 1) {N : Nat}  {h : eH} {q} (hf : fX35_let_b79 N h = some q) : wp w (d + 1) YX35_let 79 [none, none, none, none] [] h (e_is (e_rn c_V q)) := by
  unfold fX35_let_b79 at hf
  cases hf
  exact w_vret dX35_let_79 rfl rfl
def fX35_let_b61 (N : Nat) (l0 : Nat) (l1 : Int32) (l2 : Int32) (l3 : Int32) (h : eH) : Option (Unit × eH) :=
  (g_I 34 h l0 46).bind fun x1 =>
  if ¬ x1 = 0 then
    fX35_let_b79 N h
  else
    (k_ok 34 h l0).bind fun _ =>
    (fX35_meaning l0 l3 h).bind fun q5 =>
    (k_ok 34 q5.2 l0).bind fun _ =>
    (fX35_mean N l0 l2 q5.1 l1 q5.2).bind fun q7 =>
    fX35_let_b79 N q7.2
theorem pX35_let_b61 {w : eW} {d : Nat} (hd : 7 ≤ d + 1) {N : Nat} {l0 : Nat} {l1 : Int32} {l2 : Int32} {l3 : Int32} {h : eH} {q} (hf : fX35_let_b61 N l0 l1 l2 l3 h = some q) : wp w (d + 1) YX35_let 61 [some (.ref l0), some (.int l1), some (.int l2), some (.int l3)] [] h (e_is (e_rn c_V q)) := by
  unfold fX35_let_b61 at hf
  refine w_aload_n dX35_let_61 rfl rfl ?_
  obtain ⟨x1, b2, hf⟩ := Option.bind_eq_some_iff.mp hf
  refine GX35_321 b2 dX35_let_62 rfl ?_
  refine w_if_ne 79 dX35_let_65 (by decide) (fun c3 => ?_) (fun c3 => ?_)
  · replace hf := (if_pos (show ¬ x1 = 0 from c3)).symm.trans hf
    exact (pX35_let_b79 hd hf).to trivial
  · replace hf := (if_neg (show ¬ (¬ x1 = 0) from (fun z => z c3))).symm.trans hf
    refine w_aload_n dX35_let_68 rfl rfl ?_
    refine w_iload_n dX35_let_69 rfl rfl ?_
    refine w_aload_n dX35_let_70 rfl rfl ?_
    refine w_iload_n dX35_let_71 rfl rfl ?_
    obtain ⟨_, b4, hf⟩ := Option.bind_eq_some_iff.mp hf
    refine x_cnI hf (e_stV (Yc := YX35_meaning) (ci := 34) (av := [.int l3]) (st := [.int l2, .ref l0]) dX35_let_72 q5130 mX35_meaning rfl (k_ok_some b4).1 (k_ok_some b4).2) mX35_meaning.2.2.1 mX35_meaning.2.2.2.2.1 (Nat.le_of_ble_eq_true rfl) (Nat.le_of_ble_eq_true rfl) (fun q hq => pX35_meaning (by omega) hq) (fun q5 hf => ?_)
    refine w_iload_n dX35_let_75 rfl rfl ?_
    obtain ⟨_, b6, hf⟩ := Option.bind_eq_some_iff.mp hf
    refine x_cnV hf (e_stV (Yc := YX35_mean) (ci := 34) (av := [.int l2, .int q5.1, .int l1]) (st := []) dX35_let_76 q5201 mX35_mean rfl (k_ok_some b6).1 (k_ok_some b6).2) mX35_mean.2.2.1 mX35_mean.2.2.2.2.1 (Nat.le_of_ble_eq_true rfl) (Nat.le_of_ble_eq_true rfl) (fun q hq => pX35_mean (by omega) hq) (fun q7 hf => ?_)
    exact (pX35_let_b79 hd hf).to trivial
def fX35_let_b60 (N : Nat) (l0 : Nat) (l1 : Int32) (l2 : Int32) (s0 : Int32) (h : eH) : Option (Unit × eH) :=
  fX35_let_b61 N l0 l1 l2 s0 h
theorem pX35_let_b60 {w : eW} {d : Nat} (hd : 7 ≤ d + 1) {N : Nat} {l0 : Nat} {l1 : Int32} {l2 : Int32} {s0 : Int32} {h : eH} {q} (hf : fX35_let_b60 N l0 l1 l2 s0 h = some q) : wp w (d + 1) YX35_let 60 [some (.ref l0), some (.int l1), some (.int l2), none] [.int s0] h (e_is (e_rn c_V q)) := by
  unfold fX35_let_b60 at hf
  refine w_istore_n dX35_let_60 rfl (by decide) (ls' := [some (.ref l0), some (.int l1), some (.int l2), some (.int s0)]) rfl ?_
  exact (pX35_let_b61 hd hf).to ⟨rfl, rfl, rfl, rfl, trivial⟩
def fX35_let_b10 (N : Nat) : Nat → Nat → Int32 → Int32 → Int32 → eH → Option (Unit × eH)
  | 0, _, _, _, _, _ => none
  | n + 1, l0, l1, l2, l3, h =>
    (fX35_isOf l3 (10 : Int32) h).bind fun q1 =>
    if q1.1 = 0 then
      (fX35_is l3 (12 : Int32) (61 : Int32) q1.2).bind fun q3 =>
      if q3.1 = 0 then
        fX35_let_b61 N l0 l1 l2 l3 q3.2
      else
        (k_ok 34 q3.2 l0).bind fun _ =>
        (fX35_need N l0 q3.2).bind fun q6 =>
        (fX35_isOf q6.1 (10 : Int32) q6.2).bind fun q7 =>
        if q7.1 = 0 then
          fX35_let_b60 N l0 l1 l2 q6.1 q7.2
        else
          (k_ok 34 q7.2 l0).bind fun _ =>
          (fX35_need N l0 q7.2).bind fun q10 =>
          fX35_let_b60 N l0 l1 l2 q10.1 q10.2
    else
      (k_ok 34 q1.2 l0).bind fun _ =>
      (fX35_need N l0 q1.2).bind fun q12 =>
      fX35_let_b10 N n l0 l1 l2 q12.1 q12.2
theorem pX35_let_b10 {w : eW} {d : Nat} (hd : 7 ≤ d + 1) {N : Nat} : ∀ (n : Nat) l0 l1 l2 l3 h q, fX35_let_b10 N n l0 l1 l2 l3 h = some q → wp w (d + 1) YX35_let 10 [some (.ref l0), some (.int l1), some (.int l2), some (.int l3)] [] h (e_is (e_rn c_V q)) := by
  intro n
  induction n with
  | zero => intro l0 l1 l2 l3 h q hf; simp [fX35_let_b10] at hf
  | succ n ih =>
    intro l0 l1 l2 l3 h q hf
    rw [fX35_let_b10] at hf
    refine w_iload_n dX35_let_10 rfl rfl ?_
    refine w_bipush dX35_let_11 (v := 10) (by decide) ?_
    refine x_cnI hf (e_stS (Yc := YX35_isOf) (av := [.int l3, .int (10 : Int32)]) (st := []) dX35_let_13 q5166 mX35_isOf) mX35_isOf.2.2.1 mX35_isOf.2.2.2.2.1 (Nat.le_of_ble_eq_true rfl) (Nat.le_of_ble_eq_true rfl) (fun q hq => pX35_isOf (by omega) hq) (fun q1 hf => ?_)
    refine w_if_eq 27 dX35_let_16 (by decide) (fun c2 => ?_) (fun c2 => ?_)
    · replace hf := (if_pos (show q1.1 = 0 from c2)).symm.trans hf
      refine w_iload_n dX35_let_27 rfl rfl ?_
      refine w_bipush dX35_let_28 (v := 12) (by decide) ?_
      refine w_bipush dX35_let_30 (v := 61) (by decide) ?_
      refine x_cnI hf (e_stS (Yc := YX35_is) (av := [.int l3, .int (12 : Int32), .int (61 : Int32)]) (st := []) dX35_let_32 q5229 mX35_is) mX35_is.2.2.1 mX35_is.2.2.2.2.1 (Nat.le_of_ble_eq_true rfl) (Nat.le_of_ble_eq_true rfl) (fun q hq => pX35_is (by omega) hq) (fun q3 hf => ?_)
      refine w_if_eq 61 dX35_let_35 (by decide) (fun c4 => ?_) (fun c4 => ?_)
      · replace hf := (if_pos (show q3.1 = 0 from c4)).symm.trans hf
        exact (pX35_let_b61 hd hf).to ⟨rfl, rfl, rfl, rfl, trivial⟩
      · replace hf := (if_neg (show ¬ (q3.1 = 0) from c4)).symm.trans hf
        refine w_aload_n dX35_let_38 rfl rfl ?_
        obtain ⟨_, b5, hf⟩ := Option.bind_eq_some_iff.mp hf
        refine x_cnI hf (e_stV (Yc := YX35_need) (ci := 34) (av := []) (st := []) dX35_let_39 q5154 mX35_need rfl (k_ok_some b5).1 (k_ok_some b5).2) mX35_need.2.2.1 mX35_need.2.2.2.2.1 (Nat.le_of_ble_eq_true rfl) (Nat.le_of_ble_eq_true rfl) (fun q hq => pX35_need (by omega) hq) (fun q6 hf => ?_)
        refine w_istore_n dX35_let_42 rfl (by decide) (ls' := [some (.ref l0), some (.int l1), some (.int l2), some (.int q6.1)]) rfl ?_
        refine w_iload_n dX35_let_43 rfl rfl ?_
        refine w_bipush dX35_let_44 (v := 10) (by decide) ?_
        refine x_cnI hf (e_stS (Yc := YX35_isOf) (av := [.int q6.1, .int (10 : Int32)]) (st := []) dX35_let_46 q5166 mX35_isOf) mX35_isOf.2.2.1 mX35_isOf.2.2.2.2.1 (Nat.le_of_ble_eq_true rfl) (Nat.le_of_ble_eq_true rfl) (fun q hq => pX35_isOf (by omega) hq) (fun q7 hf => ?_)
        refine w_if_eq 59 dX35_let_49 (by decide) (fun c8 => ?_) (fun c8 => ?_)
        · replace hf := (if_pos (show q7.1 = 0 from c8)).symm.trans hf
          refine w_iload_n dX35_let_59 rfl rfl ?_
          exact (pX35_let_b60 hd hf).to ⟨rfl, rfl, rfl, trivial⟩
        · replace hf := (if_neg (show ¬ (q7.1 = 0) from c8)).symm.trans hf
          refine w_aload_n dX35_let_52 rfl rfl ?_
          obtain ⟨_, b9, hf⟩ := Option.bind_eq_some_iff.mp hf
          refine x_cnI hf (e_stV (Yc := YX35_need) (ci := 34) (av := []) (st := []) dX35_let_53 q5154 mX35_need rfl (k_ok_some b9).1 (k_ok_some b9).2) mX35_need.2.2.1 mX35_need.2.2.2.2.1 (Nat.le_of_ble_eq_true rfl) (Nat.le_of_ble_eq_true rfl) (fun q hq => pX35_need (by omega) hq) (fun q10 hf => ?_)
          refine w_goto 60 dX35_let_56 (by decide) ?_
          exact (pX35_let_b60 hd hf).to ⟨rfl, rfl, rfl, trivial⟩
    · replace hf := (if_neg (show ¬ (q1.1 = 0) from c2)).symm.trans hf
      refine w_aload_n dX35_let_19 rfl rfl ?_
      obtain ⟨_, b11, hf⟩ := Option.bind_eq_some_iff.mp hf
      refine x_cnI hf (e_stV (Yc := YX35_need) (ci := 34) (av := []) (st := []) dX35_let_20 q5154 mX35_need rfl (k_ok_some b11).1 (k_ok_some b11).2) mX35_need.2.2.1 mX35_need.2.2.2.2.1 (Nat.le_of_ble_eq_true rfl) (Nat.le_of_ble_eq_true rfl) (fun q hq => pX35_need (by omega) hq) (fun q12 hf => ?_)
      refine w_istore_n dX35_let_23 rfl (by decide) (ls' := [some (.ref l0), some (.int l1), some (.int l2), some (.int q12.1)]) rfl ?_
      refine w_goto 10 dX35_let_24 (by decide) ?_
      exact (ih _ _ _ _ _ _ hf).to ⟨rfl, rfl, rfl, rfl, trivial⟩
def fX35_let (N : Nat) (this : Nat) (p0 : Int32) (h : eH) : Option (Unit × eH) :=
  (k_ok 34 h this).bind fun _ =>
  (fX35_target N this h).bind fun q2 =>
  (k_ok 34 q2.2 this).bind fun _ =>
  (fX35_need N this q2.2).bind fun q4 =>
  fX35_let_b10 N N this p0 q2.1 q4.1 q4.2
theorem pX35_let {w : eW} {d : Nat} (hd : 7 ≤ d) {N : Nat} {this : Nat} {p0 : Int32} {h : eH} {q} (hf : fX35_let N this p0 h = some q) : wm w d YX35_let [.ref this, .int p0] h (e_is (e_rn c_V q)) := by
  obtain ⟨d, rfl⟩ : ∃ e, d = e + 1 := ⟨d - 1, by omega⟩
  show wp w (d + 1) YX35_let 0 [some (.ref this), some (.int p0), none, none] [] h _
  unfold fX35_let at hf
  refine w_aload_n dX35_let_0 rfl rfl ?_
  obtain ⟨_, b1, hf⟩ := Option.bind_eq_some_iff.mp hf
  refine x_cnI hf (e_stV (Yc := YX35_target) (ci := 34) (av := []) (st := []) dX35_let_1 q5926 mX35_target rfl (k_ok_some b1).1 (k_ok_some b1).2) mX35_target.2.2.1 mX35_target.2.2.2.2.1 (Nat.le_of_ble_eq_true rfl) (Nat.le_of_ble_eq_true rfl) (fun q hq => pX35_target (by omega) hq) (fun q2 hf => ?_)
  refine w_istore_n dX35_let_4 rfl (by decide) (ls' := [some (.ref this), some (.int p0), some (.int q2.1), none]) rfl ?_
  refine w_aload_n dX35_let_5 rfl rfl ?_
  obtain ⟨_, b3, hf⟩ := Option.bind_eq_some_iff.mp hf
  refine x_cnI hf (e_stV (Yc := YX35_need) (ci := 34) (av := []) (st := []) dX35_let_6 q5154 mX35_need rfl (k_ok_some b3).1 (k_ok_some b3).2) mX35_need.2.2.1 mX35_need.2.2.2.2.1 (Nat.le_of_ble_eq_true rfl) (Nat.le_of_ble_eq_true rfl) (fun q hq => pX35_need (by omega) hq) (fun q4 hf => ?_)
  refine w_istore_n dX35_let_9 rfl (by decide) (ls' := [some (.ref this), some (.int p0), some (.int q2.1), some (.int q4.1)]) rfl ?_
  exact (pX35_let_b10 hd N _ _ _ _ _ _ hf).to ⟨rfl, rfl, rfl, rfl, trivial⟩
abbrev cX35_equals : ByteArray := prog_37_method_99_code
def yX35_equals : MethodName := ⟨RX35, "equals", "()V"⟩
def YX35_equals : eY := (yX35_equals, cX35_equals, 2, none, [])
theorem mX35_equals : e_mv YX35_equals RX35 0 := ⟨q5940, qs403, q5941, by decide, by decide +kernel, (e_sig (by decide +kernel))⟩
theorem dX35_equals_0 : decode cX35_equals 0 = .ok (.aload_n 0, 1) := dc_42 (by decide +kernel)
theorem dX35_equals_1 : decode cX35_equals 1 = .ok (.invokevirtual 487, 3) := dc_182 (a := 1) (b := 231) (n := 487) (by decide +kernel)
theorem dX35_equals_4 : decode cX35_equals 4 = .ok (.istore_n 1, 1) := dc_60 (by decide +kernel)
theorem dX35_equals_5 : decode cX35_equals 5 = .ok (.iload_n 1, 1) := dc_27 (by decide +kernel)
theorem dX35_equals_6 : decode cX35_equals 6 = .ok (.bipush 10, 2) := dc_16 (a := 10) (v := 10) (by decide +kernel)
theorem dX35_equals_8 : decode cX35_equals 8 = .ok (.invokestatic 493, 3) := dc_184 (a := 1) (b := 237) (n := 493) (by decide +kernel)
theorem dX35_equals_11 : decode cX35_equals 11 = .ok (.ifCond .eq 11, 3) := dc_153 (a := 0) (b := 11) (v := 11) (by decide +kernel)
theorem dX35_equals_14 : decode cX35_equals 14 = .ok (.aload_n 0, 1) := dc_42 (by decide +kernel)
theorem dX35_equals_15 : decode cX35_equals 15 = .ok (.invokevirtual 487, 3) := dc_182 (a := 1) (b := 231) (n := 487) (by decide +kernel)
theorem dX35_equals_18 : decode cX35_equals 18 = .ok (.istore_n 1, 1) := dc_60 (by decide +kernel)
theorem dX35_equals_19 : decode cX35_equals 19 = .ok (.goto (-14), 3) := dc_167 (a := 255) (b := 242) (v := -14) (by decide +kernel)
theorem dX35_equals_22 : decode cX35_equals 22 = .ok (.iload_n 1, 1) := dc_27 (by decide +kernel)
theorem dX35_equals_23 : decode cX35_equals 23 = .ok (.bipush 12, 2) := dc_16 (a := 12) (v := 12) (by decide +kernel)
theorem dX35_equals_25 : decode cX35_equals 25 = .ok (.bipush 61, 2) := dc_16 (a := 61) (v := 61) (by decide +kernel)
theorem dX35_equals_27 : decode cX35_equals 27 = .ok (.invokestatic 610, 3) := dc_184 (a := 2) (b := 98) (n := 610) (by decide +kernel)
theorem dX35_equals_30 : decode cX35_equals 30 = .ok (.ifCond .ne 8, 3) := dc_154 (a := 0) (b := 8) (v := 8) (by decide +kernel)
theorem dX35_equals_33 : decode cX35_equals 33 = .ok (.aload_n 0, 1) := dc_42 (by decide +kernel)
theorem dX35_equals_34 : decode cX35_equals 34 = .ok (.iload_n 1, 1) := dc_27 (by decide +kernel)
theorem dX35_equals_35 : decode cX35_equals 35 = .ok (.invokevirtual 509, 3) := dc_182 (a := 1) (b := 253) (n := 509) (by decide +kernel)
theorem dX35_equals_38 : decode cX35_equals 38 = .ok (.return_, 1) := dc_177 (by decide +kernel)
def fX35_equals_b38 (N : Nat) (sE : Nat → Int32 → eH → Option (Unit × eH))  (h : eH) : Option (Unit × eH) :=
  some ((), h)
theorem pX35_equals_b38 {w : eW} {d : Nat} {dr : Nat} (hd : dr + 6 ≤ d + 1) (hdr : 12 ≤ dr) {N : Nat} {sE : Nat → Int32 → eH → Option (Unit × eH)} (hsE : ∀ a t0 h q, sE a t0 h = some q → wm w dr YX35_expand [.ref a, .int t0] h (e_is (e_rn c_V q)))  {h : eH} {q} (hf : fX35_equals_b38 N sE h = some q) : wp w (d + 1) YX35_equals 38 [none, none] [] h (e_is (e_rn c_V q)) := by
  unfold fX35_equals_b38 at hf
  cases hf
  exact w_vret dX35_equals_38 rfl rfl
def fX35_equals_b5 (N : Nat) (sE : Nat → Int32 → eH → Option (Unit × eH)) : Nat → Nat → Int32 → eH → Option (Unit × eH)
  | 0, _, _, _ => none
  | n + 1, l0, l1, h =>
    (fX35_isOf l1 (10 : Int32) h).bind fun q1 =>
    if q1.1 = 0 then
      (fX35_is l1 (12 : Int32) (61 : Int32) q1.2).bind fun q3 =>
      if ¬ q3.1 = 0 then
        fX35_equals_b38 N sE q3.2
      else
        (k_ok 34 q3.2 l0).bind fun _ =>
        (fX35_put l0 l1 q3.2).bind fun q6 =>
        fX35_equals_b38 N sE q6.2
    else
      (k_ok 34 q1.2 l0).bind fun _ =>
      (fX35_getExpanded N sE l0 q1.2).bind fun q8 =>
      fX35_equals_b5 N sE n l0 q8.1 q8.2
theorem pX35_equals_b5 {w : eW} {d : Nat} {dr : Nat} (hd : dr + 6 ≤ d + 1) (hdr : 12 ≤ dr) {N : Nat} {sE : Nat → Int32 → eH → Option (Unit × eH)} (hsE : ∀ a t0 h q, sE a t0 h = some q → wm w dr YX35_expand [.ref a, .int t0] h (e_is (e_rn c_V q))) : ∀ (n : Nat) l0 l1 h q, fX35_equals_b5 N sE n l0 l1 h = some q → wp w (d + 1) YX35_equals 5 [some (.ref l0), some (.int l1)] [] h (e_is (e_rn c_V q)) := by
  intro n
  induction n with
  | zero => intro l0 l1 h q hf; simp [fX35_equals_b5] at hf
  | succ n ih =>
    intro l0 l1 h q hf
    rw [fX35_equals_b5] at hf
    refine w_iload_n dX35_equals_5 rfl rfl ?_
    refine w_bipush dX35_equals_6 (v := 10) (by decide) ?_
    refine x_cnI hf (e_stS (Yc := YX35_isOf) (av := [.int l1, .int (10 : Int32)]) (st := []) dX35_equals_8 q5166 mX35_isOf) mX35_isOf.2.2.1 mX35_isOf.2.2.2.2.1 (Nat.le_of_ble_eq_true rfl) (Nat.le_of_ble_eq_true rfl) (fun q hq => pX35_isOf (by omega) hq) (fun q1 hf => ?_)
    refine w_if_eq 22 dX35_equals_11 (by decide) (fun c2 => ?_) (fun c2 => ?_)
    · replace hf := (if_pos (show q1.1 = 0 from c2)).symm.trans hf
      refine w_iload_n dX35_equals_22 rfl rfl ?_
      refine w_bipush dX35_equals_23 (v := 12) (by decide) ?_
      refine w_bipush dX35_equals_25 (v := 61) (by decide) ?_
      refine x_cnI hf (e_stS (Yc := YX35_is) (av := [.int l1, .int (12 : Int32), .int (61 : Int32)]) (st := []) dX35_equals_27 q5229 mX35_is) mX35_is.2.2.1 mX35_is.2.2.2.2.1 (Nat.le_of_ble_eq_true rfl) (Nat.le_of_ble_eq_true rfl) (fun q hq => pX35_is (by omega) hq) (fun q3 hf => ?_)
      refine w_if_ne 38 dX35_equals_30 (by decide) (fun c4 => ?_) (fun c4 => ?_)
      · replace hf := (if_pos (show ¬ q3.1 = 0 from c4)).symm.trans hf
        exact (pX35_equals_b38 hd hdr hsE hf).to trivial
      · replace hf := (if_neg (show ¬ (¬ q3.1 = 0) from (fun z => z c4))).symm.trans hf
        refine w_aload_n dX35_equals_33 rfl rfl ?_
        refine w_iload_n dX35_equals_34 rfl rfl ?_
        obtain ⟨_, b5, hf⟩ := Option.bind_eq_some_iff.mp hf
        refine x_cnV hf (e_stV (Yc := YX35_put) (ci := 34) (av := [.int l1]) (st := []) dX35_equals_35 q5181 mX35_put rfl (k_ok_some b5).1 (k_ok_some b5).2) mX35_put.2.2.1 mX35_put.2.2.2.2.1 (Nat.le_of_ble_eq_true rfl) (Nat.le_of_ble_eq_true rfl) (fun q hq => pX35_put (by omega) hq) (fun q6 hf => ?_)
        exact (pX35_equals_b38 hd hdr hsE hf).to trivial
    · replace hf := (if_neg (show ¬ (q1.1 = 0) from c2)).symm.trans hf
      refine w_aload_n dX35_equals_14 rfl rfl ?_
      obtain ⟨_, b7, hf⟩ := Option.bind_eq_some_iff.mp hf
      refine x_cnI hf (e_stV (Yc := YX35_getExpanded) (ci := 34) (av := []) (st := []) dX35_equals_15 q5077 mX35_getExpanded rfl (k_ok_some b7).1 (k_ok_some b7).2) mX35_getExpanded.2.2.1 mX35_getExpanded.2.2.2.2.1 (Nat.le_of_ble_eq_true rfl) (Nat.le_of_ble_eq_true rfl) (fun q hq => pX35_getExpanded (by omega) hdr hsE hq) (fun q8 hf => ?_)
      refine w_istore_n dX35_equals_18 rfl (by decide) (ls' := [some (.ref l0), some (.int q8.1)]) rfl ?_
      refine w_goto 5 dX35_equals_19 (by decide) ?_
      exact (ih _ _ _ _ hf).to ⟨rfl, rfl, trivial⟩
def fX35_equals (N : Nat) (sE : Nat → Int32 → eH → Option (Unit × eH)) (this : Nat) (h : eH) : Option (Unit × eH) :=
  (k_ok 34 h this).bind fun _ =>
  (fX35_getExpanded N sE this h).bind fun q2 =>
  fX35_equals_b5 N sE N this q2.1 q2.2
theorem pX35_equals {w : eW} {d : Nat} {dr : Nat} (hd : dr + 6 ≤ d) (hdr : 12 ≤ dr) {N : Nat} {sE : Nat → Int32 → eH → Option (Unit × eH)} (hsE : ∀ a t0 h q, sE a t0 h = some q → wm w dr YX35_expand [.ref a, .int t0] h (e_is (e_rn c_V q))) {this : Nat} {h : eH} {q} (hf : fX35_equals N sE this h = some q) : wm w d YX35_equals [.ref this] h (e_is (e_rn c_V q)) := by
  obtain ⟨d, rfl⟩ : ∃ e, d = e + 1 := ⟨d - 1, by omega⟩
  show wp w (d + 1) YX35_equals 0 [some (.ref this), none] [] h _
  unfold fX35_equals at hf
  refine w_aload_n dX35_equals_0 rfl rfl ?_
  obtain ⟨_, b1, hf⟩ := Option.bind_eq_some_iff.mp hf
  refine x_cnI hf (e_stV (Yc := YX35_getExpanded) (ci := 34) (av := []) (st := []) dX35_equals_1 q5077 mX35_getExpanded rfl (k_ok_some b1).1 (k_ok_some b1).2) mX35_getExpanded.2.2.1 mX35_getExpanded.2.2.2.2.1 (Nat.le_of_ble_eq_true rfl) (Nat.le_of_ble_eq_true rfl) (fun q hq => pX35_getExpanded (by omega) hdr hsE hq) (fun q2 hf => ?_)
  refine w_istore_n dX35_equals_4 rfl (by decide) (ls' := [some (.ref this), some (.int q2.1)]) rfl ?_
  exact (pX35_equals_b5 hd hdr hsE N _ _ _ _ hf).to ⟨rfl, rfl, trivial⟩
abbrev cX40_designOf : ByteArray := prog_41_method_21_code
def yX40_designOf : MethodName := ⟨RX40, "designOf", "([B)I"⟩
def YX40_designOf : eY := (yX40_designOf, cX40_designOf, 3, (Option.some FieldType.int), [])
theorem mX40_designOf : e_ms YX40_designOf 1 := ⟨q4926, q483, q4927, by decide, by decide +kernel, (e_sig (by decide +kernel))⟩
theorem dX40_designOf_0 : decode cX40_designOf 0 = .ok (.iconst 0, 1) := dc_3 (by decide +kernel)
theorem dX40_designOf_1 : decode cX40_designOf 1 = .ok (.istore_n 1, 1) := dc_60 (by decide +kernel)
theorem dX40_designOf_2 : decode cX40_designOf 2 = .ok (.iconst 0, 1) := dc_3 (by decide +kernel)
theorem dX40_designOf_3 : decode cX40_designOf 3 = .ok (.istore_n 2, 1) := dc_61 (by decide +kernel)
theorem dX40_designOf_4 : decode cX40_designOf 4 = .ok (.iload_n 2, 1) := dc_28 (by decide +kernel)
theorem dX40_designOf_5 : decode cX40_designOf 5 = .ok (.iconst 4, 1) := dc_7 (by decide +kernel)
theorem dX40_designOf_6 : decode cX40_designOf 6 = .ok (.if_icmp .ge 22, 3) := dc_162 (a := 0) (b := 22) (v := 22) (by decide +kernel)
theorem dX40_designOf_9 : decode cX40_designOf 9 = .ok (.iload_n 1, 1) := dc_27 (by decide +kernel)
theorem dX40_designOf_10 : decode cX40_designOf 10 = .ok (.bipush 8, 2) := dc_16 (a := 8) (v := 8) (by decide +kernel)
theorem dX40_designOf_12 : decode cX40_designOf 12 = .ok (.ishl, 1) := dc_120 (by decide +kernel)
theorem dX40_designOf_13 : decode cX40_designOf 13 = .ok (.aload_n 0, 1) := dc_42 (by decide +kernel)
theorem dX40_designOf_14 : decode cX40_designOf 14 = .ok (.iconst 0, 1) := dc_3 (by decide +kernel)
theorem dX40_designOf_15 : decode cX40_designOf 15 = .ok (.iconst 1, 1) := dc_4 (by decide +kernel)
theorem dX40_designOf_16 : decode cX40_designOf 16 = .ok (.iload_n 2, 1) := dc_28 (by decide +kernel)
theorem dX40_designOf_17 : decode cX40_designOf 17 = .ok (.invokestatic 32, 3) := dc_184 (a := 0) (b := 32) (n := 32) (by decide +kernel)
theorem dX40_designOf_20 : decode cX40_designOf 20 = .ok (.ior, 1) := dc_128 (by decide +kernel)
theorem dX40_designOf_21 : decode cX40_designOf 21 = .ok (.istore_n 1, 1) := dc_60 (by decide +kernel)
theorem dX40_designOf_22 : decode cX40_designOf 22 = .ok (.iinc 2 1, 3) := dc_132 (a := 2) (b := 1) (v := 1) (by decide +kernel)
theorem dX40_designOf_25 : decode cX40_designOf 25 = .ok (.goto (-21), 3) := dc_167 (a := 255) (b := 235) (v := -21) (by decide +kernel)
theorem dX40_designOf_28 : decode cX40_designOf 28 = .ok (.iload_n 1, 1) := dc_27 (by decide +kernel)
theorem dX40_designOf_29 : decode cX40_designOf 29 = .ok (.ireturn, 1) := dc_172 (by decide +kernel)
def fX40_designOf_b4 (N : Nat) : Nat → Nat → Int32 → Int32 → eH → Option (Int32 × eH)
  | 0, _, _, _, _ => none
  | n + 1, l0, l1, l2, h =>
    if (4 : Int32) ≤ l2 then
      some (l1, h)
    else
      (fX40_at N l0 (0 : Int32) (1 : Int32) l2 h).bind fun q2 =>
      fX40_designOf_b4 N n l0 ((l1 <<< ((8 : Int32) &&& 31)) ||| q2.1) (l2 + (1 : Int32)) q2.2
theorem pX40_designOf_b4 {w : eW} {d : Nat} (hd : 4 ≤ d + 1) {N : Nat} : ∀ (n : Nat) l0 l1 l2 h q, fX40_designOf_b4 N n l0 l1 l2 h = some q → wp w (d + 1) YX40_designOf 4 [some (.ref l0), some (.int l1), some (.int l2)] [] h (e_is (e_rn c_I q)) := by
  intro n
  induction n with
  | zero => intro l0 l1 l2 h q hf; simp [fX40_designOf_b4] at hf
  | succ n ih =>
    intro l0 l1 l2 h q hf
    rw [fX40_designOf_b4] at hf
    refine w_iload_n dX40_designOf_4 rfl rfl ?_
    refine w_iconst dX40_designOf_5 (v := 4) (by decide) ?_
    refine w_icmp_ge 28 dX40_designOf_6 (by decide) (fun c1 => ?_) (fun c1 => ?_)
    · replace hf := (if_pos (show (4 : Int32) ≤ l2 from c1)).symm.trans hf
      refine w_iload_n dX40_designOf_28 rfl rfl ?_
      cases hf
      exact w_iret dX40_designOf_29 rfl rfl rfl
    · replace hf := (if_neg (show ¬ ((4 : Int32) ≤ l2) from c1)).symm.trans hf
      refine w_iload_n dX40_designOf_9 rfl rfl ?_
      refine w_bipush dX40_designOf_10 (v := 8) (by decide) ?_
      refine w_ishl dX40_designOf_12 ?_
      refine w_aload_n dX40_designOf_13 rfl rfl ?_
      refine w_iconst dX40_designOf_14 (v := 0) (by decide) ?_
      refine w_iconst dX40_designOf_15 (v := 1) (by decide) ?_
      refine w_iload_n dX40_designOf_16 rfl rfl ?_
      refine x_cnI hf (e_stS (Yc := YX40_at) (av := [.ref l0, .int (0 : Int32), .int (1 : Int32), .int l2]) (st := [.int (l1 <<< ((8 : Int32) &&& 31))]) dX40_designOf_17 q4928 mX40_at) mX40_at.2.2.1 mX40_at.2.2.2.2.1 (Nat.le_of_ble_eq_true rfl) (Nat.le_of_ble_eq_true rfl) (fun q hq => pX40_at (by omega) hq) (fun q2 hf => ?_)
      refine w_ior dX40_designOf_20 ?_
      refine w_istore_n dX40_designOf_21 rfl (by decide) (ls' := [some (.ref l0), some (.int ((l1 <<< ((8 : Int32) &&& 31)) ||| q2.1)), some (.int l2)]) rfl ?_
      refine w_iinc dX40_designOf_22 (v := (l2 + (1 : Int32))) rfl rfl (by decide) (ls' := [some (.ref l0), some (.int ((l1 <<< ((8 : Int32) &&& 31)) ||| q2.1)), some (.int (l2 + (1 : Int32)))]) rfl ?_
      refine w_goto 4 dX40_designOf_25 (by decide) ?_
      exact (ih _ _ _ _ _ hf).to ⟨rfl, rfl, rfl, trivial⟩
def fX40_designOf (N : Nat) (p0 : Nat) (h : eH) : Option (Int32 × eH) :=
  fX40_designOf_b4 N N p0 (0 : Int32) (0 : Int32) h
theorem pX40_designOf {w : eW} {d : Nat} (hd : 4 ≤ d) {N : Nat} {p0 : Nat} {h : eH} {q} (hf : fX40_designOf N p0 h = some q) : wm w d YX40_designOf [.ref p0] h (e_is (e_rn c_I q)) := by
  obtain ⟨d, rfl⟩ : ∃ e, d = e + 1 := ⟨d - 1, by omega⟩
  show wp w (d + 1) YX40_designOf 0 [some (.ref p0), none, none] [] h _
  unfold fX40_designOf at hf
  refine w_iconst dX40_designOf_0 (v := 0) (by decide) ?_
  refine w_istore_n dX40_designOf_1 rfl (by decide) (ls' := [some (.ref p0), some (.int (0 : Int32)), none]) rfl ?_
  refine w_iconst dX40_designOf_2 (v := 0) (by decide) ?_
  refine w_istore_n dX40_designOf_3 rfl (by decide) (ls' := [some (.ref p0), some (.int (0 : Int32)), some (.int (0 : Int32))]) rfl ?_
  exact (pX40_designOf_b4 hd N _ _ _ _ _ hf).to ⟨rfl, rfl, rfl, trivial⟩
abbrev cX40_design : ByteArray := prog_41_method_25_code
def yX40_design : MethodName := ⟨RX40, "design", "()I"⟩
def YX40_design : eY := (yX40_design, cX40_design, 1, (Option.some FieldType.int), [])
theorem mX40_design : e_mv YX40_design RX40 0 := ⟨q5949, q5950, q5951, by decide, by decide +kernel, (e_sig (by decide +kernel))⟩
theorem dX40_design_0 : decode cX40_design 0 = .ok (.aload_n 0, 1) := dc_42 (by decide +kernel)
theorem dX40_design_1 : decode cX40_design 1 = .ok (.getfield 9, 3) := dc_180 (a := 0) (b := 9) (n := 9) (by decide +kernel)
theorem dX40_design_4 : decode cX40_design 4 = .ok (.invokestatic 66, 3) := dc_184 (a := 0) (b := 66) (n := 66) (by decide +kernel)
theorem dX40_design_7 : decode cX40_design 7 = .ok (.iconst 4, 1) := dc_7 (by decide +kernel)
theorem dX40_design_8 : decode cX40_design 8 = .ok (.ishr, 1) := dc_122 (by decide +kernel)
theorem dX40_design_9 : decode cX40_design 9 = .ok (.ireturn, 1) := dc_172 (by decide +kernel)
def fX40_design (N : Nat) (this : Nat) (h : eH) : Option (Int32 × eH) :=
  (g_A 42 h this 0).bind fun a1 =>
  (fX40_designOf N a1 h).bind fun q3 =>
  some ((q3.1 >>> ((4 : Int32) &&& 31)), q3.2)
theorem pX40_design {w : eW} {d : Nat} (hd : 5 ≤ d) {N : Nat} {this : Nat} {h : eH} {q} (hf : fX40_design N this h = some q) : wm w d YX40_design [.ref this] h (e_is (e_rn c_I q)) := by
  obtain ⟨d, rfl⟩ : ∃ e, d = e + 1 := ⟨d - 1, by omega⟩
  show wp w (d + 1) YX40_design 0 [some (.ref this)] [] h _
  unfold fX40_design at hf
  refine w_aload_n dX40_design_0 rfl rfl ?_
  obtain ⟨a1, b2, hf⟩ := Option.bind_eq_some_iff.mp hf
  refine GX40_9 b2 dX40_design_1 rfl ?_
  refine x_cnI hf (e_stS (Yc := YX40_designOf) (av := [.ref a1]) (st := []) dX40_design_4 q4925 mX40_designOf) mX40_designOf.2.2.1 mX40_designOf.2.2.2.2.1 (Nat.le_of_ble_eq_true rfl) (Nat.le_of_ble_eq_true rfl) (fun q hq => pX40_designOf (by omega) hq) (fun q3 hf => ?_)
  refine w_iconst dX40_design_7 (v := 4) (by decide) ?_
  refine w_ishr dX40_design_8 ?_
  cases hf
  exact w_iret dX40_design_9 rfl rfl rfl
abbrev cX40_check : ByteArray := prog_41_method_26_code
def yX40_check : MethodName := ⟨RX40, "check", "()I"⟩
def YX40_check : eY := (yX40_check, cX40_check, 3, (Option.some FieldType.int), [])
theorem mX40_check : e_mv YX40_check RX40 0 := ⟨q5953, q5954, q5955, by decide, by decide +kernel, (e_sig (by decide +kernel))⟩
theorem dX40_check_0 : decode cX40_check 0 = .ok (.iconst 0, 1) := dc_3 (by decide +kernel)
theorem dX40_check_1 : decode cX40_check 1 = .ok (.istore_n 1, 1) := dc_60 (by decide +kernel)
theorem dX40_check_2 : decode cX40_check 2 = .ok (.iconst 0, 1) := dc_3 (by decide +kernel)
theorem dX40_check_3 : decode cX40_check 3 = .ok (.istore_n 2, 1) := dc_61 (by decide +kernel)
theorem dX40_check_4 : decode cX40_check 4 = .ok (.iload_n 2, 1) := dc_28 (by decide +kernel)
theorem dX40_check_5 : decode cX40_check 5 = .ok (.iconst 4, 1) := dc_7 (by decide +kernel)
theorem dX40_check_6 : decode cX40_check 6 = .ok (.if_icmp .ge 25, 3) := dc_162 (a := 0) (b := 25) (v := 25) (by decide +kernel)
theorem dX40_check_9 : decode cX40_check 9 = .ok (.iload_n 1, 1) := dc_27 (by decide +kernel)
theorem dX40_check_10 : decode cX40_check 10 = .ok (.bipush 8, 2) := dc_16 (a := 8) (v := 8) (by decide +kernel)
theorem dX40_check_12 : decode cX40_check 12 = .ok (.ishl, 1) := dc_120 (by decide +kernel)
theorem dX40_check_13 : decode cX40_check 13 = .ok (.aload_n 0, 1) := dc_42 (by decide +kernel)
theorem dX40_check_14 : decode cX40_check 14 = .ok (.getfield 9, 3) := dc_180 (a := 0) (b := 9) (n := 9) (by decide +kernel)
theorem dX40_check_17 : decode cX40_check 17 = .ok (.iconst 0, 1) := dc_3 (by decide +kernel)
theorem dX40_check_18 : decode cX40_check 18 = .ok (.iconst 0, 1) := dc_3 (by decide +kernel)
theorem dX40_check_19 : decode cX40_check 19 = .ok (.iload_n 2, 1) := dc_28 (by decide +kernel)
theorem dX40_check_20 : decode cX40_check 20 = .ok (.invokestatic 32, 3) := dc_184 (a := 0) (b := 32) (n := 32) (by decide +kernel)
theorem dX40_check_23 : decode cX40_check 23 = .ok (.ior, 1) := dc_128 (by decide +kernel)
theorem dX40_check_24 : decode cX40_check 24 = .ok (.istore_n 1, 1) := dc_60 (by decide +kernel)
theorem dX40_check_25 : decode cX40_check 25 = .ok (.iinc 2 1, 3) := dc_132 (a := 2) (b := 1) (v := 1) (by decide +kernel)
theorem dX40_check_28 : decode cX40_check 28 = .ok (.goto (-24), 3) := dc_167 (a := 255) (b := 232) (v := -24) (by decide +kernel)
theorem dX40_check_31 : decode cX40_check 31 = .ok (.iload_n 1, 1) := dc_27 (by decide +kernel)
theorem dX40_check_32 : decode cX40_check 32 = .ok (.ireturn, 1) := dc_172 (by decide +kernel)
def fX40_check_b4 (N : Nat) : Nat → Nat → Int32 → Int32 → eH → Option (Int32 × eH)
  | 0, _, _, _, _ => none
  | n + 1, l0, l1, l2, h =>
    if (4 : Int32) ≤ l2 then
      some (l1, h)
    else
      (g_A 42 h l0 0).bind fun a2 =>
      (fX40_at N a2 (0 : Int32) (0 : Int32) l2 h).bind fun q4 =>
      fX40_check_b4 N n l0 ((l1 <<< ((8 : Int32) &&& 31)) ||| q4.1) (l2 + (1 : Int32)) q4.2
theorem pX40_check_b4 {w : eW} {d : Nat} (hd : 4 ≤ d + 1) {N : Nat} : ∀ (n : Nat) l0 l1 l2 h q, fX40_check_b4 N n l0 l1 l2 h = some q → wp w (d + 1) YX40_check 4 [some (.ref l0), some (.int l1), some (.int l2)] [] h (e_is (e_rn c_I q)) := by
  intro n
  induction n with
  | zero => intro l0 l1 l2 h q hf; simp [fX40_check_b4] at hf
  | succ n ih =>
    intro l0 l1 l2 h q hf
    rw [fX40_check_b4] at hf
    refine w_iload_n dX40_check_4 rfl rfl ?_
    refine w_iconst dX40_check_5 (v := 4) (by decide) ?_
    refine w_icmp_ge 31 dX40_check_6 (by decide) (fun c1 => ?_) (fun c1 => ?_)
    · replace hf := (if_pos (show (4 : Int32) ≤ l2 from c1)).symm.trans hf
      refine w_iload_n dX40_check_31 rfl rfl ?_
      cases hf
      exact w_iret dX40_check_32 rfl rfl rfl
    · replace hf := (if_neg (show ¬ ((4 : Int32) ≤ l2) from c1)).symm.trans hf
      refine w_iload_n dX40_check_9 rfl rfl ?_
      refine w_bipush dX40_check_10 (v := 8) (by decide) ?_
      refine w_ishl dX40_check_12 ?_
      refine w_aload_n dX40_check_13 rfl rfl ?_
      obtain ⟨a2, b3, hf⟩ := Option.bind_eq_some_iff.mp hf
      refine GX40_9 b3 dX40_check_14 rfl ?_
      refine w_iconst dX40_check_17 (v := 0) (by decide) ?_
      refine w_iconst dX40_check_18 (v := 0) (by decide) ?_
      refine w_iload_n dX40_check_19 rfl rfl ?_
      refine x_cnI hf (e_stS (Yc := YX40_at) (av := [.ref a2, .int (0 : Int32), .int (0 : Int32), .int l2]) (st := [.int (l1 <<< ((8 : Int32) &&& 31))]) dX40_check_20 q4928 mX40_at) mX40_at.2.2.1 mX40_at.2.2.2.2.1 (Nat.le_of_ble_eq_true rfl) (Nat.le_of_ble_eq_true rfl) (fun q hq => pX40_at (by omega) hq) (fun q4 hf => ?_)
      refine w_ior dX40_check_23 ?_
      refine w_istore_n dX40_check_24 rfl (by decide) (ls' := [some (.ref l0), some (.int ((l1 <<< ((8 : Int32) &&& 31)) ||| q4.1)), some (.int l2)]) rfl ?_
      refine w_iinc dX40_check_25 (v := (l2 + (1 : Int32))) rfl rfl (by decide) (ls' := [some (.ref l0), some (.int ((l1 <<< ((8 : Int32) &&& 31)) ||| q4.1)), some (.int (l2 + (1 : Int32)))]) rfl ?_
      refine w_goto 4 dX40_check_28 (by decide) ?_
      exact (ih _ _ _ _ _ hf).to ⟨rfl, rfl, rfl, trivial⟩
def fX40_check (N : Nat) (this : Nat) (h : eH) : Option (Int32 × eH) :=
  fX40_check_b4 N N this (0 : Int32) (0 : Int32) h
theorem pX40_check {w : eW} {d : Nat} (hd : 4 ≤ d) {N : Nat} {this : Nat} {h : eH} {q} (hf : fX40_check N this h = some q) : wm w d YX40_check [.ref this] h (e_is (e_rn c_I q)) := by
  obtain ⟨d, rfl⟩ : ∃ e, d = e + 1 := ⟨d - 1, by omega⟩
  show wp w (d + 1) YX40_check 0 [some (.ref this), none, none] [] h _
  unfold fX40_check at hf
  refine w_iconst dX40_check_0 (v := 0) (by decide) ?_
  refine w_istore_n dX40_check_1 rfl (by decide) (ls' := [some (.ref this), some (.int (0 : Int32)), none]) rfl ?_
  refine w_iconst dX40_check_2 (v := 0) (by decide) ?_
  refine w_istore_n dX40_check_3 rfl (by decide) (ls' := [some (.ref this), some (.int (0 : Int32)), some (.int (0 : Int32))]) rfl ?_
  exact (pX40_check_b4 hd N _ _ _ _ _ hf).to ⟨rfl, rfl, rfl, trivial⟩
abbrev cX38_font : ByteArray := prog_39_method_3_code
def yX38_font : MethodName := ⟨RX38, "font", "(IIIII)V"⟩
def YX38_font : eY := (yX38_font, cX38_font, 6, none, [])
theorem mX38_font : e_mv YX38_font RX38 5 := ⟨q5957, q5958, q5959, by decide, by decide +kernel, (e_sig (by decide +kernel))⟩
theorem dX38_font_0 : decode cX38_font 0 = .ok (.aload_n 0, 1) := dc_42 (by decide +kernel)
theorem dX38_font_1 : decode cX38_font 1 = .ok (.getfield 21, 3) := dc_180 (a := 0) (b := 21) (n := 21) (by decide +kernel)
theorem dX38_font_4 : decode cX38_font 4 = .ok (.iload_n 1, 1) := dc_27 (by decide +kernel)
theorem dX38_font_5 : decode cX38_font 5 = .ok (.iload_n 2, 1) := dc_28 (by decide +kernel)
theorem dX38_font_6 : decode cX38_font 6 = .ok (.iastore, 1) := dc_79 (by decide +kernel)
theorem dX38_font_7 : decode cX38_font 7 = .ok (.aload_n 0, 1) := dc_42 (by decide +kernel)
theorem dX38_font_8 : decode cX38_font 8 = .ok (.getfield 9, 3) := dc_180 (a := 0) (b := 9) (n := 9) (by decide +kernel)
theorem dX38_font_11 : decode cX38_font 11 = .ok (.iload_n 1, 1) := dc_27 (by decide +kernel)
theorem dX38_font_12 : decode cX38_font 12 = .ok (.iload_n 3, 1) := dc_29 (by decide +kernel)
theorem dX38_font_13 : decode cX38_font 13 = .ok (.iastore, 1) := dc_79 (by decide +kernel)
theorem dX38_font_14 : decode cX38_font 14 = .ok (.aload_n 0, 1) := dc_42 (by decide +kernel)
theorem dX38_font_15 : decode cX38_font 15 = .ok (.getfield 15, 3) := dc_180 (a := 0) (b := 15) (n := 15) (by decide +kernel)
theorem dX38_font_18 : decode cX38_font 18 = .ok (.iload_n 1, 1) := dc_27 (by decide +kernel)
theorem dX38_font_19 : decode cX38_font 19 = .ok (.iload 4, 2) := dc_21 (a := 4) (by decide +kernel)
theorem dX38_font_21 : decode cX38_font 21 = .ok (.iastore, 1) := dc_79 (by decide +kernel)
theorem dX38_font_22 : decode cX38_font 22 = .ok (.aload_n 0, 1) := dc_42 (by decide +kernel)
theorem dX38_font_23 : decode cX38_font 23 = .ok (.getfield 18, 3) := dc_180 (a := 0) (b := 18) (n := 18) (by decide +kernel)
theorem dX38_font_26 : decode cX38_font 26 = .ok (.iload_n 1, 1) := dc_27 (by decide +kernel)
theorem dX38_font_27 : decode cX38_font 27 = .ok (.iload 5, 2) := dc_21 (a := 5) (by decide +kernel)
theorem dX38_font_29 : decode cX38_font 29 = .ok (.iastore, 1) := dc_79 (by decide +kernel)
theorem dX38_font_30 : decode cX38_font 30 = .ok (.return_, 1) := dc_177 (by decide +kernel)
def fX38_font (this : Nat) (p0 : Int32) (p1 : Int32) (p2 : Int32) (p3 : Int32) (p4 : Int32) (h : eH) : Option (Unit × eH) :=
  (g_A 37 h this 3).bind fun a1 =>
  (q_V 100 h a1 p0 (.int p1)).bind fun h3 =>
  (g_A 37 h3 this 0).bind fun a5 =>
  (q_V 100 h3 a5 p0 (.int p2)).bind fun h7 =>
  (g_A 37 h7 this 1).bind fun a9 =>
  (q_V 100 h7 a9 p0 (.int p3)).bind fun h11 =>
  (g_A 37 h11 this 2).bind fun a13 =>
  (q_V 100 h11 a13 p0 (.int p4)).bind fun h15 =>
  some ((), h15)
theorem pX38_font {w : eW} {d : Nat} (hd : 0 ≤ d) {this : Nat} {p0 : Int32} {p1 : Int32} {p2 : Int32} {p3 : Int32} {p4 : Int32} {h : eH} {q} (hf : fX38_font this p0 p1 p2 p3 p4 h = some q) : wm w d YX38_font [.ref this, .int p0, .int p1, .int p2, .int p3, .int p4] h (e_is (e_rn c_V q)) := by
  show wp w d YX38_font 0 [some (.ref this), some (.int p0), some (.int p1), some (.int p2), some (.int p3), some (.int p4)] [] h _
  unfold fX38_font at hf
  refine w_aload_n dX38_font_0 rfl rfl ?_
  obtain ⟨a1, b2, hf⟩ := Option.bind_eq_some_iff.mp hf
  refine GX38_21 b2 dX38_font_1 rfl ?_
  refine w_iload_n dX38_font_4 rfl rfl ?_
  refine w_iload_n dX38_font_5 rfl rfl ?_
  obtain ⟨h3, b4, hf⟩ := Option.bind_eq_some_iff.mp hf
  refine x_qI b4 dX38_font_6 ?_
  refine w_aload_n dX38_font_7 rfl rfl ?_
  obtain ⟨a5, b6, hf⟩ := Option.bind_eq_some_iff.mp hf
  refine GX38_9 b6 dX38_font_8 rfl ?_
  refine w_iload_n dX38_font_11 rfl rfl ?_
  refine w_iload_n dX38_font_12 rfl rfl ?_
  obtain ⟨h7, b8, hf⟩ := Option.bind_eq_some_iff.mp hf
  refine x_qI b8 dX38_font_13 ?_
  refine w_aload_n dX38_font_14 rfl rfl ?_
  obtain ⟨a9, b10, hf⟩ := Option.bind_eq_some_iff.mp hf
  refine GX38_15 b10 dX38_font_15 rfl ?_
  refine w_iload_n dX38_font_18 rfl rfl ?_
  refine w_iload dX38_font_19 rfl ?_
  obtain ⟨h11, b12, hf⟩ := Option.bind_eq_some_iff.mp hf
  refine x_qI b12 dX38_font_21 ?_
  refine w_aload_n dX38_font_22 rfl rfl ?_
  obtain ⟨a13, b14, hf⟩ := Option.bind_eq_some_iff.mp hf
  refine GX38_18 b14 dX38_font_23 rfl ?_
  refine w_iload_n dX38_font_26 rfl rfl ?_
  refine w_iload dX38_font_27 rfl ?_
  obtain ⟨h15, b16, hf⟩ := Option.bind_eq_some_iff.mp hf
  refine x_qI b16 dX38_font_29 ?_
  cases hf
  exact w_vret dX38_font_30 rfl rfl
abbrev cX35_font : ByteArray := prog_37_method_189_code
def yX35_font : MethodName := ⟨RX35, "font", "(Z)V"⟩
def YX35_font : eY := (yX35_font, cX35_font, 6, none, [])
theorem mX35_font : e_mv YX35_font RX35 1 := ⟨q5944, qs404, q5945, by decide, by decide +kernel, (e_sig (by decide +kernel))⟩
theorem dX35_font_0 : decode cX35_font 0 = .ok (.aload_n 0, 1) := dc_42 (by decide +kernel)
theorem dX35_font_1 : decode cX35_font 1 = .ok (.invokevirtual 784, 3) := dc_182 (a := 3) (b := 16) (n := 784) (by decide +kernel)
theorem dX35_font_4 : decode cX35_font 4 = .ok (.istore_n 2, 1) := dc_61 (by decide +kernel)
theorem dX35_font_5 : decode cX35_font 5 = .ok (.aload_n 0, 1) := dc_42 (by decide +kernel)
theorem dX35_font_6 : decode cX35_font 6 = .ok (.invokevirtual 1233, 3) := dc_182 (a := 4) (b := 209) (n := 1233) (by decide +kernel)
theorem dX35_font_9 : decode cX35_font 9 = .ok (.aload_n 0, 1) := dc_42 (by decide +kernel)
theorem dX35_font_10 : decode cX35_font 10 = .ok (.bipush 15, 2) := dc_16 (a := 15) (v := 15) (by decide +kernel)
theorem dX35_font_12 : decode cX35_font 12 = .ok (.invokevirtual 590, 3) := dc_182 (a := 2) (b := 78) (n := 590) (by decide +kernel)
theorem dX35_font_15 : decode cX35_font 15 = .ok (.istore_n 3, 1) := dc_62 (by decide +kernel)
theorem dX35_font_16 : decode cX35_font 16 = .ok (.aload_n 0, 1) := dc_42 (by decide +kernel)
theorem dX35_font_17 : decode cX35_font 17 = .ok (.getfield 321, 3) := dc_180 (a := 1) (b := 65) (n := 321) (by decide +kernel)
theorem dX35_font_20 : decode cX35_font 20 = .ok (.ifCond .ne 18, 3) := dc_154 (a := 0) (b := 18) (v := 18) (by decide +kernel)
theorem dX35_font_23 : decode cX35_font 23 = .ok (.aload_n 0, 1) := dc_42 (by decide +kernel)
theorem dX35_font_24 : decode cX35_font 24 = .ok (.getfield 21, 3) := dc_180 (a := 0) (b := 21) (n := 21) (by decide +kernel)
theorem dX35_font_27 : decode cX35_font 27 = .ok (.iload_n 3, 1) := dc_29 (by decide +kernel)
theorem dX35_font_28 : decode cX35_font 28 = .ok (.aaload, 1) := dc_50 (by decide +kernel)
theorem dX35_font_29 : decode cX35_font 29 = .ok (.ifnonnull 9, 3) := dc_199 (a := 0) (b := 9) (v := 9) (by decide +kernel)
theorem dX35_font_32 : decode cX35_font 32 = .ok (.aload_n 0, 1) := dc_42 (by decide +kernel)
theorem dX35_font_33 : decode cX35_font 33 = .ok (.bipush 14, 2) := dc_16 (a := 14) (v := 14) (by decide +kernel)
theorem dX35_font_35 : decode cX35_font 35 = .ok (.invokevirtual 428, 3) := dc_182 (a := 1) (b := 172) (n := 428) (by decide +kernel)
theorem dX35_font_38 : decode cX35_font 38 = .ok (.iconst 0, 1) := dc_3 (by decide +kernel)
theorem dX35_font_39 : decode cX35_font 39 = .ok (.istore 4, 2) := dc_54 (a := 4) (by decide +kernel)
theorem dX35_font_41 : decode cX35_font 41 = .ok (.aload_n 0, 1) := dc_42 (by decide +kernel)
theorem dX35_font_42 : decode cX35_font 42 = .ok (.getfield 321, 3) := dc_180 (a := 1) (b := 65) (n := 321) (by decide +kernel)
theorem dX35_font_45 : decode cX35_font 45 = .ok (.ifCond .ne 49, 3) := dc_154 (a := 0) (b := 49) (v := 49) (by decide +kernel)
theorem dX35_font_48 : decode cX35_font 48 = .ok (.aload_n 0, 1) := dc_42 (by decide +kernel)
theorem dX35_font_49 : decode cX35_font 49 = .ok (.ldc_w 1247, 3) := dc_19 (a := 4) (b := 223) (n := 1247) (by decide +kernel)
theorem dX35_font_52 : decode cX35_font 52 = .ok (.invokevirtual 707, 3) := dc_182 (a := 2) (b := 195) (n := 707) (by decide +kernel)
theorem dX35_font_55 : decode cX35_font 55 = .ok (.ifCond .eq 39, 3) := dc_153 (a := 0) (b := 39) (v := 39) (by decide +kernel)
theorem dX35_font_58 : decode cX35_font 58 = .ok (.aload_n 0, 1) := dc_42 (by decide +kernel)
theorem dX35_font_59 : decode cX35_font 59 = .ok (.invokevirtual 614, 3) := dc_182 (a := 2) (b := 102) (n := 614) (by decide +kernel)
theorem dX35_font_62 : decode cX35_font 62 = .ok (.istore 4, 2) := dc_54 (a := 4) (by decide +kernel)
theorem dX35_font_64 : decode cX35_font 64 = .ok (.aload_n 0, 1) := dc_42 (by decide +kernel)
theorem dX35_font_65 : decode cX35_font 65 = .ok (.getfield 321, 3) := dc_180 (a := 1) (b := 65) (n := 321) (by decide +kernel)
theorem dX35_font_68 : decode cX35_font 68 = .ok (.ifCond .ne 44, 3) := dc_154 (a := 0) (b := 44) (v := 44) (by decide +kernel)
theorem dX35_font_71 : decode cX35_font 71 = .ok (.iload 4, 2) := dc_21 (a := 4) (by decide +kernel)
theorem dX35_font_73 : decode cX35_font 73 = .ok (.iconst 1, 1) := dc_4 (by decide +kernel)
theorem dX35_font_74 : decode cX35_font 74 = .ok (.if_icmp .lt 11, 3) := dc_161 (a := 0) (b := 11) (v := 11) (by decide +kernel)
theorem dX35_font_77 : decode cX35_font 77 = .ok (.iload 4, 2) := dc_21 (a := 4) (by decide +kernel)
theorem dX35_font_79 : decode cX35_font 79 = .ok (.ldc_w 1248, 3) := dc_19 (a := 4) (b := 224) (n := 1248) (by decide +kernel)
theorem dX35_font_82 : decode cX35_font 82 = .ok (.if_icmp .le 30, 3) := dc_164 (a := 0) (b := 30) (v := 30) (by decide +kernel)
theorem dX35_font_85 : decode cX35_font 85 = .ok (.aload_n 0, 1) := dc_42 (by decide +kernel)
theorem dX35_font_86 : decode cX35_font 86 = .ok (.bipush 7, 2) := dc_16 (a := 7) (v := 7) (by decide +kernel)
theorem dX35_font_88 : decode cX35_font 88 = .ok (.invokevirtual 428, 3) := dc_182 (a := 1) (b := 172) (n := 428) (by decide +kernel)
theorem dX35_font_91 : decode cX35_font 91 = .ok (.goto 21, 3) := dc_167 (a := 0) (b := 21) (v := 21) (by decide +kernel)
theorem dX35_font_94 : decode cX35_font 94 = .ok (.aload_n 0, 1) := dc_42 (by decide +kernel)
theorem dX35_font_95 : decode cX35_font 95 = .ok (.getfield 321, 3) := dc_180 (a := 1) (b := 65) (n := 321) (by decide +kernel)
theorem dX35_font_98 : decode cX35_font 98 = .ok (.ifCond .ne 14, 3) := dc_154 (a := 0) (b := 14) (v := 14) (by decide +kernel)
theorem dX35_font_101 : decode cX35_font 101 = .ok (.aload_n 0, 1) := dc_42 (by decide +kernel)
theorem dX35_font_102 : decode cX35_font 102 = .ok (.getfield 21, 3) := dc_180 (a := 0) (b := 21) (n := 21) (by decide +kernel)
theorem dX35_font_105 : decode cX35_font 105 = .ok (.iload_n 3, 1) := dc_29 (by decide +kernel)
theorem dX35_font_106 : decode cX35_font 106 = .ok (.aaload, 1) := dc_50 (by decide +kernel)
theorem dX35_font_107 : decode cX35_font 107 = .ok (.invokevirtual 1249, 3) := dc_182 (a := 4) (b := 225) (n := 1249) (by decide +kernel)
theorem dX35_font_110 : decode cX35_font 110 = .ok (.istore 4, 2) := dc_54 (a := 4) (by decide +kernel)
theorem dX35_font_112 : decode cX35_font 112 = .ok (.aload_n 0, 1) := dc_42 (by decide +kernel)
theorem dX35_font_113 : decode cX35_font 113 = .ok (.getfield 321, 3) := dc_180 (a := 1) (b := 65) (n := 321) (by decide +kernel)
theorem dX35_font_116 : decode cX35_font 116 = .ok (.ifCond .le 4, 3) := dc_158 (a := 0) (b := 4) (v := 4) (by decide +kernel)
theorem dX35_font_119 : decode cX35_font 119 = .ok (.return_, 1) := dc_177 (by decide +kernel)
theorem dX35_font_120 : decode cX35_font 120 = .ok (.iconst 0, 1) := dc_3 (by decide +kernel)
theorem dX35_font_121 : decode cX35_font 121 = .ok (.istore 5, 2) := dc_54 (a := 5) (by decide +kernel)
theorem dX35_font_123 : decode cX35_font 123 = .ok (.iload 5, 2) := dc_21 (a := 5) (by decide +kernel)
theorem dX35_font_125 : decode cX35_font 125 = .ok (.aload_n 0, 1) := dc_42 (by decide +kernel)
theorem dX35_font_126 : decode cX35_font 126 = .ok (.getfield 363, 3) := dc_180 (a := 1) (b := 107) (n := 363) (by decide +kernel)
theorem dX35_font_129 : decode cX35_font 129 = .ok (.if_icmp .ge 32, 3) := dc_162 (a := 0) (b := 32) (v := 32) (by decide +kernel)
theorem dX35_font_132 : decode cX35_font 132 = .ok (.aload_n 0, 1) := dc_42 (by decide +kernel)
theorem dX35_font_133 : decode cX35_font 133 = .ok (.getfield 121, 3) := dc_180 (a := 0) (b := 121) (n := 121) (by decide +kernel)
theorem dX35_font_136 : decode cX35_font 136 = .ok (.iload 5, 2) := dc_21 (a := 5) (by decide +kernel)
theorem dX35_font_138 : decode cX35_font 138 = .ok (.iaload, 1) := dc_46 (by decide +kernel)
theorem dX35_font_139 : decode cX35_font 139 = .ok (.iload_n 3, 1) := dc_29 (by decide +kernel)
theorem dX35_font_140 : decode cX35_font 140 = .ok (.if_icmp .ne 15, 3) := dc_160 (a := 0) (b := 15) (v := 15) (by decide +kernel)
theorem dX35_font_143 : decode cX35_font 143 = .ok (.aload_n 0, 1) := dc_42 (by decide +kernel)
theorem dX35_font_144 : decode cX35_font 144 = .ok (.getfield 124, 3) := dc_180 (a := 0) (b := 124) (n := 124) (by decide +kernel)
theorem dX35_font_147 : decode cX35_font 147 = .ok (.iload 5, 2) := dc_21 (a := 5) (by decide +kernel)
theorem dX35_font_149 : decode cX35_font 149 = .ok (.iaload, 1) := dc_46 (by decide +kernel)
theorem dX35_font_150 : decode cX35_font 150 = .ok (.iload 4, 2) := dc_21 (a := 4) (by decide +kernel)
theorem dX35_font_152 : decode cX35_font 152 = .ok (.if_icmp .eq 9, 3) := dc_159 (a := 0) (b := 9) (v := 9) (by decide +kernel)
theorem dX35_font_155 : decode cX35_font 155 = .ok (.iinc 5 1, 3) := dc_132 (a := 5) (b := 1) (v := 1) (by decide +kernel)
theorem dX35_font_158 : decode cX35_font 158 = .ok (.goto (-35), 3) := dc_167 (a := 255) (b := 221) (v := -35) (by decide +kernel)
theorem dX35_font_161 : decode cX35_font 161 = .ok (.iload 5, 2) := dc_21 (a := 5) (by decide +kernel)
theorem dX35_font_163 : decode cX35_font 163 = .ok (.bipush 100, 2) := dc_16 (a := 100) (v := 100) (by decide +kernel)
theorem dX35_font_165 : decode cX35_font 165 = .ok (.if_icmp .ne 9, 3) := dc_160 (a := 0) (b := 9) (v := 9) (by decide +kernel)
theorem dX35_font_168 : decode cX35_font 168 = .ok (.aload_n 0, 1) := dc_42 (by decide +kernel)
theorem dX35_font_169 : decode cX35_font 169 = .ok (.iconst 2, 1) := dc_5 (by decide +kernel)
theorem dX35_font_170 : decode cX35_font 170 = .ok (.invokevirtual 428, 3) := dc_182 (a := 1) (b := 172) (n := 428) (by decide +kernel)
theorem dX35_font_173 : decode cX35_font 173 = .ok (.return_, 1) := dc_177 (by decide +kernel)
theorem dX35_font_174 : decode cX35_font 174 = .ok (.iload 5, 2) := dc_21 (a := 5) (by decide +kernel)
theorem dX35_font_176 : decode cX35_font 176 = .ok (.aload_n 0, 1) := dc_42 (by decide +kernel)
theorem dX35_font_177 : decode cX35_font 177 = .ok (.getfield 363, 3) := dc_180 (a := 1) (b := 107) (n := 363) (by decide +kernel)
theorem dX35_font_180 : decode cX35_font 180 = .ok (.if_icmp .ne 60, 3) := dc_160 (a := 0) (b := 60) (v := 60) (by decide +kernel)
theorem dX35_font_183 : decode cX35_font 183 = .ok (.aload_n 0, 1) := dc_42 (by decide +kernel)
theorem dX35_font_184 : decode cX35_font 184 = .ok (.getfield 121, 3) := dc_180 (a := 0) (b := 121) (n := 121) (by decide +kernel)
theorem dX35_font_187 : decode cX35_font 187 = .ok (.iload 5, 2) := dc_21 (a := 5) (by decide +kernel)
theorem dX35_font_189 : decode cX35_font 189 = .ok (.iload_n 3, 1) := dc_29 (by decide +kernel)
theorem dX35_font_190 : decode cX35_font 190 = .ok (.iastore, 1) := dc_79 (by decide +kernel)
theorem dX35_font_191 : decode cX35_font 191 = .ok (.aload_n 0, 1) := dc_42 (by decide +kernel)
theorem dX35_font_192 : decode cX35_font 192 = .ok (.getfield 124, 3) := dc_180 (a := 0) (b := 124) (n := 124) (by decide +kernel)
theorem dX35_font_195 : decode cX35_font 195 = .ok (.iload 5, 2) := dc_21 (a := 5) (by decide +kernel)
theorem dX35_font_197 : decode cX35_font 197 = .ok (.iload 4, 2) := dc_21 (a := 4) (by decide +kernel)
theorem dX35_font_199 : decode cX35_font 199 = .ok (.iastore, 1) := dc_79 (by decide +kernel)
theorem dX35_font_200 : decode cX35_font 200 = .ok (.aload_n 0, 1) := dc_42 (by decide +kernel)
theorem dX35_font_201 : decode cX35_font 201 = .ok (.getfield 42, 3) := dc_180 (a := 0) (b := 42) (n := 42) (by decide +kernel)
theorem dX35_font_204 : decode cX35_font 204 = .ok (.iload 5, 2) := dc_21 (a := 5) (by decide +kernel)
theorem dX35_font_206 : decode cX35_font 206 = .ok (.iload_n 3, 1) := dc_29 (by decide +kernel)
theorem dX35_font_207 : decode cX35_font 207 = .ok (.aload_n 0, 1) := dc_42 (by decide +kernel)
theorem dX35_font_208 : decode cX35_font 208 = .ok (.getfield 21, 3) := dc_180 (a := 0) (b := 21) (n := 21) (by decide +kernel)
theorem dX35_font_211 : decode cX35_font 211 = .ok (.iload_n 3, 1) := dc_29 (by decide +kernel)
theorem dX35_font_212 : decode cX35_font 212 = .ok (.aaload, 1) := dc_50 (by decide +kernel)
theorem dX35_font_213 : decode cX35_font 213 = .ok (.invokevirtual 1252, 3) := dc_182 (a := 4) (b := 228) (n := 1252) (by decide +kernel)
theorem dX35_font_216 : decode cX35_font 216 = .ok (.iload 4, 2) := dc_21 (a := 4) (by decide +kernel)
theorem dX35_font_218 : decode cX35_font 218 = .ok (.aload_n 0, 1) := dc_42 (by decide +kernel)
theorem dX35_font_219 : decode cX35_font 219 = .ok (.getfield 21, 3) := dc_180 (a := 0) (b := 21) (n := 21) (by decide +kernel)
theorem dX35_font_222 : decode cX35_font 222 = .ok (.iload_n 3, 1) := dc_29 (by decide +kernel)
theorem dX35_font_223 : decode cX35_font 223 = .ok (.aaload, 1) := dc_50 (by decide +kernel)
theorem dX35_font_224 : decode cX35_font 224 = .ok (.invokevirtual 1249, 3) := dc_182 (a := 4) (b := 225) (n := 1249) (by decide +kernel)
theorem dX35_font_227 : decode cX35_font 227 = .ok (.invokevirtual 1255, 3) := dc_182 (a := 4) (b := 231) (n := 1255) (by decide +kernel)
theorem dX35_font_230 : decode cX35_font 230 = .ok (.aload_n 0, 1) := dc_42 (by decide +kernel)
theorem dX35_font_231 : decode cX35_font 231 = .ok (.dup, 1) := dc_89 (by decide +kernel)
theorem dX35_font_232 : decode cX35_font 232 = .ok (.getfield 363, 3) := dc_180 (a := 1) (b := 107) (n := 363) (by decide +kernel)
theorem dX35_font_235 : decode cX35_font 235 = .ok (.iconst 1, 1) := dc_4 (by decide +kernel)
theorem dX35_font_236 : decode cX35_font 236 = .ok (.iadd, 1) := dc_96 (by decide +kernel)
theorem dX35_font_237 : decode cX35_font 237 = .ok (.putfield 363, 3) := dc_181 (a := 1) (b := 107) (n := 363) (by decide +kernel)
theorem dX35_font_240 : decode cX35_font 240 = .ok (.aload_n 0, 1) := dc_42 (by decide +kernel)
theorem dX35_font_241 : decode cX35_font 241 = .ok (.iload_n 2, 1) := dc_28 (by decide +kernel)
theorem dX35_font_242 : decode cX35_font 242 = .ok (.ldc_w 633, 3) := dc_19 (a := 2) (b := 121) (n := 633) (by decide +kernel)
theorem dX35_font_245 : decode cX35_font 245 = .ok (.iload 5, 2) := dc_21 (a := 5) (by decide +kernel)
theorem dX35_font_247 : decode cX35_font 247 = .ok (.iadd, 1) := dc_96 (by decide +kernel)
theorem dX35_font_248 : decode cX35_font 248 = .ok (.iload_n 1, 1) := dc_27 (by decide +kernel)
theorem dX35_font_249 : decode cX35_font 249 = .ok (.invokevirtual 557, 3) := dc_182 (a := 2) (b := 45) (n := 557) (by decide +kernel)
theorem dX35_font_252 : decode cX35_font 252 = .ok (.return_, 1) := dc_177 (by decide +kernel)
theorem GX35_363 {w : eW} {d : Nat} {Y : eY} {pc : Nat} {ls : eL} {st : List Value} {h : eH} {Q : eO → eH → Prop} {a : Nat} {x : Int32} (hf : g_I 34 h a 48 = some x) (hd : decode Y.2.1 pc = .ok (.getfield 363, 3)) (hY : Y.1.cls = RX35) (kk : wp w d Y (pc + 3) ls (.int x :: st) h Q) : wp w d Y pc ls (.ref a :: st) h Q := x_gI (ci := 34) (k := 48) hf hd rfl (by decide) (by rw [hY]; exact q4550) kk
def fX35_font_b155 (N : Nat) (sE : Nat → Int32 → eH → Option (Unit × eH)) (sN : Nat → eH → Option (Int32 × eH)) (k123 : Nat → Int32 → Int32 → Int32 → Int32 → Int32 → eH → Option (Unit × eH)) (l0 : Nat) (l1 : Int32) (l2 : Int32) (l3 : Int32) (l4 : Int32) (l5 : Int32) (h : eH) : Option (Unit × eH) :=
  k123 l0 l1 l2 l3 l4 (l5 + (1 : Int32)) h
theorem pX35_font_b155 {w : eW} {d : Nat} {dr : Nat} (hd : dr + 11 ≤ d + 1) (hdr : 12 ≤ dr) {N : Nat} {sE : Nat → Int32 → eH → Option (Unit × eH)} {sN : Nat → eH → Option (Int32 × eH)} (hsE : ∀ a t0 h q, sE a t0 h = some q → wm w dr YX35_expand [.ref a, .int t0] h (e_is (e_rn c_V q))) (hsN : ∀ a h q, sN a h = some q → wm w dr YX35_number [.ref a] h (e_is (e_rn c_I q))) {k123 : Nat → Int32 → Int32 → Int32 → Int32 → Int32 → eH → Option (Unit × eH)} (hk123 : ∀ l0 l1 l2 l3 l4 l5 h q, k123 l0 l1 l2 l3 l4 l5 h = some q → wp w (d + 1) YX35_font 123 [some (.ref l0), some (.int l1), some (.int l2), some (.int l3), some (.int l4), some (.int l5)] [] h (e_is (e_rn c_V q))) {l0 : Nat} {l1 : Int32} {l2 : Int32} {l3 : Int32} {l4 : Int32} {l5 : Int32} {h : eH} {q} (hf : fX35_font_b155 N sE sN k123 l0 l1 l2 l3 l4 l5 h = some q) : wp w (d + 1) YX35_font 155 [some (.ref l0), some (.int l1), some (.int l2), some (.int l3), some (.int l4), some (.int l5)] [] h (e_is (e_rn c_V q)) := by
  unfold fX35_font_b155 at hf
  refine w_iinc dX35_font_155 (v := (l5 + (1 : Int32))) rfl rfl (by decide) (ls' := [some (.ref l0), some (.int l1), some (.int l2), some (.int l3), some (.int l4), some (.int (l5 + (1 : Int32)))]) rfl ?_
  refine w_goto 123 dX35_font_158 (by decide) ?_
  exact (hk123 _ _ _ _ _ _ _ _ hf).to ⟨rfl, rfl, rfl, rfl, rfl, rfl, trivial⟩
def fX35_font_b240 (N : Nat) (sE : Nat → Int32 → eH → Option (Unit × eH)) (sN : Nat → eH → Option (Int32 × eH)) (l0 : Nat) (l1 : Int32) (l2 : Int32) (l5 : Int32) (h : eH) : Option (Unit × eH) :=
  (k_ok 34 h l0).bind fun _ =>
  (fX35_mean N l0 l2 ((4000000 : Int32) + l5) l1 h).bind fun q2 =>
  some ((), q2.2)
theorem pX35_font_b240 {w : eW} {d : Nat} {dr : Nat} (hd : dr + 11 ≤ d + 1) (hdr : 12 ≤ dr) {N : Nat} {sE : Nat → Int32 → eH → Option (Unit × eH)} {sN : Nat → eH → Option (Int32 × eH)} (hsE : ∀ a t0 h q, sE a t0 h = some q → wm w dr YX35_expand [.ref a, .int t0] h (e_is (e_rn c_V q))) (hsN : ∀ a h q, sN a h = some q → wm w dr YX35_number [.ref a] h (e_is (e_rn c_I q))) {l0 : Nat} {l1 : Int32} {l2 : Int32} {l5 : Int32} {h : eH} {q} (hf : fX35_font_b240 N sE sN l0 l1 l2 l5 h = some q) : wp w (d + 1) YX35_font 240 [some (.ref l0), some (.int l1), some (.int l2), none, none, some (.int l5)] [] h (e_is (e_rn c_V q)) := by
  unfold fX35_font_b240 at hf
  refine w_aload_n dX35_font_240 rfl rfl ?_
  refine w_iload_n dX35_font_241 rfl rfl ?_
  refine w_ldc_w dX35_font_242 q5266 ?_
  refine w_iload dX35_font_245 rfl ?_
  refine w_iadd dX35_font_247 ?_
  refine w_iload_n dX35_font_248 rfl rfl ?_
  obtain ⟨_, b1, hf⟩ := Option.bind_eq_some_iff.mp hf
  refine x_cnV hf (e_stV (Yc := YX35_mean) (ci := 34) (av := [.int l2, .int ((4000000 : Int32) + l5), .int l1]) (st := []) dX35_font_249 q5201 mX35_mean rfl (k_ok_some b1).1 (k_ok_some b1).2) mX35_mean.2.2.1 mX35_mean.2.2.2.2.1 (Nat.le_of_ble_eq_true rfl) (Nat.le_of_ble_eq_true rfl) (fun q hq => pX35_mean (by omega) hq) (fun q2 hf => ?_)
  cases hf
  exact w_vret dX35_font_252 rfl rfl
def fX35_font_b161 (N : Nat) (sE : Nat → Int32 → eH → Option (Unit × eH)) (sN : Nat → eH → Option (Int32 × eH)) (l0 : Nat) (l1 : Int32) (l2 : Int32) (l3 : Int32) (l4 : Int32) (l5 : Int32) (h : eH) : Option (Unit × eH) :=
  if ¬ l5 = (100 : Int32) then
    (g_I 34 h l0 48).bind fun x2 =>
    if ¬ l5 = x2 then
      fX35_font_b240 N sE sN l0 l1 l2 l5 h
    else
      (g_A 34 h l0 49).bind fun a5 =>
      (q_V 100 h a5 l5 (.int l3)).bind fun h7 =>
      (g_A 34 h7 l0 50).bind fun a9 =>
      (q_V 100 h7 a9 l5 (.int l4)).bind fun h11 =>
      (g_A 34 h11 l0 7).bind fun a13 =>
      (g_A 34 h11 l0 4).bind fun a15 =>
      (r_A 107 h11 a15 l3).bind fun a17 =>
      (k_ok 42 h11 a17).bind fun _ =>
      (fX40_check N a17 h11).bind fun q20 =>
      (g_A 34 q20.2 l0 4).bind fun a21 =>
      (r_A 107 q20.2 a21 l3).bind fun a23 =>
      (k_ok 42 q20.2 a23).bind fun _ =>
      (fX40_design N a23 q20.2).bind fun q26 =>
      (k_ok 37 q26.2 a13).bind fun _ =>
      (fX38_font a13 l5 l3 q20.1 l4 q26.1 q26.2).bind fun q28 =>
      (g_I 34 q28.2 l0 48).bind fun x29 =>
      (p_V 34 q28.2 l0 48 (.int (x29 + (1 : Int32)))).bind fun h31 =>
      fX35_font_b240 N sE sN l0 l1 l2 l5 h31
  else
    (k_ok 34 h l0).bind fun _ =>
    (fX35_fail l0 (2 : Int32) h).bind fun q34 =>
    some ((), q34.2)
theorem pX35_font_b161 {w : eW} {d : Nat} {dr : Nat} (hd : dr + 11 ≤ d + 1) (hdr : 12 ≤ dr) {N : Nat} {sE : Nat → Int32 → eH → Option (Unit × eH)} {sN : Nat → eH → Option (Int32 × eH)} (hsE : ∀ a t0 h q, sE a t0 h = some q → wm w dr YX35_expand [.ref a, .int t0] h (e_is (e_rn c_V q))) (hsN : ∀ a h q, sN a h = some q → wm w dr YX35_number [.ref a] h (e_is (e_rn c_I q))) {l0 : Nat} {l1 : Int32} {l2 : Int32} {l3 : Int32} {l4 : Int32} {l5 : Int32} {h : eH} {q} (hf : fX35_font_b161 N sE sN l0 l1 l2 l3 l4 l5 h = some q) : wp w (d + 1) YX35_font 161 [some (.ref l0), some (.int l1), some (.int l2), some (.int l3), some (.int l4), some (.int l5)] [] h (e_is (e_rn c_V q)) := by
  unfold fX35_font_b161 at hf
  refine w_iload dX35_font_161 rfl ?_
  refine w_bipush dX35_font_163 (v := 100) (by decide) ?_
  refine w_icmp_ne 174 dX35_font_165 (by decide) (fun c1 => ?_) (fun c1 => ?_)
  · replace hf := (if_pos (show ¬ l5 = (100 : Int32) from c1)).symm.trans hf
    refine w_iload dX35_font_174 rfl ?_
    refine w_aload_n dX35_font_176 rfl rfl ?_
    obtain ⟨x2, b3, hf⟩ := Option.bind_eq_some_iff.mp hf
    refine GX35_363 b3 dX35_font_177 rfl ?_
    refine w_icmp_ne 240 dX35_font_180 (by decide) (fun c4 => ?_) (fun c4 => ?_)
    · replace hf := (if_pos (show ¬ l5 = x2 from c4)).symm.trans hf
      exact (pX35_font_b240 hd hdr hsE hsN hf).to ⟨rfl, rfl, rfl, rfl, trivial⟩
    · replace hf := (if_neg (show ¬ (¬ l5 = x2) from (fun z => z c4))).symm.trans hf
      refine w_aload_n dX35_font_183 rfl rfl ?_
      obtain ⟨a5, b6, hf⟩ := Option.bind_eq_some_iff.mp hf
      refine GX35_121 b6 dX35_font_184 rfl ?_
      refine w_iload dX35_font_187 rfl ?_
      refine w_iload_n dX35_font_189 rfl rfl ?_
      obtain ⟨h7, b8, hf⟩ := Option.bind_eq_some_iff.mp hf
      refine x_qI b8 dX35_font_190 ?_
      refine w_aload_n dX35_font_191 rfl rfl ?_
      obtain ⟨a9, b10, hf⟩ := Option.bind_eq_some_iff.mp hf
      refine GX35_124 b10 dX35_font_192 rfl ?_
      refine w_iload dX35_font_195 rfl ?_
      refine w_iload dX35_font_197 rfl ?_
      obtain ⟨h11, b12, hf⟩ := Option.bind_eq_some_iff.mp hf
      refine x_qI b12 dX35_font_199 ?_
      refine w_aload_n dX35_font_200 rfl rfl ?_
      obtain ⟨a13, b14, hf⟩ := Option.bind_eq_some_iff.mp hf
      refine GX35_42 b14 dX35_font_201 rfl ?_
      refine w_iload dX35_font_204 rfl ?_
      refine w_iload_n dX35_font_206 rfl rfl ?_
      refine w_aload_n dX35_font_207 rfl rfl ?_
      obtain ⟨a15, b16, hf⟩ := Option.bind_eq_some_iff.mp hf
      refine GX35_21 b16 dX35_font_208 rfl ?_
      refine w_iload_n dX35_font_211 rfl rfl ?_
      obtain ⟨a17, b18, hf⟩ := Option.bind_eq_some_iff.mp hf
      refine x_rA (c := 107) (by decide) b18 dX35_font_212 ?_
      obtain ⟨_, b19, hf⟩ := Option.bind_eq_some_iff.mp hf
      refine x_cnI hf (e_stV (Yc := YX40_check) (ci := 42) (av := []) (st := [.int l3, .int l5, .ref a13]) dX35_font_213 q5952 mX40_check rfl (k_ok_some b19).1 (k_ok_some b19).2) mX40_check.2.2.1 mX40_check.2.2.2.2.1 (Nat.le_of_ble_eq_true rfl) (Nat.le_of_ble_eq_true rfl) (fun q hq => pX40_check (by omega) hq) (fun q20 hf => ?_)
      refine w_iload dX35_font_216 rfl ?_
      refine w_aload_n dX35_font_218 rfl rfl ?_
      obtain ⟨a21, b22, hf⟩ := Option.bind_eq_some_iff.mp hf
      refine GX35_21 b22 dX35_font_219 rfl ?_
      refine w_iload_n dX35_font_222 rfl rfl ?_
      obtain ⟨a23, b24, hf⟩ := Option.bind_eq_some_iff.mp hf
      refine x_rA (c := 107) (by decide) b24 dX35_font_223 ?_
      obtain ⟨_, b25, hf⟩ := Option.bind_eq_some_iff.mp hf
      refine x_cnI hf (e_stV (Yc := YX40_design) (ci := 42) (av := []) (st := [.int l4, .int q20.1, .int l3, .int l5, .ref a13]) dX35_font_224 q5948 mX40_design rfl (k_ok_some b25).1 (k_ok_some b25).2) mX40_design.2.2.1 mX40_design.2.2.2.2.1 (Nat.le_of_ble_eq_true rfl) (Nat.le_of_ble_eq_true rfl) (fun q hq => pX40_design (by omega) hq) (fun q26 hf => ?_)
      obtain ⟨_, b27, hf⟩ := Option.bind_eq_some_iff.mp hf
      refine x_cnV hf (e_stV (Yc := YX38_font) (ci := 37) (av := [.int l5, .int l3, .int q20.1, .int l4, .int q26.1]) (st := []) dX35_font_227 q5956 mX38_font rfl (k_ok_some b27).1 (k_ok_some b27).2) mX38_font.2.2.1 mX38_font.2.2.2.2.1 (Nat.le_of_ble_eq_true rfl) (Nat.le_of_ble_eq_true rfl) (fun q hq => pX38_font (by omega) hq) (fun q28 hf => ?_)
      refine w_aload_n dX35_font_230 rfl rfl ?_
      refine w_dup dX35_font_231 rfl ?_
      obtain ⟨x29, b30, hf⟩ := Option.bind_eq_some_iff.mp hf
      refine GX35_363 b30 dX35_font_232 rfl ?_
      refine w_iconst dX35_font_235 (v := 1) (by decide) ?_
      refine w_iadd dX35_font_236 ?_
      obtain ⟨h31, b32, hf⟩ := Option.bind_eq_some_iff.mp hf
      refine SX35_363 b32 dX35_font_237 rfl ?_
      exact (pX35_font_b240 hd hdr hsE hsN hf).to ⟨rfl, rfl, rfl, rfl, trivial⟩
  · replace hf := (if_neg (show ¬ (¬ l5 = (100 : Int32)) from (fun z => z c1))).symm.trans hf
    refine w_aload_n dX35_font_168 rfl rfl ?_
    refine w_iconst dX35_font_169 (v := 2) (by decide) ?_
    obtain ⟨_, b33, hf⟩ := Option.bind_eq_some_iff.mp hf
    refine x_cnV hf (e_stV (Yc := YX35_fail) (ci := 34) (av := [.int (2 : Int32)]) (st := []) dX35_font_170 q5109 mX35_fail rfl (k_ok_some b33).1 (k_ok_some b33).2) mX35_fail.2.2.1 mX35_fail.2.2.2.2.1 (Nat.le_of_ble_eq_true rfl) (Nat.le_of_ble_eq_true rfl) (fun q hq => pX35_fail (by omega) hq) (fun q34 hf => ?_)
    cases hf
    exact w_vret dX35_font_173 rfl rfl
def fX35_font_b123 (N : Nat) (sE : Nat → Int32 → eH → Option (Unit × eH)) (sN : Nat → eH → Option (Int32 × eH)) : Nat → Nat → Int32 → Int32 → Int32 → Int32 → Int32 → eH → Option (Unit × eH)
  | 0, _, _, _, _, _, _, _ => none
  | n + 1, l0, l1, l2, l3, l4, l5, h =>
    (g_I 34 h l0 48).bind fun x1 =>
    if x1 ≤ l5 then
      fX35_font_b161 N sE sN l0 l1 l2 l3 l4 l5 h
    else
      (g_A 34 h l0 49).bind fun a4 =>
      (r_I 100 h a4 l5).bind fun x6 =>
      if ¬ x6 = l3 then
        fX35_font_b155 N sE sN (fX35_font_b123 N sE sN n) l0 l1 l2 l3 l4 l5 h
      else
        (g_A 34 h l0 50).bind fun a9 =>
        (r_I 100 h a9 l5).bind fun x11 =>
        if x11 = l4 then
          fX35_font_b161 N sE sN l0 l1 l2 l3 l4 l5 h
        else
          fX35_font_b155 N sE sN (fX35_font_b123 N sE sN n) l0 l1 l2 l3 l4 l5 h
theorem pX35_font_b123 {w : eW} {d : Nat} {dr : Nat} (hd : dr + 11 ≤ d + 1) (hdr : 12 ≤ dr) {N : Nat} {sE : Nat → Int32 → eH → Option (Unit × eH)} {sN : Nat → eH → Option (Int32 × eH)} (hsE : ∀ a t0 h q, sE a t0 h = some q → wm w dr YX35_expand [.ref a, .int t0] h (e_is (e_rn c_V q))) (hsN : ∀ a h q, sN a h = some q → wm w dr YX35_number [.ref a] h (e_is (e_rn c_I q))) : ∀ (n : Nat) l0 l1 l2 l3 l4 l5 h q, fX35_font_b123 N sE sN n l0 l1 l2 l3 l4 l5 h = some q → wp w (d + 1) YX35_font 123 [some (.ref l0), some (.int l1), some (.int l2), some (.int l3), some (.int l4), some (.int l5)] [] h (e_is (e_rn c_V q)) := by
  intro n
  induction n with
  | zero => intro l0 l1 l2 l3 l4 l5 h q hf; simp [fX35_font_b123] at hf
  | succ n ih =>
    intro l0 l1 l2 l3 l4 l5 h q hf
    rw [fX35_font_b123] at hf
    refine w_iload dX35_font_123 rfl ?_
    refine w_aload_n dX35_font_125 rfl rfl ?_
    obtain ⟨x1, b2, hf⟩ := Option.bind_eq_some_iff.mp hf
    refine GX35_363 b2 dX35_font_126 rfl ?_
    refine w_icmp_ge 161 dX35_font_129 (by decide) (fun c3 => ?_) (fun c3 => ?_)
    · replace hf := (if_pos (show x1 ≤ l5 from c3)).symm.trans hf
      exact (pX35_font_b161 hd hdr hsE hsN hf).to ⟨rfl, rfl, rfl, rfl, rfl, rfl, trivial⟩
    · replace hf := (if_neg (show ¬ (x1 ≤ l5) from c3)).symm.trans hf
      refine w_aload_n dX35_font_132 rfl rfl ?_
      obtain ⟨a4, b5, hf⟩ := Option.bind_eq_some_iff.mp hf
      refine GX35_121 b5 dX35_font_133 rfl ?_
      refine w_iload dX35_font_136 rfl ?_
      obtain ⟨x6, b7, hf⟩ := Option.bind_eq_some_iff.mp hf
      refine x_rI b7 dX35_font_138 ?_
      refine w_iload_n dX35_font_139 rfl rfl ?_
      refine w_icmp_ne 155 dX35_font_140 (by decide) (fun c8 => ?_) (fun c8 => ?_)
      · replace hf := (if_pos (show ¬ x6 = l3 from c8)).symm.trans hf
        exact (pX35_font_b155 hd hdr hsE hsN ih hf).to ⟨rfl, rfl, rfl, rfl, rfl, rfl, trivial⟩
      · replace hf := (if_neg (show ¬ (¬ x6 = l3) from (fun z => z c8))).symm.trans hf
        refine w_aload_n dX35_font_143 rfl rfl ?_
        obtain ⟨a9, b10, hf⟩ := Option.bind_eq_some_iff.mp hf
        refine GX35_124 b10 dX35_font_144 rfl ?_
        refine w_iload dX35_font_147 rfl ?_
        obtain ⟨x11, b12, hf⟩ := Option.bind_eq_some_iff.mp hf
        refine x_rI b12 dX35_font_149 ?_
        refine w_iload dX35_font_150 rfl ?_
        refine w_icmp_eq 161 dX35_font_152 (by decide) (fun c13 => ?_) (fun c13 => ?_)
        · replace hf := (if_pos (show x11 = l4 from c13)).symm.trans hf
          exact (pX35_font_b161 hd hdr hsE hsN hf).to ⟨rfl, rfl, rfl, rfl, rfl, rfl, trivial⟩
        · replace hf := (if_neg (show ¬ (x11 = l4) from c13)).symm.trans hf
          exact (pX35_font_b155 hd hdr hsE hsN ih hf).to ⟨rfl, rfl, rfl, rfl, rfl, rfl, trivial⟩
def fX35_font_b112 (N : Nat) (sE : Nat → Int32 → eH → Option (Unit × eH)) (sN : Nat → eH → Option (Int32 × eH)) (l0 : Nat) (l1 : Int32) (l2 : Int32) (l3 : Int32) (l4 : Int32) (h : eH) : Option (Unit × eH) :=
  (g_I 34 h l0 46).bind fun x1 =>
  if x1 ≤ 0 then
    fX35_font_b123 N sE sN N l0 l1 l2 l3 l4 (0 : Int32) h
  else
    some ((), h)
theorem pX35_font_b112 {w : eW} {d : Nat} {dr : Nat} (hd : dr + 11 ≤ d + 1) (hdr : 12 ≤ dr) {N : Nat} {sE : Nat → Int32 → eH → Option (Unit × eH)} {sN : Nat → eH → Option (Int32 × eH)} (hsE : ∀ a t0 h q, sE a t0 h = some q → wm w dr YX35_expand [.ref a, .int t0] h (e_is (e_rn c_V q))) (hsN : ∀ a h q, sN a h = some q → wm w dr YX35_number [.ref a] h (e_is (e_rn c_I q))) {l0 : Nat} {l1 : Int32} {l2 : Int32} {l3 : Int32} {l4 : Int32} {h : eH} {q} (hf : fX35_font_b112 N sE sN l0 l1 l2 l3 l4 h = some q) : wp w (d + 1) YX35_font 112 [some (.ref l0), some (.int l1), some (.int l2), some (.int l3), some (.int l4), none] [] h (e_is (e_rn c_V q)) := by
  unfold fX35_font_b112 at hf
  refine w_aload_n dX35_font_112 rfl rfl ?_
  obtain ⟨x1, b2, hf⟩ := Option.bind_eq_some_iff.mp hf
  refine GX35_321 b2 dX35_font_113 rfl ?_
  refine w_if_le 120 dX35_font_116 (by decide) (fun c3 => ?_) (fun c3 => ?_)
  · replace hf := (if_pos (show x1 ≤ 0 from c3)).symm.trans hf
    refine w_iconst dX35_font_120 (v := 0) (by decide) ?_
    refine w_istore dX35_font_121 (by decide) (ls' := [some (.ref l0), some (.int l1), some (.int l2), some (.int l3), some (.int l4), some (.int (0 : Int32))]) rfl ?_
    exact (pX35_font_b123 hd hdr hsE hsN N _ _ _ _ _ _ _ _ hf).to ⟨rfl, rfl, rfl, rfl, rfl, rfl, trivial⟩
  · replace hf := (if_neg (show ¬ (x1 ≤ 0) from c3)).symm.trans hf
    cases hf
    exact w_vret dX35_font_119 rfl rfl
def fX35_font_b85 (N : Nat) (sE : Nat → Int32 → eH → Option (Unit × eH)) (sN : Nat → eH → Option (Int32 × eH)) (l0 : Nat) (l1 : Int32) (l2 : Int32) (l3 : Int32) (l4 : Int32) (h : eH) : Option (Unit × eH) :=
  (k_ok 34 h l0).bind fun _ =>
  (fX35_fail l0 (7 : Int32) h).bind fun q2 =>
  fX35_font_b112 N sE sN l0 l1 l2 l3 l4 q2.2
theorem pX35_font_b85 {w : eW} {d : Nat} {dr : Nat} (hd : dr + 11 ≤ d + 1) (hdr : 12 ≤ dr) {N : Nat} {sE : Nat → Int32 → eH → Option (Unit × eH)} {sN : Nat → eH → Option (Int32 × eH)} (hsE : ∀ a t0 h q, sE a t0 h = some q → wm w dr YX35_expand [.ref a, .int t0] h (e_is (e_rn c_V q))) (hsN : ∀ a h q, sN a h = some q → wm w dr YX35_number [.ref a] h (e_is (e_rn c_I q))) {l0 : Nat} {l1 : Int32} {l2 : Int32} {l3 : Int32} {l4 : Int32} {h : eH} {q} (hf : fX35_font_b85 N sE sN l0 l1 l2 l3 l4 h = some q) : wp w (d + 1) YX35_font 85 [some (.ref l0), some (.int l1), some (.int l2), some (.int l3), some (.int l4), none] [] h (e_is (e_rn c_V q)) := by
  unfold fX35_font_b85 at hf
  refine w_aload_n dX35_font_85 rfl rfl ?_
  refine w_bipush dX35_font_86 (v := 7) (by decide) ?_
  obtain ⟨_, b1, hf⟩ := Option.bind_eq_some_iff.mp hf
  refine x_cnV hf (e_stV (Yc := YX35_fail) (ci := 34) (av := [.int (7 : Int32)]) (st := []) dX35_font_88 q5109 mX35_fail rfl (k_ok_some b1).1 (k_ok_some b1).2) mX35_fail.2.2.1 mX35_fail.2.2.2.2.1 (Nat.le_of_ble_eq_true rfl) (Nat.le_of_ble_eq_true rfl) (fun q hq => pX35_fail (by omega) hq) (fun q2 hf => ?_)
  refine w_goto 112 dX35_font_91 (by decide) ?_
  exact (pX35_font_b112 hd hdr hsE hsN hf).to ⟨rfl, rfl, rfl, rfl, rfl, trivial⟩
def fX35_font_b94 (N : Nat) (sE : Nat → Int32 → eH → Option (Unit × eH)) (sN : Nat → eH → Option (Int32 × eH)) (l0 : Nat) (l1 : Int32) (l2 : Int32) (l3 : Int32) (l4 : Int32) (h : eH) : Option (Unit × eH) :=
  (g_I 34 h l0 46).bind fun x1 =>
  if ¬ x1 = 0 then
    fX35_font_b112 N sE sN l0 l1 l2 l3 l4 h
  else
    (g_A 34 h l0 4).bind fun a4 =>
    (r_A 107 h a4 l3).bind fun a6 =>
    (k_ok 42 h a6).bind fun _ =>
    (fX40_design N a6 h).bind fun q9 =>
    fX35_font_b112 N sE sN l0 l1 l2 l3 q9.1 q9.2
theorem pX35_font_b94 {w : eW} {d : Nat} {dr : Nat} (hd : dr + 11 ≤ d + 1) (hdr : 12 ≤ dr) {N : Nat} {sE : Nat → Int32 → eH → Option (Unit × eH)} {sN : Nat → eH → Option (Int32 × eH)} (hsE : ∀ a t0 h q, sE a t0 h = some q → wm w dr YX35_expand [.ref a, .int t0] h (e_is (e_rn c_V q))) (hsN : ∀ a h q, sN a h = some q → wm w dr YX35_number [.ref a] h (e_is (e_rn c_I q))) {l0 : Nat} {l1 : Int32} {l2 : Int32} {l3 : Int32} {l4 : Int32} {h : eH} {q} (hf : fX35_font_b94 N sE sN l0 l1 l2 l3 l4 h = some q) : wp w (d + 1) YX35_font 94 [some (.ref l0), some (.int l1), some (.int l2), some (.int l3), some (.int l4), none] [] h (e_is (e_rn c_V q)) := by
  unfold fX35_font_b94 at hf
  refine w_aload_n dX35_font_94 rfl rfl ?_
  obtain ⟨x1, b2, hf⟩ := Option.bind_eq_some_iff.mp hf
  refine GX35_321 b2 dX35_font_95 rfl ?_
  refine w_if_ne 112 dX35_font_98 (by decide) (fun c3 => ?_) (fun c3 => ?_)
  · replace hf := (if_pos (show ¬ x1 = 0 from c3)).symm.trans hf
    exact (pX35_font_b112 hd hdr hsE hsN hf).to ⟨rfl, rfl, rfl, rfl, rfl, trivial⟩
  · replace hf := (if_neg (show ¬ (¬ x1 = 0) from (fun z => z c3))).symm.trans hf
    refine w_aload_n dX35_font_101 rfl rfl ?_
    obtain ⟨a4, b5, hf⟩ := Option.bind_eq_some_iff.mp hf
    refine GX35_21 b5 dX35_font_102 rfl ?_
    refine w_iload_n dX35_font_105 rfl rfl ?_
    obtain ⟨a6, b7, hf⟩ := Option.bind_eq_some_iff.mp hf
    refine x_rA (c := 107) (by decide) b7 dX35_font_106 ?_
    obtain ⟨_, b8, hf⟩ := Option.bind_eq_some_iff.mp hf
    refine x_cnI hf (e_stV (Yc := YX40_design) (ci := 42) (av := []) (st := []) dX35_font_107 q5948 mX40_design rfl (k_ok_some b8).1 (k_ok_some b8).2) mX40_design.2.2.1 mX40_design.2.2.2.2.1 (Nat.le_of_ble_eq_true rfl) (Nat.le_of_ble_eq_true rfl) (fun q hq => pX40_design (by omega) hq) (fun q9 hf => ?_)
    refine w_istore dX35_font_110 (by decide) (ls' := [some (.ref l0), some (.int l1), some (.int l2), some (.int l3), some (.int q9.1), none]) rfl ?_
    exact (pX35_font_b112 hd hdr hsE hsN hf).to ⟨rfl, rfl, rfl, rfl, rfl, trivial⟩
def fX35_font_b38 (N : Nat) (sE : Nat → Int32 → eH → Option (Unit × eH)) (sN : Nat → eH → Option (Int32 × eH)) (l0 : Nat) (l1 : Int32) (l2 : Int32) (l3 : Int32) (h : eH) : Option (Unit × eH) :=
  (g_I 34 h l0 46).bind fun x1 =>
  if ¬ x1 = 0 then
    fX35_font_b94 N sE sN l0 l1 l2 l3 (0 : Int32) h
  else
    (k_ok 34 h l0).bind fun _ =>
    (fX35_keyword N sE l0 1000000135 h).bind fun q5 =>
    if q5.1 = 0 then
      fX35_font_b94 N sE sN l0 l1 l2 l3 (0 : Int32) q5.2
    else
      (k_ok 34 q5.2 l0).bind fun _ =>
      (fX35_dimension N sE sN l0 q5.2).bind fun q8 =>
      (g_I 34 q8.2 l0 46).bind fun x9 =>
      if ¬ x9 = 0 then
        fX35_font_b112 N sE sN l0 l1 l2 l3 q8.1 q8.2
      else
        if q8.1 < (1 : Int32) then
          fX35_font_b85 N sE sN l0 l1 l2 l3 q8.1 q8.2
        else
          if q8.1 ≤ (134217727 : Int32) then
            fX35_font_b112 N sE sN l0 l1 l2 l3 q8.1 q8.2
          else
            fX35_font_b85 N sE sN l0 l1 l2 l3 q8.1 q8.2
theorem pX35_font_b38 {w : eW} {d : Nat} {dr : Nat} (hd : dr + 11 ≤ d + 1) (hdr : 12 ≤ dr) {N : Nat} {sE : Nat → Int32 → eH → Option (Unit × eH)} {sN : Nat → eH → Option (Int32 × eH)} (hsE : ∀ a t0 h q, sE a t0 h = some q → wm w dr YX35_expand [.ref a, .int t0] h (e_is (e_rn c_V q))) (hsN : ∀ a h q, sN a h = some q → wm w dr YX35_number [.ref a] h (e_is (e_rn c_I q))) {l0 : Nat} {l1 : Int32} {l2 : Int32} {l3 : Int32} {h : eH} {q} (hf : fX35_font_b38 N sE sN l0 l1 l2 l3 h = some q) : wp w (d + 1) YX35_font 38 [some (.ref l0), some (.int l1), some (.int l2), some (.int l3), none, none] [] h (e_is (e_rn c_V q)) := by
  unfold fX35_font_b38 at hf
  refine w_iconst dX35_font_38 (v := 0) (by decide) ?_
  refine w_istore dX35_font_39 (by decide) (ls' := [some (.ref l0), some (.int l1), some (.int l2), some (.int l3), some (.int (0 : Int32)), none]) rfl ?_
  refine w_aload_n dX35_font_41 rfl rfl ?_
  obtain ⟨x1, b2, hf⟩ := Option.bind_eq_some_iff.mp hf
  refine GX35_321 b2 dX35_font_42 rfl ?_
  refine w_if_ne 94 dX35_font_45 (by decide) (fun c3 => ?_) (fun c3 => ?_)
  · replace hf := (if_pos (show ¬ x1 = 0 from c3)).symm.trans hf
    exact (pX35_font_b94 hd hdr hsE hsN hf).to ⟨rfl, rfl, rfl, rfl, rfl, trivial⟩
  · replace hf := (if_neg (show ¬ (¬ x1 = 0) from (fun z => z c3))).symm.trans hf
    refine w_aload_n dX35_font_48 rfl rfl ?_
    refine x_ldcSw (k := 35) dX35_font_49 rfl ?_
    obtain ⟨_, b4, hf⟩ := Option.bind_eq_some_iff.mp hf
    refine x_cnI hf (e_stV (Yc := YX35_keyword) (ci := 34) (av := [.ref 1000000135]) (st := []) dX35_font_52 q5347 mX35_keyword rfl (k_ok_some b4).1 (k_ok_some b4).2) mX35_keyword.2.2.1 mX35_keyword.2.2.2.2.1 (Nat.le_of_ble_eq_true rfl) (Nat.le_of_ble_eq_true rfl) (fun q hq => pX35_keyword (by omega) hdr hsE hq) (fun q5 hf => ?_)
    refine w_if_eq 94 dX35_font_55 (by decide) (fun c6 => ?_) (fun c6 => ?_)
    · replace hf := (if_pos (show q5.1 = 0 from c6)).symm.trans hf
      exact (pX35_font_b94 hd hdr hsE hsN hf).to ⟨rfl, rfl, rfl, rfl, rfl, trivial⟩
    · replace hf := (if_neg (show ¬ (q5.1 = 0) from c6)).symm.trans hf
      refine w_aload_n dX35_font_58 rfl rfl ?_
      obtain ⟨_, b7, hf⟩ := Option.bind_eq_some_iff.mp hf
      refine x_cnI hf (e_stV (Yc := YX35_dimension) (ci := 34) (av := []) (st := []) dX35_font_59 q5333 mX35_dimension rfl (k_ok_some b7).1 (k_ok_some b7).2) mX35_dimension.2.2.1 mX35_dimension.2.2.2.2.1 (Nat.le_of_ble_eq_true rfl) (Nat.le_of_ble_eq_true rfl) (fun q hq => pX35_dimension (by omega) hdr hsE hsN hq) (fun q8 hf => ?_)
      refine w_istore dX35_font_62 (by decide) (ls' := [some (.ref l0), some (.int l1), some (.int l2), some (.int l3), some (.int q8.1), none]) rfl ?_
      refine w_aload_n dX35_font_64 rfl rfl ?_
      obtain ⟨x9, b10, hf⟩ := Option.bind_eq_some_iff.mp hf
      refine GX35_321 b10 dX35_font_65 rfl ?_
      refine w_if_ne 112 dX35_font_68 (by decide) (fun c11 => ?_) (fun c11 => ?_)
      · replace hf := (if_pos (show ¬ x9 = 0 from c11)).symm.trans hf
        exact (pX35_font_b112 hd hdr hsE hsN hf).to ⟨rfl, rfl, rfl, rfl, rfl, trivial⟩
      · replace hf := (if_neg (show ¬ (¬ x9 = 0) from (fun z => z c11))).symm.trans hf
        refine w_iload dX35_font_71 rfl ?_
        refine w_iconst dX35_font_73 (v := 1) (by decide) ?_
        refine w_icmp_lt 85 dX35_font_74 (by decide) (fun c12 => ?_) (fun c12 => ?_)
        · replace hf := (if_pos (show q8.1 < (1 : Int32) from c12)).symm.trans hf
          exact (pX35_font_b85 hd hdr hsE hsN hf).to ⟨rfl, rfl, rfl, rfl, rfl, trivial⟩
        · replace hf := (if_neg (show ¬ (q8.1 < (1 : Int32)) from c12)).symm.trans hf
          refine w_iload dX35_font_77 rfl ?_
          refine w_ldc_w dX35_font_79 q5947 ?_
          refine w_icmp_le 112 dX35_font_82 (by decide) (fun c13 => ?_) (fun c13 => ?_)
          · replace hf := (if_pos (show q8.1 ≤ (134217727 : Int32) from c13)).symm.trans hf
            exact (pX35_font_b112 hd hdr hsE hsN hf).to ⟨rfl, rfl, rfl, rfl, rfl, trivial⟩
          · replace hf := (if_neg (show ¬ (q8.1 ≤ (134217727 : Int32)) from c13)).symm.trans hf
            exact (pX35_font_b85 hd hdr hsE hsN hf).to ⟨rfl, rfl, rfl, rfl, rfl, trivial⟩
def fX35_font (N : Nat) (sE : Nat → Int32 → eH → Option (Unit × eH)) (sN : Nat → eH → Option (Int32 × eH)) (this : Nat) (p0 : Int32) (h : eH) : Option (Unit × eH) :=
  (k_ok 34 h this).bind fun _ =>
  (fX35_target N this h).bind fun q2 =>
  (k_ok 34 q2.2 this).bind fun _ =>
  (fX35_equals N sE this q2.2).bind fun q4 =>
  (k_ok 34 q4.2 this).bind fun _ =>
  (fX35_small sN this (15 : Int32) q4.2).bind fun q6 =>
  (g_I 34 q6.2 this 46).bind fun x7 =>
  if ¬ x7 = 0 then
    fX35_font_b38 N sE sN this p0 q2.1 q6.1 q6.2
  else
    (g_A 34 q6.2 this 4).bind fun a10 =>
    (r_O 107 q6.2 a10 q6.1).bind fun a12 =>
    match a12 with
    | none =>
      (k_ok 34 q6.2 this).bind fun _ =>
      (fX35_fail this (14 : Int32) q6.2).bind fun q16 =>
      fX35_font_b38 N sE sN this p0 q2.1 q6.1 q16.2
    | some a14 =>
      fX35_font_b38 N sE sN this p0 q2.1 q6.1 q6.2
theorem pX35_font {w : eW} {d : Nat} {dr : Nat} (hd : dr + 11 ≤ d) (hdr : 12 ≤ dr) {N : Nat} {sE : Nat → Int32 → eH → Option (Unit × eH)} {sN : Nat → eH → Option (Int32 × eH)} (hsE : ∀ a t0 h q, sE a t0 h = some q → wm w dr YX35_expand [.ref a, .int t0] h (e_is (e_rn c_V q))) (hsN : ∀ a h q, sN a h = some q → wm w dr YX35_number [.ref a] h (e_is (e_rn c_I q))) {this : Nat} {p0 : Int32} {h : eH} {q} (hf : fX35_font N sE sN this p0 h = some q) : wm w d YX35_font [.ref this, .int p0] h (e_is (e_rn c_V q)) := by
  obtain ⟨d, rfl⟩ : ∃ e, d = e + 1 := ⟨d - 1, by omega⟩
  show wp w (d + 1) YX35_font 0 [some (.ref this), some (.int p0), none, none, none, none] [] h _
  unfold fX35_font at hf
  refine w_aload_n dX35_font_0 rfl rfl ?_
  obtain ⟨_, b1, hf⟩ := Option.bind_eq_some_iff.mp hf
  refine x_cnI hf (e_stV (Yc := YX35_target) (ci := 34) (av := []) (st := []) dX35_font_1 q5926 mX35_target rfl (k_ok_some b1).1 (k_ok_some b1).2) mX35_target.2.2.1 mX35_target.2.2.2.2.1 (Nat.le_of_ble_eq_true rfl) (Nat.le_of_ble_eq_true rfl) (fun q hq => pX35_target (by omega) hq) (fun q2 hf => ?_)
  refine w_istore_n dX35_font_4 rfl (by decide) (ls' := [some (.ref this), some (.int p0), some (.int q2.1), none, none, none]) rfl ?_
  refine w_aload_n dX35_font_5 rfl rfl ?_
  obtain ⟨_, b3, hf⟩ := Option.bind_eq_some_iff.mp hf
  refine x_cnV hf (e_stV (Yc := YX35_equals) (ci := 34) (av := []) (st := []) dX35_font_6 q5938 mX35_equals rfl (k_ok_some b3).1 (k_ok_some b3).2) mX35_equals.2.2.1 mX35_equals.2.2.2.2.1 (Nat.le_of_ble_eq_true rfl) (Nat.le_of_ble_eq_true rfl) (fun q hq => pX35_equals (by omega) hdr hsE hq) (fun q4 hf => ?_)
  refine w_aload_n dX35_font_9 rfl rfl ?_
  refine w_bipush dX35_font_10 (v := 15) (by decide) ?_
  obtain ⟨_, b5, hf⟩ := Option.bind_eq_some_iff.mp hf
  refine x_cnI hf (e_stV (Yc := YX35_small) (ci := 34) (av := [.int (15 : Int32)]) (st := []) dX35_font_12 q5271 mX35_small rfl (k_ok_some b5).1 (k_ok_some b5).2) mX35_small.2.2.1 mX35_small.2.2.2.2.1 (Nat.le_of_ble_eq_true rfl) (Nat.le_of_ble_eq_true rfl) (fun q hq => pX35_small (by omega) hdr hsN hq) (fun q6 hf => ?_)
  refine w_istore_n dX35_font_15 rfl (by decide) (ls' := [some (.ref this), some (.int p0), some (.int q2.1), some (.int q6.1), none, none]) rfl ?_
  refine w_aload_n dX35_font_16 rfl rfl ?_
  obtain ⟨x7, b8, hf⟩ := Option.bind_eq_some_iff.mp hf
  refine GX35_321 b8 dX35_font_17 rfl ?_
  refine w_if_ne 38 dX35_font_20 (by decide) (fun c9 => ?_) (fun c9 => ?_)
  · replace hf := (if_pos (show ¬ x7 = 0 from c9)).symm.trans hf
    exact (pX35_font_b38 hd hdr hsE hsN hf).to ⟨rfl, rfl, rfl, rfl, trivial⟩
  · replace hf := (if_neg (show ¬ (¬ x7 = 0) from (fun z => z c9))).symm.trans hf
    refine w_aload_n dX35_font_23 rfl rfl ?_
    obtain ⟨a10, b11, hf⟩ := Option.bind_eq_some_iff.mp hf
    refine GX35_21 b11 dX35_font_24 rfl ?_
    refine w_iload_n dX35_font_27 rfl rfl ?_
    obtain ⟨a12, b13, hf⟩ := Option.bind_eq_some_iff.mp hf
    refine x_rO (c := 107) (by decide) b13 dX35_font_28 ?_
    cases a12 with
    | none =>
      refine w_ifnonnullN dX35_font_29 ?_
      refine w_aload_n dX35_font_32 rfl rfl ?_
      refine w_bipush dX35_font_33 (v := 14) (by decide) ?_
      obtain ⟨_, b15, hf⟩ := Option.bind_eq_some_iff.mp hf
      refine x_cnV hf (e_stV (Yc := YX35_fail) (ci := 34) (av := [.int (14 : Int32)]) (st := []) dX35_font_35 q5109 mX35_fail rfl (k_ok_some b15).1 (k_ok_some b15).2) mX35_fail.2.2.1 mX35_fail.2.2.2.2.1 (Nat.le_of_ble_eq_true rfl) (Nat.le_of_ble_eq_true rfl) (fun q hq => pX35_fail (by omega) hq) (fun q16 hf => ?_)
      exact (pX35_font_b38 hd hdr hsE hsN hf).to ⟨rfl, rfl, rfl, rfl, trivial⟩
    | some a14 =>
      refine w_ifnonnull 38 dX35_font_29 (by decide) ?_
      exact (pX35_font_b38 hd hdr hsE hsN hf).to ⟨rfl, rfl, rfl, rfl, trivial⟩
abbrev cX35_reckoned : ByteArray := prog_37_method_190_code
def yX35_reckoned : MethodName := ⟨RX35, "reckoned", "(JJIJ)I"⟩
def YX35_reckoned : eY := (yX35_reckoned, cX35_reckoned, 10, (Option.some FieldType.int), [])
theorem mX35_reckoned : e_mv YX35_reckoned RX35 4 := ⟨q5977, qs408, q5978, by decide, by decide +kernel, (e_sig (by decide +kernel))⟩
theorem dX35_reckoned_0 : decode cX35_reckoned 0 = .ok (.iload 5, 2) := dc_21 (a := 5) (by decide +kernel)
theorem dX35_reckoned_2 : decode cX35_reckoned 2 = .ok (.bipush 38, 2) := dc_16 (a := 38) (v := 38) (by decide +kernel)
theorem dX35_reckoned_4 : decode cX35_reckoned 4 = .ok (.if_icmp .ne 17, 3) := dc_160 (a := 0) (b := 17) (v := 17) (by decide +kernel)
theorem dX35_reckoned_7 : decode cX35_reckoned 7 = .ok (.lload_n 3, 1) := dc_33 (by decide +kernel)
theorem dX35_reckoned_8 : decode cX35_reckoned 8 = .ok (.lconst 0, 1) := dc_9 (by decide +kernel)
theorem dX35_reckoned_9 : decode cX35_reckoned 9 = .ok (.lcmp, 1) := dc_148 (by decide +kernel)
theorem dX35_reckoned_10 : decode cX35_reckoned 10 = .ok (.ifCond .ne 11, 3) := dc_154 (a := 0) (b := 11) (v := 11) (by decide +kernel)
theorem dX35_reckoned_13 : decode cX35_reckoned 13 = .ok (.aload_n 0, 1) := dc_42 (by decide +kernel)
theorem dX35_reckoned_14 : decode cX35_reckoned 14 = .ok (.bipush 7, 2) := dc_16 (a := 7) (v := 7) (by decide +kernel)
theorem dX35_reckoned_16 : decode cX35_reckoned 16 = .ok (.invokevirtual 428, 3) := dc_182 (a := 1) (b := 172) (n := 428) (by decide +kernel)
theorem dX35_reckoned_19 : decode cX35_reckoned 19 = .ok (.iconst 0, 1) := dc_3 (by decide +kernel)
theorem dX35_reckoned_20 : decode cX35_reckoned 20 = .ok (.ireturn, 1) := dc_172 (by decide +kernel)
theorem dX35_reckoned_21 : decode cX35_reckoned 21 = .ok (.iload 5, 2) := dc_21 (a := 5) (by decide +kernel)
theorem dX35_reckoned_23 : decode cX35_reckoned 23 = .ok (.bipush 36, 2) := dc_16 (a := 36) (v := 36) (by decide +kernel)
theorem dX35_reckoned_25 : decode cX35_reckoned 25 = .ok (.if_icmp .ne 9, 3) := dc_160 (a := 0) (b := 9) (v := 9) (by decide +kernel)
theorem dX35_reckoned_28 : decode cX35_reckoned 28 = .ok (.lload_n 1, 1) := dc_31 (by decide +kernel)
theorem dX35_reckoned_29 : decode cX35_reckoned 29 = .ok (.lload_n 3, 1) := dc_33 (by decide +kernel)
theorem dX35_reckoned_30 : decode cX35_reckoned 30 = .ok (.ladd, 1) := dc_97 (by decide +kernel)
theorem dX35_reckoned_31 : decode cX35_reckoned 31 = .ok (.goto 19, 3) := dc_167 (a := 0) (b := 19) (v := 19) (by decide +kernel)
theorem dX35_reckoned_34 : decode cX35_reckoned 34 = .ok (.iload 5, 2) := dc_21 (a := 5) (by decide +kernel)
theorem dX35_reckoned_36 : decode cX35_reckoned 36 = .ok (.bipush 37, 2) := dc_16 (a := 37) (v := 37) (by decide +kernel)
theorem dX35_reckoned_38 : decode cX35_reckoned 38 = .ok (.if_icmp .ne 9, 3) := dc_160 (a := 0) (b := 9) (v := 9) (by decide +kernel)
theorem dX35_reckoned_41 : decode cX35_reckoned 41 = .ok (.lload_n 1, 1) := dc_31 (by decide +kernel)
theorem dX35_reckoned_42 : decode cX35_reckoned 42 = .ok (.lload_n 3, 1) := dc_33 (by decide +kernel)
theorem dX35_reckoned_43 : decode cX35_reckoned 43 = .ok (.lmul, 1) := dc_105 (by decide +kernel)
theorem dX35_reckoned_44 : decode cX35_reckoned 44 = .ok (.goto 6, 3) := dc_167 (a := 0) (b := 6) (v := 6) (by decide +kernel)
theorem dX35_reckoned_47 : decode cX35_reckoned 47 = .ok (.lload_n 1, 1) := dc_31 (by decide +kernel)
theorem dX35_reckoned_48 : decode cX35_reckoned 48 = .ok (.lload_n 3, 1) := dc_33 (by decide +kernel)
theorem dX35_reckoned_49 : decode cX35_reckoned 49 = .ok (.ldiv, 1) := dc_109 (by decide +kernel)
theorem dX35_reckoned_50 : decode cX35_reckoned 50 = .ok (.lstore 8, 2) := dc_55 (a := 8) (by decide +kernel)
theorem dX35_reckoned_52 : decode cX35_reckoned 52 = .ok (.lload 8, 2) := dc_22 (a := 8) (by decide +kernel)
theorem dX35_reckoned_54 : decode cX35_reckoned 54 = .ok (.lload 6, 2) := dc_22 (a := 6) (by decide +kernel)
theorem dX35_reckoned_56 : decode cX35_reckoned 56 = .ok (.lcmp, 1) := dc_148 (by decide +kernel)
theorem dX35_reckoned_57 : decode cX35_reckoned 57 = .ok (.ifCond .gt 12, 3) := dc_157 (a := 0) (b := 12) (v := 12) (by decide +kernel)
theorem dX35_reckoned_60 : decode cX35_reckoned 60 = .ok (.lload 8, 2) := dc_22 (a := 8) (by decide +kernel)
theorem dX35_reckoned_62 : decode cX35_reckoned 62 = .ok (.lload 6, 2) := dc_22 (a := 6) (by decide +kernel)
theorem dX35_reckoned_64 : decode cX35_reckoned 64 = .ok (.lneg, 1) := dc_117 (by decide +kernel)
theorem dX35_reckoned_65 : decode cX35_reckoned 65 = .ok (.lcmp, 1) := dc_148 (by decide +kernel)
theorem dX35_reckoned_66 : decode cX35_reckoned 66 = .ok (.ifCond .ge 9, 3) := dc_156 (a := 0) (b := 9) (v := 9) (by decide +kernel)
theorem dX35_reckoned_69 : decode cX35_reckoned 69 = .ok (.aload_n 0, 1) := dc_42 (by decide +kernel)
theorem dX35_reckoned_70 : decode cX35_reckoned 70 = .ok (.bipush 7, 2) := dc_16 (a := 7) (v := 7) (by decide +kernel)
theorem dX35_reckoned_72 : decode cX35_reckoned 72 = .ok (.invokevirtual 428, 3) := dc_182 (a := 1) (b := 172) (n := 428) (by decide +kernel)
theorem dX35_reckoned_75 : decode cX35_reckoned 75 = .ok (.aload_n 0, 1) := dc_42 (by decide +kernel)
theorem dX35_reckoned_76 : decode cX35_reckoned 76 = .ok (.getfield 321, 3) := dc_180 (a := 1) (b := 65) (n := 321) (by decide +kernel)
theorem dX35_reckoned_79 : decode cX35_reckoned 79 = .ok (.ifCond .le 7, 3) := dc_158 (a := 0) (b := 7) (v := 7) (by decide +kernel)
theorem dX35_reckoned_82 : decode cX35_reckoned 82 = .ok (.iconst 0, 1) := dc_3 (by decide +kernel)
theorem dX35_reckoned_83 : decode cX35_reckoned 83 = .ok (.goto 6, 3) := dc_167 (a := 0) (b := 6) (v := 6) (by decide +kernel)
theorem dX35_reckoned_86 : decode cX35_reckoned 86 = .ok (.lload 8, 2) := dc_22 (a := 8) (by decide +kernel)
theorem dX35_reckoned_88 : decode cX35_reckoned 88 = .ok (.l2i, 1) := dc_136 (by decide +kernel)
theorem dX35_reckoned_89 : decode cX35_reckoned 89 = .ok (.ireturn, 1) := dc_172 (by decide +kernel)
def fX35_reckoned_b89 (s0 : Int32) (h : eH) : Option (Int32 × eH) :=
  some (s0, h)
theorem pX35_reckoned_b89 {w : eW} {d : Nat} (hd : 1 ≤ d + 1) {s0 : Int32} {h : eH} {q} (hf : fX35_reckoned_b89 s0 h = some q) : wp w (d + 1) YX35_reckoned 89 [none, none, none, none, none, none, none, none, none, none] [.int s0] h (e_is (e_rn c_I q)) := by
  unfold fX35_reckoned_b89 at hf
  cases hf
  exact w_iret dX35_reckoned_89 rfl rfl rfl
def fX35_reckoned_b75 (l0 : Nat) (l8 : Int64) (h : eH) : Option (Int32 × eH) :=
  (g_I 34 h l0 46).bind fun x1 =>
  if x1 ≤ 0 then
    fX35_reckoned_b89 (l8).toInt32 h
  else
    fX35_reckoned_b89 (0 : Int32) h
theorem pX35_reckoned_b75 {w : eW} {d : Nat} (hd : 1 ≤ d + 1) {l0 : Nat} {l8 : Int64} {h : eH} {q} (hf : fX35_reckoned_b75 l0 l8 h = some q) : wp w (d + 1) YX35_reckoned 75 [some (.ref l0), none, none, none, none, none, none, none, some (.long l8), none] [] h (e_is (e_rn c_I q)) := by
  unfold fX35_reckoned_b75 at hf
  refine w_aload_n dX35_reckoned_75 rfl rfl ?_
  obtain ⟨x1, b2, hf⟩ := Option.bind_eq_some_iff.mp hf
  refine GX35_321 b2 dX35_reckoned_76 rfl ?_
  refine w_if_le 86 dX35_reckoned_79 (by decide) (fun c3 => ?_) (fun c3 => ?_)
  · replace hf := (if_pos (show x1 ≤ 0 from c3)).symm.trans hf
    refine w_lload dX35_reckoned_86 rfl ?_
    refine w_l2i dX35_reckoned_88 ?_
    exact (pX35_reckoned_b89 hd hf).to trivial
  · replace hf := (if_neg (show ¬ (x1 ≤ 0) from c3)).symm.trans hf
    refine w_iconst dX35_reckoned_82 (v := 0) (by decide) ?_
    refine w_goto 89 dX35_reckoned_83 (by decide) ?_
    exact (pX35_reckoned_b89 hd hf).to trivial
def fX35_reckoned_b69 (l0 : Nat) (l8 : Int64) (h : eH) : Option (Int32 × eH) :=
  (k_ok 34 h l0).bind fun _ =>
  (fX35_fail l0 (7 : Int32) h).bind fun q2 =>
  fX35_reckoned_b75 l0 l8 q2.2
theorem pX35_reckoned_b69 {w : eW} {d : Nat} (hd : 1 ≤ d + 1) {l0 : Nat} {l8 : Int64} {h : eH} {q} (hf : fX35_reckoned_b69 l0 l8 h = some q) : wp w (d + 1) YX35_reckoned 69 [some (.ref l0), none, none, none, none, none, none, none, some (.long l8), none] [] h (e_is (e_rn c_I q)) := by
  unfold fX35_reckoned_b69 at hf
  refine w_aload_n dX35_reckoned_69 rfl rfl ?_
  refine w_bipush dX35_reckoned_70 (v := 7) (by decide) ?_
  obtain ⟨_, b1, hf⟩ := Option.bind_eq_some_iff.mp hf
  refine x_cnV hf (e_stV (Yc := YX35_fail) (ci := 34) (av := [.int (7 : Int32)]) (st := []) dX35_reckoned_72 q5109 mX35_fail rfl (k_ok_some b1).1 (k_ok_some b1).2) mX35_fail.2.2.1 mX35_fail.2.2.2.2.1 (Nat.le_of_ble_eq_true rfl) (Nat.le_of_ble_eq_true rfl) (fun q hq => pX35_fail (by omega) hq) (fun q2 hf => ?_)
  exact (pX35_reckoned_b75 hd hf).to ⟨rfl, rfl, trivial⟩
def fX35_reckoned_b50 (l0 : Nat) (l6 : Int64) (s0 : Int64) (h : eH) : Option (Int32 × eH) :=
  if 0 < (lg_cmp s0 l6) then
    fX35_reckoned_b69 l0 s0 h
  else
    if 0 ≤ (lg_cmp s0 (-l6)) then
      fX35_reckoned_b75 l0 s0 h
    else
      fX35_reckoned_b69 l0 s0 h
theorem pX35_reckoned_b50 {w : eW} {d : Nat} (hd : 1 ≤ d + 1) {l0 : Nat} {l6 : Int64} {s0 : Int64} {h : eH} {q} (hf : fX35_reckoned_b50 l0 l6 s0 h = some q) : wp w (d + 1) YX35_reckoned 50 [some (.ref l0), none, none, none, none, none, some (.long l6), none, none, none] [.long s0] h (e_is (e_rn c_I q)) := by
  unfold fX35_reckoned_b50 at hf
  refine w_lstore dX35_reckoned_50 (by decide) (ls' := [some (.ref l0), none, none, none, none, none, some (.long l6), none, some (.long s0), none]) rfl ?_
  refine w_lload dX35_reckoned_52 rfl ?_
  refine w_lload dX35_reckoned_54 rfl ?_
  refine w_lcmp dX35_reckoned_56 ?_
  refine w_if_gt 69 dX35_reckoned_57 (by decide) (fun c1 => ?_) (fun c1 => ?_)
  · replace hf := (if_pos (show 0 < (lg_cmp s0 l6) from c1)).symm.trans hf
    exact (pX35_reckoned_b69 hd hf).to ⟨rfl, rfl, trivial⟩
  · replace hf := (if_neg (show ¬ (0 < (lg_cmp s0 l6)) from c1)).symm.trans hf
    refine w_lload dX35_reckoned_60 rfl ?_
    refine w_lload dX35_reckoned_62 rfl ?_
    refine w_lneg dX35_reckoned_64 ?_
    refine w_lcmp dX35_reckoned_65 ?_
    refine w_if_ge 75 dX35_reckoned_66 (by decide) (fun c2 => ?_) (fun c2 => ?_)
    · replace hf := (if_pos (show 0 ≤ (lg_cmp s0 (-l6)) from c2)).symm.trans hf
      exact (pX35_reckoned_b75 hd hf).to ⟨rfl, rfl, trivial⟩
    · replace hf := (if_neg (show ¬ (0 ≤ (lg_cmp s0 (-l6))) from c2)).symm.trans hf
      exact (pX35_reckoned_b69 hd hf).to ⟨rfl, rfl, trivial⟩
def fX35_reckoned_b21 (l0 : Nat) (l1 : Int64) (l3 : Int64) (l5 : Int32) (l6 : Int64) (h : eH) : Option (Int32 × eH) :=
  if ¬ l5 = (36 : Int32) then
    if ¬ l5 = (37 : Int32) then
      if l3 = 0 then none else
      fX35_reckoned_b50 l0 l6 (l1 / l3) h
    else
      fX35_reckoned_b50 l0 l6 (l1 * l3) h
  else
    fX35_reckoned_b50 l0 l6 (l1 + l3) h
theorem pX35_reckoned_b21 {w : eW} {d : Nat} (hd : 1 ≤ d + 1) {l0 : Nat} {l1 : Int64} {l3 : Int64} {l5 : Int32} {l6 : Int64} {h : eH} {q} (hf : fX35_reckoned_b21 l0 l1 l3 l5 l6 h = some q) : wp w (d + 1) YX35_reckoned 21 [some (.ref l0), some (.long l1), none, some (.long l3), none, some (.int l5), some (.long l6), none, none, none] [] h (e_is (e_rn c_I q)) := by
  unfold fX35_reckoned_b21 at hf
  refine w_iload dX35_reckoned_21 rfl ?_
  refine w_bipush dX35_reckoned_23 (v := 36) (by decide) ?_
  refine w_icmp_ne 34 dX35_reckoned_25 (by decide) (fun c1 => ?_) (fun c1 => ?_)
  · replace hf := (if_pos (show ¬ l5 = (36 : Int32) from c1)).symm.trans hf
    refine w_iload dX35_reckoned_34 rfl ?_
    refine w_bipush dX35_reckoned_36 (v := 37) (by decide) ?_
    refine w_icmp_ne 47 dX35_reckoned_38 (by decide) (fun c2 => ?_) (fun c2 => ?_)
    · replace hf := (if_pos (show ¬ l5 = (37 : Int32) from c2)).symm.trans hf
      refine w_lload_n dX35_reckoned_47 rfl rfl ?_
      refine w_lload_n dX35_reckoned_48 rfl rfl ?_
      by_cases c3 : l3 = 0
      · exact absurd ((if_pos c3).symm.trans hf) (by simp)
      replace hf := (if_neg c3).symm.trans hf
      refine w_ldiv dX35_reckoned_49 c3 ?_
      exact (pX35_reckoned_b50 hd hf).to ⟨rfl, rfl, trivial⟩
    · replace hf := (if_neg (show ¬ (¬ l5 = (37 : Int32)) from (fun z => z c2))).symm.trans hf
      refine w_lload_n dX35_reckoned_41 rfl rfl ?_
      refine w_lload_n dX35_reckoned_42 rfl rfl ?_
      refine w_lmul dX35_reckoned_43 ?_
      refine w_goto 50 dX35_reckoned_44 (by decide) ?_
      exact (pX35_reckoned_b50 hd hf).to ⟨rfl, rfl, trivial⟩
  · replace hf := (if_neg (show ¬ (¬ l5 = (36 : Int32)) from (fun z => z c1))).symm.trans hf
    refine w_lload_n dX35_reckoned_28 rfl rfl ?_
    refine w_lload_n dX35_reckoned_29 rfl rfl ?_
    refine w_ladd dX35_reckoned_30 ?_
    refine w_goto 50 dX35_reckoned_31 (by decide) ?_
    exact (pX35_reckoned_b50 hd hf).to ⟨rfl, rfl, trivial⟩
def fX35_reckoned (this : Nat) (p0 : Int64) (p1 : Int64) (p2 : Int32) (p3 : Int64) (h : eH) : Option (Int32 × eH) :=
  if ¬ p2 = (38 : Int32) then
    fX35_reckoned_b21 this p0 p1 p2 p3 h
  else
    if ¬ (lg_cmp p1 (0 : Int64)) = 0 then
      fX35_reckoned_b21 this p0 p1 p2 p3 h
    else
      (k_ok 34 h this).bind fun _ =>
      (fX35_fail this (7 : Int32) h).bind fun q4 =>
      some ((0 : Int32), q4.2)
theorem pX35_reckoned {w : eW} {d : Nat} (hd : 1 ≤ d) {this : Nat} {p0 : Int64} {p1 : Int64} {p2 : Int32} {p3 : Int64} {h : eH} {q} (hf : fX35_reckoned this p0 p1 p2 p3 h = some q) : wm w d YX35_reckoned [.ref this, .long p0, .long p1, .int p2, .long p3] h (e_is (e_rn c_I q)) := by
  obtain ⟨d, rfl⟩ : ∃ e, d = e + 1 := ⟨d - 1, by omega⟩
  show wp w (d + 1) YX35_reckoned 0 [some (.ref this), some (.long p0), none, some (.long p1), none, some (.int p2), some (.long p3), none, none, none] [] h _
  unfold fX35_reckoned at hf
  refine w_iload dX35_reckoned_0 rfl ?_
  refine w_bipush dX35_reckoned_2 (v := 38) (by decide) ?_
  refine w_icmp_ne 21 dX35_reckoned_4 (by decide) (fun c1 => ?_) (fun c1 => ?_)
  · replace hf := (if_pos (show ¬ p2 = (38 : Int32) from c1)).symm.trans hf
    exact (pX35_reckoned_b21 hd hf).to ⟨rfl, rfl, rfl, rfl, rfl, trivial⟩
  · replace hf := (if_neg (show ¬ (¬ p2 = (38 : Int32)) from (fun z => z c1))).symm.trans hf
    refine w_lload_n dX35_reckoned_7 rfl rfl ?_
    refine w_lconst dX35_reckoned_8 (v := 0) (by decide) ?_
    refine w_lcmp dX35_reckoned_9 ?_
    refine w_if_ne 21 dX35_reckoned_10 (by decide) (fun c2 => ?_) (fun c2 => ?_)
    · replace hf := (if_pos (show ¬ (lg_cmp p1 (0 : Int64)) = 0 from c2)).symm.trans hf
      exact (pX35_reckoned_b21 hd hf).to ⟨rfl, rfl, rfl, rfl, rfl, trivial⟩
    · replace hf := (if_neg (show ¬ (¬ (lg_cmp p1 (0 : Int64)) = 0) from (fun z => z c2))).symm.trans hf
      refine w_aload_n dX35_reckoned_13 rfl rfl ?_
      refine w_bipush dX35_reckoned_14 (v := 7) (by decide) ?_
      obtain ⟨_, b3, hf⟩ := Option.bind_eq_some_iff.mp hf
      refine x_cnV hf (e_stV (Yc := YX35_fail) (ci := 34) (av := [.int (7 : Int32)]) (st := []) dX35_reckoned_16 q5109 mX35_fail rfl (k_ok_some b3).1 (k_ok_some b3).2) mX35_fail.2.2.1 mX35_fail.2.2.2.2.1 (Nat.le_of_ble_eq_true rfl) (Nat.le_of_ble_eq_true rfl) (fun q hq => pX35_fail (by omega) hq) (fun q4 hf => ?_)
      refine w_iconst dX35_reckoned_19 (v := 0) (by decide) ?_
      cases hf
      exact w_iret dX35_reckoned_20 rfl rfl rfl
abbrev cX35_setGlue_2 : ByteArray := prog_37_method_187_code
def yX35_setGlue_2 : MethodName := ⟨RX35, "setGlue", "(IZ)V"⟩
def YX35_setGlue_2 : eY := (yX35_setGlue_2, cX35_setGlue_2, 3, none, [])
theorem mX35_setGlue_2 : e_mv YX35_setGlue_2 RX35 2 := ⟨q5981, qs409, q5982, by decide, by decide +kernel, (e_sig (by decide +kernel))⟩
theorem dX35_setGlue_2_0 : decode cX35_setGlue_2 0 = .ok (.aload_n 0, 1) := dc_42 (by decide +kernel)
theorem dX35_setGlue_2_1 : decode cX35_setGlue_2 1 = .ok (.iload_n 1, 1) := dc_27 (by decide +kernel)
theorem dX35_setGlue_2_2 : decode cX35_setGlue_2 2 = .ok (.aload_n 0, 1) := dc_42 (by decide +kernel)
theorem dX35_setGlue_2_3 : decode cX35_setGlue_2 3 = .ok (.getfield 768, 3) := dc_180 (a := 3) (b := 0) (n := 768) (by decide +kernel)
theorem dX35_setGlue_2_6 : decode cX35_setGlue_2 6 = .ok (.iload_n 2, 1) := dc_28 (by decide +kernel)
theorem dX35_setGlue_2_7 : decode cX35_setGlue_2 7 = .ok (.invokevirtual 477, 3) := dc_182 (a := 1) (b := 221) (n := 477) (by decide +kernel)
theorem dX35_setGlue_2_10 : decode cX35_setGlue_2 10 = .ok (.aload_n 0, 1) := dc_42 (by decide +kernel)
theorem dX35_setGlue_2_11 : decode cX35_setGlue_2 11 = .ok (.iload_n 1, 1) := dc_27 (by decide +kernel)
theorem dX35_setGlue_2_12 : decode cX35_setGlue_2 12 = .ok (.iconst 1, 1) := dc_4 (by decide +kernel)
theorem dX35_setGlue_2_13 : decode cX35_setGlue_2 13 = .ok (.iadd, 1) := dc_96 (by decide +kernel)
theorem dX35_setGlue_2_14 : decode cX35_setGlue_2 14 = .ok (.aload_n 0, 1) := dc_42 (by decide +kernel)
theorem dX35_setGlue_2_15 : decode cX35_setGlue_2 15 = .ok (.getfield 771, 3) := dc_180 (a := 3) (b := 3) (n := 771) (by decide +kernel)
theorem dX35_setGlue_2_18 : decode cX35_setGlue_2 18 = .ok (.iload_n 2, 1) := dc_28 (by decide +kernel)
theorem dX35_setGlue_2_19 : decode cX35_setGlue_2 19 = .ok (.invokevirtual 477, 3) := dc_182 (a := 1) (b := 221) (n := 477) (by decide +kernel)
theorem dX35_setGlue_2_22 : decode cX35_setGlue_2 22 = .ok (.aload_n 0, 1) := dc_42 (by decide +kernel)
theorem dX35_setGlue_2_23 : decode cX35_setGlue_2 23 = .ok (.iload_n 1, 1) := dc_27 (by decide +kernel)
theorem dX35_setGlue_2_24 : decode cX35_setGlue_2 24 = .ok (.iconst 2, 1) := dc_5 (by decide +kernel)
theorem dX35_setGlue_2_25 : decode cX35_setGlue_2 25 = .ok (.iadd, 1) := dc_96 (by decide +kernel)
theorem dX35_setGlue_2_26 : decode cX35_setGlue_2 26 = .ok (.aload_n 0, 1) := dc_42 (by decide +kernel)
theorem dX35_setGlue_2_27 : decode cX35_setGlue_2 27 = .ok (.getfield 771, 3) := dc_180 (a := 3) (b := 3) (n := 771) (by decide +kernel)
theorem dX35_setGlue_2_30 : decode cX35_setGlue_2 30 = .ok (.ifCond .ne 7, 3) := dc_154 (a := 0) (b := 7) (v := 7) (by decide +kernel)
theorem dX35_setGlue_2_33 : decode cX35_setGlue_2 33 = .ok (.iconst 0, 1) := dc_3 (by decide +kernel)
theorem dX35_setGlue_2_34 : decode cX35_setGlue_2 34 = .ok (.goto 7, 3) := dc_167 (a := 0) (b := 7) (v := 7) (by decide +kernel)
theorem dX35_setGlue_2_37 : decode cX35_setGlue_2 37 = .ok (.aload_n 0, 1) := dc_42 (by decide +kernel)
theorem dX35_setGlue_2_38 : decode cX35_setGlue_2 38 = .ok (.getfield 774, 3) := dc_180 (a := 3) (b := 6) (n := 774) (by decide +kernel)
theorem dX35_setGlue_2_41 : decode cX35_setGlue_2 41 = .ok (.iload_n 2, 1) := dc_28 (by decide +kernel)
theorem dX35_setGlue_2_42 : decode cX35_setGlue_2 42 = .ok (.invokevirtual 477, 3) := dc_182 (a := 1) (b := 221) (n := 477) (by decide +kernel)
theorem dX35_setGlue_2_45 : decode cX35_setGlue_2 45 = .ok (.aload_n 0, 1) := dc_42 (by decide +kernel)
theorem dX35_setGlue_2_46 : decode cX35_setGlue_2 46 = .ok (.iload_n 1, 1) := dc_27 (by decide +kernel)
theorem dX35_setGlue_2_47 : decode cX35_setGlue_2 47 = .ok (.iconst 3, 1) := dc_6 (by decide +kernel)
theorem dX35_setGlue_2_48 : decode cX35_setGlue_2 48 = .ok (.iadd, 1) := dc_96 (by decide +kernel)
theorem dX35_setGlue_2_49 : decode cX35_setGlue_2 49 = .ok (.aload_n 0, 1) := dc_42 (by decide +kernel)
theorem dX35_setGlue_2_50 : decode cX35_setGlue_2 50 = .ok (.getfield 777, 3) := dc_180 (a := 3) (b := 9) (n := 777) (by decide +kernel)
theorem dX35_setGlue_2_53 : decode cX35_setGlue_2 53 = .ok (.iload_n 2, 1) := dc_28 (by decide +kernel)
theorem dX35_setGlue_2_54 : decode cX35_setGlue_2 54 = .ok (.invokevirtual 477, 3) := dc_182 (a := 1) (b := 221) (n := 477) (by decide +kernel)
theorem dX35_setGlue_2_57 : decode cX35_setGlue_2 57 = .ok (.return_, 1) := dc_177 (by decide +kernel)
def fX35_setGlue_2_b41 (N : Nat) (l0 : Nat) (l1 : Int32) (l2 : Int32) (s0 : Nat) (s1 : Int32) (s2 : Int32) (h : eH) : Option (Unit × eH) :=
  (k_ok 34 h s0).bind fun _ =>
  (fX35_setAt N s0 s1 s2 l2 h).bind fun q2 =>
  (g_I 34 q2.2 l0 117).bind fun x3 =>
  (k_ok 34 q2.2 l0).bind fun _ =>
  (fX35_setAt N l0 (l1 + (3 : Int32)) x3 l2 q2.2).bind fun q6 =>
  some ((), q6.2)
theorem pX35_setGlue_2_b41 {w : eW} {d : Nat} (hd : 1 ≤ d + 1) {N : Nat} {l0 : Nat} {l1 : Int32} {l2 : Int32} {s0 : Nat} {s1 : Int32} {s2 : Int32} {h : eH} {q} (hf : fX35_setGlue_2_b41 N l0 l1 l2 s0 s1 s2 h = some q) : wp w (d + 1) YX35_setGlue_2 41 [some (.ref l0), some (.int l1), some (.int l2)] [.int s2, .int s1, .ref s0] h (e_is (e_rn c_V q)) := by
  unfold fX35_setGlue_2_b41 at hf
  refine w_iload_n dX35_setGlue_2_41 rfl rfl ?_
  obtain ⟨_, b1, hf⟩ := Option.bind_eq_some_iff.mp hf
  refine x_cnV hf (e_stV (Yc := YX35_setAt) (ci := 34) (av := [.int s1, .int s2, .int l2]) (st := []) dX35_setGlue_2_42 q5205 mX35_setAt rfl (k_ok_some b1).1 (k_ok_some b1).2) mX35_setAt.2.2.1 mX35_setAt.2.2.2.2.1 (Nat.le_of_ble_eq_true rfl) (Nat.le_of_ble_eq_true rfl) (fun q hq => pX35_setAt (by omega) hq) (fun q2 hf => ?_)
  refine w_aload_n dX35_setGlue_2_45 rfl rfl ?_
  refine w_iload_n dX35_setGlue_2_46 rfl rfl ?_
  refine w_iconst dX35_setGlue_2_47 (v := 3) (by decide) ?_
  refine w_iadd dX35_setGlue_2_48 ?_
  refine w_aload_n dX35_setGlue_2_49 rfl rfl ?_
  obtain ⟨x3, b4, hf⟩ := Option.bind_eq_some_iff.mp hf
  refine GX35_777 b4 dX35_setGlue_2_50 rfl ?_
  refine w_iload_n dX35_setGlue_2_53 rfl rfl ?_
  obtain ⟨_, b5, hf⟩ := Option.bind_eq_some_iff.mp hf
  refine x_cnV hf (e_stV (Yc := YX35_setAt) (ci := 34) (av := [.int (l1 + (3 : Int32)), .int x3, .int l2]) (st := []) dX35_setGlue_2_54 q5205 mX35_setAt rfl (k_ok_some b5).1 (k_ok_some b5).2) mX35_setAt.2.2.1 mX35_setAt.2.2.2.2.1 (Nat.le_of_ble_eq_true rfl) (Nat.le_of_ble_eq_true rfl) (fun q hq => pX35_setAt (by omega) hq) (fun q6 hf => ?_)
  cases hf
  exact w_vret dX35_setGlue_2_57 rfl rfl
def fX35_setGlue_2 (N : Nat) (this : Nat) (p0 : Int32) (p1 : Int32) (h : eH) : Option (Unit × eH) :=
  (g_I 34 h this 114).bind fun x1 =>
  (k_ok 34 h this).bind fun _ =>
  (fX35_setAt N this p0 x1 p1 h).bind fun q4 =>
  (g_I 34 q4.2 this 115).bind fun x5 =>
  (k_ok 34 q4.2 this).bind fun _ =>
  (fX35_setAt N this (p0 + (1 : Int32)) x5 p1 q4.2).bind fun q8 =>
  (g_I 34 q8.2 this 115).bind fun x9 =>
  if ¬ x9 = 0 then
    (g_I 34 q8.2 this 116).bind fun x12 =>
    fX35_setGlue_2_b41 N this p0 p1 this (p0 + (2 : Int32)) x12 q8.2
  else
    fX35_setGlue_2_b41 N this p0 p1 this (p0 + (2 : Int32)) (0 : Int32) q8.2
theorem pX35_setGlue_2 {w : eW} {d : Nat} (hd : 1 ≤ d) {N : Nat} {this : Nat} {p0 : Int32} {p1 : Int32} {h : eH} {q} (hf : fX35_setGlue_2 N this p0 p1 h = some q) : wm w d YX35_setGlue_2 [.ref this, .int p0, .int p1] h (e_is (e_rn c_V q)) := by
  obtain ⟨d, rfl⟩ : ∃ e, d = e + 1 := ⟨d - 1, by omega⟩
  show wp w (d + 1) YX35_setGlue_2 0 [some (.ref this), some (.int p0), some (.int p1)] [] h _
  unfold fX35_setGlue_2 at hf
  refine w_aload_n dX35_setGlue_2_0 rfl rfl ?_
  refine w_iload_n dX35_setGlue_2_1 rfl rfl ?_
  refine w_aload_n dX35_setGlue_2_2 rfl rfl ?_
  obtain ⟨x1, b2, hf⟩ := Option.bind_eq_some_iff.mp hf
  refine GX35_768 b2 dX35_setGlue_2_3 rfl ?_
  refine w_iload_n dX35_setGlue_2_6 rfl rfl ?_
  obtain ⟨_, b3, hf⟩ := Option.bind_eq_some_iff.mp hf
  refine x_cnV hf (e_stV (Yc := YX35_setAt) (ci := 34) (av := [.int p0, .int x1, .int p1]) (st := []) dX35_setGlue_2_7 q5205 mX35_setAt rfl (k_ok_some b3).1 (k_ok_some b3).2) mX35_setAt.2.2.1 mX35_setAt.2.2.2.2.1 (Nat.le_of_ble_eq_true rfl) (Nat.le_of_ble_eq_true rfl) (fun q hq => pX35_setAt (by omega) hq) (fun q4 hf => ?_)
  refine w_aload_n dX35_setGlue_2_10 rfl rfl ?_
  refine w_iload_n dX35_setGlue_2_11 rfl rfl ?_
  refine w_iconst dX35_setGlue_2_12 (v := 1) (by decide) ?_
  refine w_iadd dX35_setGlue_2_13 ?_
  refine w_aload_n dX35_setGlue_2_14 rfl rfl ?_
  obtain ⟨x5, b6, hf⟩ := Option.bind_eq_some_iff.mp hf
  refine GX35_771 b6 dX35_setGlue_2_15 rfl ?_
  refine w_iload_n dX35_setGlue_2_18 rfl rfl ?_
  obtain ⟨_, b7, hf⟩ := Option.bind_eq_some_iff.mp hf
  refine x_cnV hf (e_stV (Yc := YX35_setAt) (ci := 34) (av := [.int (p0 + (1 : Int32)), .int x5, .int p1]) (st := []) dX35_setGlue_2_19 q5205 mX35_setAt rfl (k_ok_some b7).1 (k_ok_some b7).2) mX35_setAt.2.2.1 mX35_setAt.2.2.2.2.1 (Nat.le_of_ble_eq_true rfl) (Nat.le_of_ble_eq_true rfl) (fun q hq => pX35_setAt (by omega) hq) (fun q8 hf => ?_)
  refine w_aload_n dX35_setGlue_2_22 rfl rfl ?_
  refine w_iload_n dX35_setGlue_2_23 rfl rfl ?_
  refine w_iconst dX35_setGlue_2_24 (v := 2) (by decide) ?_
  refine w_iadd dX35_setGlue_2_25 ?_
  refine w_aload_n dX35_setGlue_2_26 rfl rfl ?_
  obtain ⟨x9, b10, hf⟩ := Option.bind_eq_some_iff.mp hf
  refine GX35_771 b10 dX35_setGlue_2_27 rfl ?_
  refine w_if_ne 37 dX35_setGlue_2_30 (by decide) (fun c11 => ?_) (fun c11 => ?_)
  · replace hf := (if_pos (show ¬ x9 = 0 from c11)).symm.trans hf
    refine w_aload_n dX35_setGlue_2_37 rfl rfl ?_
    obtain ⟨x12, b13, hf⟩ := Option.bind_eq_some_iff.mp hf
    refine GX35_774 b13 dX35_setGlue_2_38 rfl ?_
    exact (pX35_setGlue_2_b41 hd hf).to ⟨rfl, rfl, rfl, trivial⟩
  · replace hf := (if_neg (show ¬ (¬ x9 = 0) from (fun z => z c11))).symm.trans hf
    refine w_iconst dX35_setGlue_2_33 (v := 0) (by decide) ?_
    refine w_goto 41 dX35_setGlue_2_34 (by decide) ?_
    exact (pX35_setGlue_2_b41 hd hf).to ⟨rfl, rfl, rfl, trivial⟩
abbrev cX35_reckonGlue : ByteArray := prog_37_method_192_code
def yX35_reckonGlue : MethodName := ⟨RX35, "reckonGlue", "(IIZ)V"⟩
def YX35_reckonGlue : eY := (yX35_reckonGlue, cX35_reckonGlue, 11, none, [])
theorem mX35_reckonGlue : e_mv YX35_reckonGlue RX35 3 := ⟨q5967, qs406, q5968, by decide, by decide +kernel, (e_sig (by decide +kernel))⟩
theorem dX35_reckonGlue_0 : decode cX35_reckonGlue 0 = .ok (.iload_n 2, 1) := dc_28 (by decide +kernel)
theorem dX35_reckonGlue_1 : decode cX35_reckonGlue 1 = .ok (.bipush 36, 2) := dc_16 (a := 36) (v := 36) (by decide +kernel)
theorem dX35_reckonGlue_3 : decode cX35_reckonGlue 3 = .ok (.if_icmp .ne 187, 3) := dc_160 (a := 0) (b := 187) (v := 187) (by decide +kernel)
theorem dX35_reckonGlue_6 : decode cX35_reckonGlue 6 = .ok (.aload_n 0, 1) := dc_42 (by decide +kernel)
theorem dX35_reckonGlue_7 : decode cX35_reckonGlue 7 = .ok (.invokevirtual 1212, 3) := dc_182 (a := 4) (b := 188) (n := 1212) (by decide +kernel)
theorem dX35_reckonGlue_10 : decode cX35_reckonGlue 10 = .ok (.aload_n 0, 1) := dc_42 (by decide +kernel)
theorem dX35_reckonGlue_11 : decode cX35_reckonGlue 11 = .ok (.getfield 321, 3) := dc_180 (a := 1) (b := 65) (n := 321) (by decide +kernel)
theorem dX35_reckonGlue_14 : decode cX35_reckonGlue 14 = .ok (.ifCond .le 4, 3) := dc_158 (a := 0) (b := 4) (v := 4) (by decide +kernel)
theorem dX35_reckonGlue_17 : decode cX35_reckonGlue 17 = .ok (.return_, 1) := dc_177 (by decide +kernel)
theorem dX35_reckonGlue_18 : decode cX35_reckonGlue 18 = .ok (.aload_n 0, 1) := dc_42 (by decide +kernel)
theorem dX35_reckonGlue_19 : decode cX35_reckonGlue 19 = .ok (.aload_n 0, 1) := dc_42 (by decide +kernel)
theorem dX35_reckonGlue_20 : decode cX35_reckonGlue 20 = .ok (.iload_n 1, 1) := dc_27 (by decide +kernel)
theorem dX35_reckonGlue_21 : decode cX35_reckonGlue 21 = .ok (.invokevirtual 431, 3) := dc_182 (a := 1) (b := 175) (n := 431) (by decide +kernel)
theorem dX35_reckonGlue_24 : decode cX35_reckonGlue 24 = .ok (.i2l, 1) := dc_133 (by decide +kernel)
theorem dX35_reckonGlue_25 : decode cX35_reckonGlue 25 = .ok (.aload_n 0, 1) := dc_42 (by decide +kernel)
theorem dX35_reckonGlue_26 : decode cX35_reckonGlue 26 = .ok (.getfield 768, 3) := dc_180 (a := 3) (b := 0) (n := 768) (by decide +kernel)
theorem dX35_reckonGlue_29 : decode cX35_reckonGlue 29 = .ok (.i2l, 1) := dc_133 (by decide +kernel)
theorem dX35_reckonGlue_30 : decode cX35_reckonGlue 30 = .ok (.bipush 36, 2) := dc_16 (a := 36) (v := 36) (by decide +kernel)
theorem dX35_reckonGlue_32 : decode cX35_reckonGlue 32 = .ok (.ldc2_w 738, 3) := dc_20 (a := 2) (b := 226) (n := 738) (by decide +kernel)
theorem dX35_reckonGlue_35 : decode cX35_reckonGlue 35 = .ok (.invokevirtual 1263, 3) := dc_182 (a := 4) (b := 239) (n := 1263) (by decide +kernel)
theorem dX35_reckonGlue_38 : decode cX35_reckonGlue 38 = .ok (.istore 4, 2) := dc_54 (a := 4) (by decide +kernel)
theorem dX35_reckonGlue_40 : decode cX35_reckonGlue 40 = .ok (.aload_n 0, 1) := dc_42 (by decide +kernel)
theorem dX35_reckonGlue_41 : decode cX35_reckonGlue 41 = .ok (.iload_n 1, 1) := dc_27 (by decide +kernel)
theorem dX35_reckonGlue_42 : decode cX35_reckonGlue 42 = .ok (.iconst 1, 1) := dc_4 (by decide +kernel)
theorem dX35_reckonGlue_43 : decode cX35_reckonGlue 43 = .ok (.iadd, 1) := dc_96 (by decide +kernel)
theorem dX35_reckonGlue_44 : decode cX35_reckonGlue 44 = .ok (.invokevirtual 431, 3) := dc_182 (a := 1) (b := 175) (n := 431) (by decide +kernel)
theorem dX35_reckonGlue_47 : decode cX35_reckonGlue 47 = .ok (.istore 5, 2) := dc_54 (a := 5) (by decide +kernel)
theorem dX35_reckonGlue_49 : decode cX35_reckonGlue 49 = .ok (.aload_n 0, 1) := dc_42 (by decide +kernel)
theorem dX35_reckonGlue_50 : decode cX35_reckonGlue 50 = .ok (.iload_n 1, 1) := dc_27 (by decide +kernel)
theorem dX35_reckonGlue_51 : decode cX35_reckonGlue 51 = .ok (.iconst 2, 1) := dc_5 (by decide +kernel)
theorem dX35_reckonGlue_52 : decode cX35_reckonGlue 52 = .ok (.iadd, 1) := dc_96 (by decide +kernel)
theorem dX35_reckonGlue_53 : decode cX35_reckonGlue 53 = .ok (.invokevirtual 431, 3) := dc_182 (a := 1) (b := 175) (n := 431) (by decide +kernel)
theorem dX35_reckonGlue_56 : decode cX35_reckonGlue 56 = .ok (.istore 6, 2) := dc_54 (a := 6) (by decide +kernel)
theorem dX35_reckonGlue_58 : decode cX35_reckonGlue 58 = .ok (.iload 6, 2) := dc_21 (a := 6) (by decide +kernel)
theorem dX35_reckonGlue_60 : decode cX35_reckonGlue 60 = .ok (.aload_n 0, 1) := dc_42 (by decide +kernel)
theorem dX35_reckonGlue_61 : decode cX35_reckonGlue 61 = .ok (.getfield 774, 3) := dc_180 (a := 3) (b := 6) (n := 774) (by decide +kernel)
theorem dX35_reckonGlue_64 : decode cX35_reckonGlue 64 = .ok (.if_icmp .ne 7, 3) := dc_160 (a := 0) (b := 7) (v := 7) (by decide +kernel)
theorem dX35_reckonGlue_67 : decode cX35_reckonGlue 67 = .ok (.iconst 1, 1) := dc_4 (by decide +kernel)
theorem dX35_reckonGlue_68 : decode cX35_reckonGlue 68 = .ok (.goto 4, 3) := dc_167 (a := 0) (b := 4) (v := 4) (by decide +kernel)
theorem dX35_reckonGlue_71 : decode cX35_reckonGlue 71 = .ok (.iconst 0, 1) := dc_3 (by decide +kernel)
theorem dX35_reckonGlue_72 : decode cX35_reckonGlue 72 = .ok (.istore 7, 2) := dc_54 (a := 7) (by decide +kernel)
theorem dX35_reckonGlue_74 : decode cX35_reckonGlue 74 = .ok (.iload 7, 2) := dc_21 (a := 7) (by decide +kernel)
theorem dX35_reckonGlue_76 : decode cX35_reckonGlue 76 = .ok (.ifCond .eq 23, 3) := dc_153 (a := 0) (b := 23) (v := 23) (by decide +kernel)
theorem dX35_reckonGlue_79 : decode cX35_reckonGlue 79 = .ok (.aload_n 0, 1) := dc_42 (by decide +kernel)
theorem dX35_reckonGlue_80 : decode cX35_reckonGlue 80 = .ok (.iload 5, 2) := dc_21 (a := 5) (by decide +kernel)
theorem dX35_reckonGlue_82 : decode cX35_reckonGlue 82 = .ok (.i2l, 1) := dc_133 (by decide +kernel)
theorem dX35_reckonGlue_83 : decode cX35_reckonGlue 83 = .ok (.aload_n 0, 1) := dc_42 (by decide +kernel)
theorem dX35_reckonGlue_84 : decode cX35_reckonGlue 84 = .ok (.getfield 771, 3) := dc_180 (a := 3) (b := 3) (n := 771) (by decide +kernel)
theorem dX35_reckonGlue_87 : decode cX35_reckonGlue 87 = .ok (.i2l, 1) := dc_133 (by decide +kernel)
theorem dX35_reckonGlue_88 : decode cX35_reckonGlue 88 = .ok (.bipush 36, 2) := dc_16 (a := 36) (v := 36) (by decide +kernel)
theorem dX35_reckonGlue_90 : decode cX35_reckonGlue 90 = .ok (.ldc2_w 738, 3) := dc_20 (a := 2) (b := 226) (n := 738) (by decide +kernel)
theorem dX35_reckonGlue_93 : decode cX35_reckonGlue 93 = .ok (.invokevirtual 1263, 3) := dc_182 (a := 4) (b := 239) (n := 1263) (by decide +kernel)
theorem dX35_reckonGlue_96 : decode cX35_reckonGlue 96 = .ok (.goto 21, 3) := dc_167 (a := 0) (b := 21) (v := 21) (by decide +kernel)
theorem dX35_reckonGlue_99 : decode cX35_reckonGlue 99 = .ok (.iload 6, 2) := dc_21 (a := 6) (by decide +kernel)
theorem dX35_reckonGlue_101 : decode cX35_reckonGlue 101 = .ok (.aload_n 0, 1) := dc_42 (by decide +kernel)
theorem dX35_reckonGlue_102 : decode cX35_reckonGlue 102 = .ok (.getfield 774, 3) := dc_180 (a := 3) (b := 6) (n := 774) (by decide +kernel)
theorem dX35_reckonGlue_105 : decode cX35_reckonGlue 105 = .ok (.if_icmp .le 8, 3) := dc_164 (a := 0) (b := 8) (v := 8) (by decide +kernel)
theorem dX35_reckonGlue_108 : decode cX35_reckonGlue 108 = .ok (.iload 5, 2) := dc_21 (a := 5) (by decide +kernel)
theorem dX35_reckonGlue_110 : decode cX35_reckonGlue 110 = .ok (.goto 7, 3) := dc_167 (a := 0) (b := 7) (v := 7) (by decide +kernel)
theorem dX35_reckonGlue_113 : decode cX35_reckonGlue 113 = .ok (.aload_n 0, 1) := dc_42 (by decide +kernel)
theorem dX35_reckonGlue_114 : decode cX35_reckonGlue 114 = .ok (.getfield 771, 3) := dc_180 (a := 3) (b := 3) (n := 771) (by decide +kernel)
theorem dX35_reckonGlue_117 : decode cX35_reckonGlue 117 = .ok (.istore 8, 2) := dc_54 (a := 8) (by decide +kernel)
theorem dX35_reckonGlue_119 : decode cX35_reckonGlue 119 = .ok (.iload 6, 2) := dc_21 (a := 6) (by decide +kernel)
theorem dX35_reckonGlue_121 : decode cX35_reckonGlue 121 = .ok (.aload_n 0, 1) := dc_42 (by decide +kernel)
theorem dX35_reckonGlue_122 : decode cX35_reckonGlue 122 = .ok (.getfield 774, 3) := dc_180 (a := 3) (b := 6) (n := 774) (by decide +kernel)
theorem dX35_reckonGlue_125 : decode cX35_reckonGlue 125 = .ok (.if_icmp .le 8, 3) := dc_164 (a := 0) (b := 8) (v := 8) (by decide +kernel)
theorem dX35_reckonGlue_128 : decode cX35_reckonGlue 128 = .ok (.iload 6, 2) := dc_21 (a := 6) (by decide +kernel)
theorem dX35_reckonGlue_130 : decode cX35_reckonGlue 130 = .ok (.goto 7, 3) := dc_167 (a := 0) (b := 7) (v := 7) (by decide +kernel)
theorem dX35_reckonGlue_133 : decode cX35_reckonGlue 133 = .ok (.aload_n 0, 1) := dc_42 (by decide +kernel)
theorem dX35_reckonGlue_134 : decode cX35_reckonGlue 134 = .ok (.getfield 774, 3) := dc_180 (a := 3) (b := 6) (n := 774) (by decide +kernel)
theorem dX35_reckonGlue_137 : decode cX35_reckonGlue 137 = .ok (.istore 9, 2) := dc_54 (a := 9) (by decide +kernel)
theorem dX35_reckonGlue_139 : decode cX35_reckonGlue 139 = .ok (.aload_n 0, 1) := dc_42 (by decide +kernel)
theorem dX35_reckonGlue_140 : decode cX35_reckonGlue 140 = .ok (.aload_n 0, 1) := dc_42 (by decide +kernel)
theorem dX35_reckonGlue_141 : decode cX35_reckonGlue 141 = .ok (.iload_n 1, 1) := dc_27 (by decide +kernel)
theorem dX35_reckonGlue_142 : decode cX35_reckonGlue 142 = .ok (.iconst 3, 1) := dc_6 (by decide +kernel)
theorem dX35_reckonGlue_143 : decode cX35_reckonGlue 143 = .ok (.iadd, 1) := dc_96 (by decide +kernel)
theorem dX35_reckonGlue_144 : decode cX35_reckonGlue 144 = .ok (.invokevirtual 431, 3) := dc_182 (a := 1) (b := 175) (n := 431) (by decide +kernel)
theorem dX35_reckonGlue_147 : decode cX35_reckonGlue 147 = .ok (.i2l, 1) := dc_133 (by decide +kernel)
theorem dX35_reckonGlue_148 : decode cX35_reckonGlue 148 = .ok (.aload_n 0, 1) := dc_42 (by decide +kernel)
theorem dX35_reckonGlue_149 : decode cX35_reckonGlue 149 = .ok (.getfield 777, 3) := dc_180 (a := 3) (b := 9) (n := 777) (by decide +kernel)
theorem dX35_reckonGlue_152 : decode cX35_reckonGlue 152 = .ok (.i2l, 1) := dc_133 (by decide +kernel)
theorem dX35_reckonGlue_153 : decode cX35_reckonGlue 153 = .ok (.bipush 36, 2) := dc_16 (a := 36) (v := 36) (by decide +kernel)
theorem dX35_reckonGlue_155 : decode cX35_reckonGlue 155 = .ok (.ldc2_w 738, 3) := dc_20 (a := 2) (b := 226) (n := 738) (by decide +kernel)
theorem dX35_reckonGlue_158 : decode cX35_reckonGlue 158 = .ok (.invokevirtual 1263, 3) := dc_182 (a := 4) (b := 239) (n := 1263) (by decide +kernel)
theorem dX35_reckonGlue_161 : decode cX35_reckonGlue 161 = .ok (.istore 10, 2) := dc_54 (a := 10) (by decide +kernel)
theorem dX35_reckonGlue_163 : decode cX35_reckonGlue 163 = .ok (.aload_n 0, 1) := dc_42 (by decide +kernel)
theorem dX35_reckonGlue_164 : decode cX35_reckonGlue 164 = .ok (.iload 4, 2) := dc_21 (a := 4) (by decide +kernel)
theorem dX35_reckonGlue_166 : decode cX35_reckonGlue 166 = .ok (.putfield 768, 3) := dc_181 (a := 3) (b := 0) (n := 768) (by decide +kernel)
theorem dX35_reckonGlue_169 : decode cX35_reckonGlue 169 = .ok (.aload_n 0, 1) := dc_42 (by decide +kernel)
theorem dX35_reckonGlue_170 : decode cX35_reckonGlue 170 = .ok (.iload 8, 2) := dc_21 (a := 8) (by decide +kernel)
theorem dX35_reckonGlue_172 : decode cX35_reckonGlue 172 = .ok (.putfield 771, 3) := dc_181 (a := 3) (b := 3) (n := 771) (by decide +kernel)
theorem dX35_reckonGlue_175 : decode cX35_reckonGlue 175 = .ok (.aload_n 0, 1) := dc_42 (by decide +kernel)
theorem dX35_reckonGlue_176 : decode cX35_reckonGlue 176 = .ok (.iload 9, 2) := dc_21 (a := 9) (by decide +kernel)
theorem dX35_reckonGlue_178 : decode cX35_reckonGlue 178 = .ok (.putfield 774, 3) := dc_181 (a := 3) (b := 6) (n := 774) (by decide +kernel)
theorem dX35_reckonGlue_181 : decode cX35_reckonGlue 181 = .ok (.aload_n 0, 1) := dc_42 (by decide +kernel)
theorem dX35_reckonGlue_182 : decode cX35_reckonGlue 182 = .ok (.iload 10, 2) := dc_21 (a := 10) (by decide +kernel)
theorem dX35_reckonGlue_184 : decode cX35_reckonGlue 184 = .ok (.putfield 777, 3) := dc_181 (a := 3) (b := 9) (n := 777) (by decide +kernel)
theorem dX35_reckonGlue_187 : decode cX35_reckonGlue 187 = .ok (.goto 93, 3) := dc_167 (a := 0) (b := 93) (v := 93) (by decide +kernel)
theorem dX35_reckonGlue_190 : decode cX35_reckonGlue 190 = .ok (.aload_n 0, 1) := dc_42 (by decide +kernel)
theorem dX35_reckonGlue_191 : decode cX35_reckonGlue 191 = .ok (.invokevirtual 518, 3) := dc_182 (a := 2) (b := 6) (n := 518) (by decide +kernel)
theorem dX35_reckonGlue_194 : decode cX35_reckonGlue 194 = .ok (.i2l, 1) := dc_133 (by decide +kernel)
theorem dX35_reckonGlue_195 : decode cX35_reckonGlue 195 = .ok (.lstore 4, 2) := dc_55 (a := 4) (by decide +kernel)
theorem dX35_reckonGlue_197 : decode cX35_reckonGlue 197 = .ok (.aload_n 0, 1) := dc_42 (by decide +kernel)
theorem dX35_reckonGlue_198 : decode cX35_reckonGlue 198 = .ok (.getfield 321, 3) := dc_180 (a := 1) (b := 65) (n := 321) (by decide +kernel)
theorem dX35_reckonGlue_201 : decode cX35_reckonGlue 201 = .ok (.ifCond .le 4, 3) := dc_158 (a := 0) (b := 4) (v := 4) (by decide +kernel)
theorem dX35_reckonGlue_204 : decode cX35_reckonGlue 204 = .ok (.return_, 1) := dc_177 (by decide +kernel)
theorem dX35_reckonGlue_205 : decode cX35_reckonGlue 205 = .ok (.aload_n 0, 1) := dc_42 (by decide +kernel)
theorem dX35_reckonGlue_206 : decode cX35_reckonGlue 206 = .ok (.aload_n 0, 1) := dc_42 (by decide +kernel)
theorem dX35_reckonGlue_207 : decode cX35_reckonGlue 207 = .ok (.aload_n 0, 1) := dc_42 (by decide +kernel)
theorem dX35_reckonGlue_208 : decode cX35_reckonGlue 208 = .ok (.iload_n 1, 1) := dc_27 (by decide +kernel)
theorem dX35_reckonGlue_209 : decode cX35_reckonGlue 209 = .ok (.invokevirtual 431, 3) := dc_182 (a := 1) (b := 175) (n := 431) (by decide +kernel)
theorem dX35_reckonGlue_212 : decode cX35_reckonGlue 212 = .ok (.i2l, 1) := dc_133 (by decide +kernel)
theorem dX35_reckonGlue_213 : decode cX35_reckonGlue 213 = .ok (.lload 4, 2) := dc_22 (a := 4) (by decide +kernel)
theorem dX35_reckonGlue_215 : decode cX35_reckonGlue 215 = .ok (.iload_n 2, 1) := dc_28 (by decide +kernel)
theorem dX35_reckonGlue_216 : decode cX35_reckonGlue 216 = .ok (.ldc2_w 738, 3) := dc_20 (a := 2) (b := 226) (n := 738) (by decide +kernel)
theorem dX35_reckonGlue_219 : decode cX35_reckonGlue 219 = .ok (.invokevirtual 1263, 3) := dc_182 (a := 4) (b := 239) (n := 1263) (by decide +kernel)
theorem dX35_reckonGlue_222 : decode cX35_reckonGlue 222 = .ok (.putfield 768, 3) := dc_181 (a := 3) (b := 0) (n := 768) (by decide +kernel)
theorem dX35_reckonGlue_225 : decode cX35_reckonGlue 225 = .ok (.aload_n 0, 1) := dc_42 (by decide +kernel)
theorem dX35_reckonGlue_226 : decode cX35_reckonGlue 226 = .ok (.aload_n 0, 1) := dc_42 (by decide +kernel)
theorem dX35_reckonGlue_227 : decode cX35_reckonGlue 227 = .ok (.aload_n 0, 1) := dc_42 (by decide +kernel)
theorem dX35_reckonGlue_228 : decode cX35_reckonGlue 228 = .ok (.iload_n 1, 1) := dc_27 (by decide +kernel)
theorem dX35_reckonGlue_229 : decode cX35_reckonGlue 229 = .ok (.iconst 1, 1) := dc_4 (by decide +kernel)
theorem dX35_reckonGlue_230 : decode cX35_reckonGlue 230 = .ok (.iadd, 1) := dc_96 (by decide +kernel)
theorem dX35_reckonGlue_231 : decode cX35_reckonGlue 231 = .ok (.invokevirtual 431, 3) := dc_182 (a := 1) (b := 175) (n := 431) (by decide +kernel)
theorem dX35_reckonGlue_234 : decode cX35_reckonGlue 234 = .ok (.i2l, 1) := dc_133 (by decide +kernel)
theorem dX35_reckonGlue_235 : decode cX35_reckonGlue 235 = .ok (.lload 4, 2) := dc_22 (a := 4) (by decide +kernel)
theorem dX35_reckonGlue_237 : decode cX35_reckonGlue 237 = .ok (.iload_n 2, 1) := dc_28 (by decide +kernel)
theorem dX35_reckonGlue_238 : decode cX35_reckonGlue 238 = .ok (.ldc2_w 738, 3) := dc_20 (a := 2) (b := 226) (n := 738) (by decide +kernel)
theorem dX35_reckonGlue_241 : decode cX35_reckonGlue 241 = .ok (.invokevirtual 1263, 3) := dc_182 (a := 4) (b := 239) (n := 1263) (by decide +kernel)
theorem dX35_reckonGlue_244 : decode cX35_reckonGlue 244 = .ok (.putfield 771, 3) := dc_181 (a := 3) (b := 3) (n := 771) (by decide +kernel)
theorem dX35_reckonGlue_247 : decode cX35_reckonGlue 247 = .ok (.aload_n 0, 1) := dc_42 (by decide +kernel)
theorem dX35_reckonGlue_248 : decode cX35_reckonGlue 248 = .ok (.aload_n 0, 1) := dc_42 (by decide +kernel)
theorem dX35_reckonGlue_249 : decode cX35_reckonGlue 249 = .ok (.iload_n 1, 1) := dc_27 (by decide +kernel)
theorem dX35_reckonGlue_250 : decode cX35_reckonGlue 250 = .ok (.iconst 2, 1) := dc_5 (by decide +kernel)
theorem dX35_reckonGlue_251 : decode cX35_reckonGlue 251 = .ok (.iadd, 1) := dc_96 (by decide +kernel)
theorem dX35_reckonGlue_252 : decode cX35_reckonGlue 252 = .ok (.invokevirtual 431, 3) := dc_182 (a := 1) (b := 175) (n := 431) (by decide +kernel)
theorem dX35_reckonGlue_255 : decode cX35_reckonGlue 255 = .ok (.putfield 774, 3) := dc_181 (a := 3) (b := 6) (n := 774) (by decide +kernel)
theorem dX35_reckonGlue_258 : decode cX35_reckonGlue 258 = .ok (.aload_n 0, 1) := dc_42 (by decide +kernel)
theorem dX35_reckonGlue_259 : decode cX35_reckonGlue 259 = .ok (.aload_n 0, 1) := dc_42 (by decide +kernel)
theorem dX35_reckonGlue_260 : decode cX35_reckonGlue 260 = .ok (.aload_n 0, 1) := dc_42 (by decide +kernel)
theorem dX35_reckonGlue_261 : decode cX35_reckonGlue 261 = .ok (.iload_n 1, 1) := dc_27 (by decide +kernel)
theorem dX35_reckonGlue_262 : decode cX35_reckonGlue 262 = .ok (.iconst 3, 1) := dc_6 (by decide +kernel)
theorem dX35_reckonGlue_263 : decode cX35_reckonGlue 263 = .ok (.iadd, 1) := dc_96 (by decide +kernel)
theorem dX35_reckonGlue_264 : decode cX35_reckonGlue 264 = .ok (.invokevirtual 431, 3) := dc_182 (a := 1) (b := 175) (n := 431) (by decide +kernel)
theorem dX35_reckonGlue_267 : decode cX35_reckonGlue 267 = .ok (.i2l, 1) := dc_133 (by decide +kernel)
theorem dX35_reckonGlue_268 : decode cX35_reckonGlue 268 = .ok (.lload 4, 2) := dc_22 (a := 4) (by decide +kernel)
theorem dX35_reckonGlue_270 : decode cX35_reckonGlue 270 = .ok (.iload_n 2, 1) := dc_28 (by decide +kernel)
theorem dX35_reckonGlue_271 : decode cX35_reckonGlue 271 = .ok (.ldc2_w 738, 3) := dc_20 (a := 2) (b := 226) (n := 738) (by decide +kernel)
theorem dX35_reckonGlue_274 : decode cX35_reckonGlue 274 = .ok (.invokevirtual 1263, 3) := dc_182 (a := 4) (b := 239) (n := 1263) (by decide +kernel)
theorem dX35_reckonGlue_277 : decode cX35_reckonGlue 277 = .ok (.putfield 777, 3) := dc_181 (a := 3) (b := 9) (n := 777) (by decide +kernel)
theorem dX35_reckonGlue_280 : decode cX35_reckonGlue 280 = .ok (.aload_n 0, 1) := dc_42 (by decide +kernel)
theorem dX35_reckonGlue_281 : decode cX35_reckonGlue 281 = .ok (.getfield 321, 3) := dc_180 (a := 1) (b := 65) (n := 321) (by decide +kernel)
theorem dX35_reckonGlue_284 : decode cX35_reckonGlue 284 = .ok (.ifCond .ne 23, 3) := dc_154 (a := 0) (b := 23) (v := 23) (by decide +kernel)
theorem dX35_reckonGlue_287 : decode cX35_reckonGlue 287 = .ok (.aload_n 0, 1) := dc_42 (by decide +kernel)
theorem dX35_reckonGlue_288 : decode cX35_reckonGlue 288 = .ok (.getfield 771, 3) := dc_180 (a := 3) (b := 3) (n := 771) (by decide +kernel)
theorem dX35_reckonGlue_291 : decode cX35_reckonGlue 291 = .ok (.ifCond .lt 10, 3) := dc_155 (a := 0) (b := 10) (v := 10) (by decide +kernel)
theorem dX35_reckonGlue_294 : decode cX35_reckonGlue 294 = .ok (.aload_n 0, 1) := dc_42 (by decide +kernel)
theorem dX35_reckonGlue_295 : decode cX35_reckonGlue 295 = .ok (.getfield 777, 3) := dc_180 (a := 3) (b := 9) (n := 777) (by decide +kernel)
theorem dX35_reckonGlue_298 : decode cX35_reckonGlue 298 = .ok (.ifCond .ge 9, 3) := dc_156 (a := 0) (b := 9) (v := 9) (by decide +kernel)
theorem dX35_reckonGlue_301 : decode cX35_reckonGlue 301 = .ok (.aload_n 0, 1) := dc_42 (by decide +kernel)
theorem dX35_reckonGlue_302 : decode cX35_reckonGlue 302 = .ok (.bipush 7, 2) := dc_16 (a := 7) (v := 7) (by decide +kernel)
theorem dX35_reckonGlue_304 : decode cX35_reckonGlue 304 = .ok (.invokevirtual 428, 3) := dc_182 (a := 1) (b := 172) (n := 428) (by decide +kernel)
theorem dX35_reckonGlue_307 : decode cX35_reckonGlue 307 = .ok (.aload_n 0, 1) := dc_42 (by decide +kernel)
theorem dX35_reckonGlue_308 : decode cX35_reckonGlue 308 = .ok (.iload_n 1, 1) := dc_27 (by decide +kernel)
theorem dX35_reckonGlue_309 : decode cX35_reckonGlue 309 = .ok (.iload_n 3, 1) := dc_29 (by decide +kernel)
theorem dX35_reckonGlue_310 : decode cX35_reckonGlue 310 = .ok (.invokevirtual 1245, 3) := dc_182 (a := 4) (b := 221) (n := 1245) (by decide +kernel)
theorem dX35_reckonGlue_313 : decode cX35_reckonGlue 313 = .ok (.return_, 1) := dc_177 (by decide +kernel)
def fX35_reckonGlue_b307 (N : Nat) (sE : Nat → Int32 → eH → Option (Unit × eH)) (sN : Nat → eH → Option (Int32 × eH)) (l0 : Nat) (l1 : Int32) (l3 : Int32) (h : eH) : Option (Unit × eH) :=
  (k_ok 34 h l0).bind fun _ =>
  (fX35_setGlue_2 N l0 l1 l3 h).bind fun q2 =>
  some ((), q2.2)
theorem pX35_reckonGlue_b307 {w : eW} {d : Nat} {dr : Nat} (hd : dr + 12 ≤ d + 1) (hdr : 12 ≤ dr) {N : Nat} {sE : Nat → Int32 → eH → Option (Unit × eH)} {sN : Nat → eH → Option (Int32 × eH)} (hsE : ∀ a t0 h q, sE a t0 h = some q → wm w dr YX35_expand [.ref a, .int t0] h (e_is (e_rn c_V q))) (hsN : ∀ a h q, sN a h = some q → wm w dr YX35_number [.ref a] h (e_is (e_rn c_I q))) {l0 : Nat} {l1 : Int32} {l3 : Int32} {h : eH} {q} (hf : fX35_reckonGlue_b307 N sE sN l0 l1 l3 h = some q) : wp w (d + 1) YX35_reckonGlue 307 [some (.ref l0), some (.int l1), none, some (.int l3), none, none, none, none, none, none, none] [] h (e_is (e_rn c_V q)) := by
  unfold fX35_reckonGlue_b307 at hf
  refine w_aload_n dX35_reckonGlue_307 rfl rfl ?_
  refine w_iload_n dX35_reckonGlue_308 rfl rfl ?_
  refine w_iload_n dX35_reckonGlue_309 rfl rfl ?_
  obtain ⟨_, b1, hf⟩ := Option.bind_eq_some_iff.mp hf
  refine x_cnV hf (e_stV (Yc := YX35_setGlue_2) (ci := 34) (av := [.int l1, .int l3]) (st := []) dX35_reckonGlue_310 q5979 mX35_setGlue_2 rfl (k_ok_some b1).1 (k_ok_some b1).2) mX35_setGlue_2.2.2.1 mX35_setGlue_2.2.2.2.2.1 (Nat.le_of_ble_eq_true rfl) (Nat.le_of_ble_eq_true rfl) (fun q hq => pX35_setGlue_2 (by omega) hq) (fun q2 hf => ?_)
  cases hf
  exact w_vret dX35_reckonGlue_313 rfl rfl
def fX35_reckonGlue_b301 (N : Nat) (sE : Nat → Int32 → eH → Option (Unit × eH)) (sN : Nat → eH → Option (Int32 × eH)) (l0 : Nat) (l1 : Int32) (l3 : Int32) (h : eH) : Option (Unit × eH) :=
  (k_ok 34 h l0).bind fun _ =>
  (fX35_fail l0 (7 : Int32) h).bind fun q2 =>
  fX35_reckonGlue_b307 N sE sN l0 l1 l3 q2.2
theorem pX35_reckonGlue_b301 {w : eW} {d : Nat} {dr : Nat} (hd : dr + 12 ≤ d + 1) (hdr : 12 ≤ dr) {N : Nat} {sE : Nat → Int32 → eH → Option (Unit × eH)} {sN : Nat → eH → Option (Int32 × eH)} (hsE : ∀ a t0 h q, sE a t0 h = some q → wm w dr YX35_expand [.ref a, .int t0] h (e_is (e_rn c_V q))) (hsN : ∀ a h q, sN a h = some q → wm w dr YX35_number [.ref a] h (e_is (e_rn c_I q))) {l0 : Nat} {l1 : Int32} {l3 : Int32} {h : eH} {q} (hf : fX35_reckonGlue_b301 N sE sN l0 l1 l3 h = some q) : wp w (d + 1) YX35_reckonGlue 301 [some (.ref l0), some (.int l1), none, some (.int l3), none, none, none, none, none, none, none] [] h (e_is (e_rn c_V q)) := by
  unfold fX35_reckonGlue_b301 at hf
  refine w_aload_n dX35_reckonGlue_301 rfl rfl ?_
  refine w_bipush dX35_reckonGlue_302 (v := 7) (by decide) ?_
  obtain ⟨_, b1, hf⟩ := Option.bind_eq_some_iff.mp hf
  refine x_cnV hf (e_stV (Yc := YX35_fail) (ci := 34) (av := [.int (7 : Int32)]) (st := []) dX35_reckonGlue_304 q5109 mX35_fail rfl (k_ok_some b1).1 (k_ok_some b1).2) mX35_fail.2.2.1 mX35_fail.2.2.2.2.1 (Nat.le_of_ble_eq_true rfl) (Nat.le_of_ble_eq_true rfl) (fun q hq => pX35_fail (by omega) hq) (fun q2 hf => ?_)
  exact (pX35_reckonGlue_b307 hd hdr hsE hsN hf).to ⟨rfl, rfl, rfl, trivial⟩
def fX35_reckonGlue_b280 (N : Nat) (sE : Nat → Int32 → eH → Option (Unit × eH)) (sN : Nat → eH → Option (Int32 × eH)) (l0 : Nat) (l1 : Int32) (l3 : Int32) (h : eH) : Option (Unit × eH) :=
  (g_I 34 h l0 46).bind fun x1 =>
  if ¬ x1 = 0 then
    fX35_reckonGlue_b307 N sE sN l0 l1 l3 h
  else
    (g_I 34 h l0 115).bind fun x4 =>
    if x4 < 0 then
      fX35_reckonGlue_b301 N sE sN l0 l1 l3 h
    else
      (g_I 34 h l0 117).bind fun x7 =>
      if 0 ≤ x7 then
        fX35_reckonGlue_b307 N sE sN l0 l1 l3 h
      else
        fX35_reckonGlue_b301 N sE sN l0 l1 l3 h
theorem pX35_reckonGlue_b280 {w : eW} {d : Nat} {dr : Nat} (hd : dr + 12 ≤ d + 1) (hdr : 12 ≤ dr) {N : Nat} {sE : Nat → Int32 → eH → Option (Unit × eH)} {sN : Nat → eH → Option (Int32 × eH)} (hsE : ∀ a t0 h q, sE a t0 h = some q → wm w dr YX35_expand [.ref a, .int t0] h (e_is (e_rn c_V q))) (hsN : ∀ a h q, sN a h = some q → wm w dr YX35_number [.ref a] h (e_is (e_rn c_I q))) {l0 : Nat} {l1 : Int32} {l3 : Int32} {h : eH} {q} (hf : fX35_reckonGlue_b280 N sE sN l0 l1 l3 h = some q) : wp w (d + 1) YX35_reckonGlue 280 [some (.ref l0), some (.int l1), none, some (.int l3), none, none, none, none, none, none, none] [] h (e_is (e_rn c_V q)) := by
  unfold fX35_reckonGlue_b280 at hf
  refine w_aload_n dX35_reckonGlue_280 rfl rfl ?_
  obtain ⟨x1, b2, hf⟩ := Option.bind_eq_some_iff.mp hf
  refine GX35_321 b2 dX35_reckonGlue_281 rfl ?_
  refine w_if_ne 307 dX35_reckonGlue_284 (by decide) (fun c3 => ?_) (fun c3 => ?_)
  · replace hf := (if_pos (show ¬ x1 = 0 from c3)).symm.trans hf
    exact (pX35_reckonGlue_b307 hd hdr hsE hsN hf).to ⟨rfl, rfl, rfl, trivial⟩
  · replace hf := (if_neg (show ¬ (¬ x1 = 0) from (fun z => z c3))).symm.trans hf
    refine w_aload_n dX35_reckonGlue_287 rfl rfl ?_
    obtain ⟨x4, b5, hf⟩ := Option.bind_eq_some_iff.mp hf
    refine GX35_771 b5 dX35_reckonGlue_288 rfl ?_
    refine w_if_lt 301 dX35_reckonGlue_291 (by decide) (fun c6 => ?_) (fun c6 => ?_)
    · replace hf := (if_pos (show x4 < 0 from c6)).symm.trans hf
      exact (pX35_reckonGlue_b301 hd hdr hsE hsN hf).to ⟨rfl, rfl, rfl, trivial⟩
    · replace hf := (if_neg (show ¬ (x4 < 0) from c6)).symm.trans hf
      refine w_aload_n dX35_reckonGlue_294 rfl rfl ?_
      obtain ⟨x7, b8, hf⟩ := Option.bind_eq_some_iff.mp hf
      refine GX35_777 b8 dX35_reckonGlue_295 rfl ?_
      refine w_if_ge 307 dX35_reckonGlue_298 (by decide) (fun c9 => ?_) (fun c9 => ?_)
      · replace hf := (if_pos (show 0 ≤ x7 from c9)).symm.trans hf
        exact (pX35_reckonGlue_b307 hd hdr hsE hsN hf).to ⟨rfl, rfl, rfl, trivial⟩
      · replace hf := (if_neg (show ¬ (0 ≤ x7) from c9)).symm.trans hf
        exact (pX35_reckonGlue_b301 hd hdr hsE hsN hf).to ⟨rfl, rfl, rfl, trivial⟩
def fX35_reckonGlue_b137 (N : Nat) (sE : Nat → Int32 → eH → Option (Unit × eH)) (sN : Nat → eH → Option (Int32 × eH)) (l0 : Nat) (l1 : Int32) (l3 : Int32) (l4 : Int32) (l8 : Int32) (s0 : Int32) (h : eH) : Option (Unit × eH) :=
  (k_ok 34 h l0).bind fun _ =>
  (fX35_now l0 (l1 + (3 : Int32)) h).bind fun q2 =>
  (g_I 34 q2.2 l0 117).bind fun x3 =>
  (k_ok 34 q2.2 l0).bind fun _ =>
  (fX35_reckoned l0 (q2.1).toInt64 (x3).toInt64 (36 : Int32) (1073741823 : Int64) q2.2).bind fun q6 =>
  (p_V 34 q6.2 l0 114 (.int l4)).bind fun h7 =>
  (p_V 34 h7 l0 115 (.int l8)).bind fun h9 =>
  (p_V 34 h9 l0 116 (.int s0)).bind fun h11 =>
  (p_V 34 h11 l0 117 (.int q6.1)).bind fun h13 =>
  fX35_reckonGlue_b280 N sE sN l0 l1 l3 h13
theorem pX35_reckonGlue_b137 {w : eW} {d : Nat} {dr : Nat} (hd : dr + 12 ≤ d + 1) (hdr : 12 ≤ dr) {N : Nat} {sE : Nat → Int32 → eH → Option (Unit × eH)} {sN : Nat → eH → Option (Int32 × eH)} (hsE : ∀ a t0 h q, sE a t0 h = some q → wm w dr YX35_expand [.ref a, .int t0] h (e_is (e_rn c_V q))) (hsN : ∀ a h q, sN a h = some q → wm w dr YX35_number [.ref a] h (e_is (e_rn c_I q))) {l0 : Nat} {l1 : Int32} {l3 : Int32} {l4 : Int32} {l8 : Int32} {s0 : Int32} {h : eH} {q} (hf : fX35_reckonGlue_b137 N sE sN l0 l1 l3 l4 l8 s0 h = some q) : wp w (d + 1) YX35_reckonGlue 137 [some (.ref l0), some (.int l1), none, some (.int l3), some (.int l4), none, none, none, some (.int l8), none, none] [.int s0] h (e_is (e_rn c_V q)) := by
  unfold fX35_reckonGlue_b137 at hf
  refine w_istore dX35_reckonGlue_137 (by decide) (ls' := [some (.ref l0), some (.int l1), none, some (.int l3), some (.int l4), none, none, none, some (.int l8), some (.int s0), none]) rfl ?_
  refine w_aload_n dX35_reckonGlue_139 rfl rfl ?_
  refine w_aload_n dX35_reckonGlue_140 rfl rfl ?_
  refine w_iload_n dX35_reckonGlue_141 rfl rfl ?_
  refine w_iconst dX35_reckonGlue_142 (v := 3) (by decide) ?_
  refine w_iadd dX35_reckonGlue_143 ?_
  obtain ⟨_, b1, hf⟩ := Option.bind_eq_some_iff.mp hf
  refine x_cnI hf (e_stV (Yc := YX35_now) (ci := 34) (av := [.int (l1 + (3 : Int32))]) (st := [.ref l0]) dX35_reckonGlue_144 q5097 mX35_now rfl (k_ok_some b1).1 (k_ok_some b1).2) mX35_now.2.2.1 mX35_now.2.2.2.2.1 (Nat.le_of_ble_eq_true rfl) (Nat.le_of_ble_eq_true rfl) (fun q hq => pX35_now (by omega) hq) (fun q2 hf => ?_)
  refine w_i2l dX35_reckonGlue_147 ?_
  refine w_aload_n dX35_reckonGlue_148 rfl rfl ?_
  obtain ⟨x3, b4, hf⟩ := Option.bind_eq_some_iff.mp hf
  refine GX35_777 b4 dX35_reckonGlue_149 rfl ?_
  refine w_i2l dX35_reckonGlue_152 ?_
  refine w_bipush dX35_reckonGlue_153 (v := 36) (by decide) ?_
  refine w_ldc2 dX35_reckonGlue_155 q5416 ?_
  obtain ⟨_, b5, hf⟩ := Option.bind_eq_some_iff.mp hf
  refine x_cnI hf (e_stV (Yc := YX35_reckoned) (ci := 34) (av := [.long (q2.1).toInt64, .long (x3).toInt64, .int (36 : Int32), .long (1073741823 : Int64)]) (st := []) dX35_reckonGlue_158 q5975 mX35_reckoned rfl (k_ok_some b5).1 (k_ok_some b5).2) mX35_reckoned.2.2.1 mX35_reckoned.2.2.2.2.1 (Nat.le_of_ble_eq_true rfl) (Nat.le_of_ble_eq_true rfl) (fun q hq => pX35_reckoned (by omega) hq) (fun q6 hf => ?_)
  refine w_istore dX35_reckonGlue_161 (by decide) (ls' := [some (.ref l0), some (.int l1), none, some (.int l3), some (.int l4), none, none, none, some (.int l8), some (.int s0), some (.int q6.1)]) rfl ?_
  refine w_aload_n dX35_reckonGlue_163 rfl rfl ?_
  refine w_iload dX35_reckonGlue_164 rfl ?_
  obtain ⟨h7, b8, hf⟩ := Option.bind_eq_some_iff.mp hf
  refine SX35_768 b8 dX35_reckonGlue_166 rfl ?_
  refine w_aload_n dX35_reckonGlue_169 rfl rfl ?_
  refine w_iload dX35_reckonGlue_170 rfl ?_
  obtain ⟨h9, b10, hf⟩ := Option.bind_eq_some_iff.mp hf
  refine SX35_771 b10 dX35_reckonGlue_172 rfl ?_
  refine w_aload_n dX35_reckonGlue_175 rfl rfl ?_
  refine w_iload dX35_reckonGlue_176 rfl ?_
  obtain ⟨h11, b12, hf⟩ := Option.bind_eq_some_iff.mp hf
  refine SX35_774 b12 dX35_reckonGlue_178 rfl ?_
  refine w_aload_n dX35_reckonGlue_181 rfl rfl ?_
  refine w_iload dX35_reckonGlue_182 rfl ?_
  obtain ⟨h13, b14, hf⟩ := Option.bind_eq_some_iff.mp hf
  refine SX35_777 b14 dX35_reckonGlue_184 rfl ?_
  refine w_goto 280 dX35_reckonGlue_187 (by decide) ?_
  exact (pX35_reckonGlue_b280 hd hdr hsE hsN hf).to ⟨rfl, rfl, rfl, trivial⟩
def fX35_reckonGlue_b117 (N : Nat) (sE : Nat → Int32 → eH → Option (Unit × eH)) (sN : Nat → eH → Option (Int32 × eH)) (l0 : Nat) (l1 : Int32) (l3 : Int32) (l4 : Int32) (l6 : Int32) (s0 : Int32) (h : eH) : Option (Unit × eH) :=
  (g_I 34 h l0 116).bind fun x1 =>
  if l6 ≤ x1 then
    (g_I 34 h l0 116).bind fun x4 =>
    fX35_reckonGlue_b137 N sE sN l0 l1 l3 l4 s0 x4 h
  else
    fX35_reckonGlue_b137 N sE sN l0 l1 l3 l4 s0 l6 h
theorem pX35_reckonGlue_b117 {w : eW} {d : Nat} {dr : Nat} (hd : dr + 12 ≤ d + 1) (hdr : 12 ≤ dr) {N : Nat} {sE : Nat → Int32 → eH → Option (Unit × eH)} {sN : Nat → eH → Option (Int32 × eH)} (hsE : ∀ a t0 h q, sE a t0 h = some q → wm w dr YX35_expand [.ref a, .int t0] h (e_is (e_rn c_V q))) (hsN : ∀ a h q, sN a h = some q → wm w dr YX35_number [.ref a] h (e_is (e_rn c_I q))) {l0 : Nat} {l1 : Int32} {l3 : Int32} {l4 : Int32} {l6 : Int32} {s0 : Int32} {h : eH} {q} (hf : fX35_reckonGlue_b117 N sE sN l0 l1 l3 l4 l6 s0 h = some q) : wp w (d + 1) YX35_reckonGlue 117 [some (.ref l0), some (.int l1), none, some (.int l3), some (.int l4), none, some (.int l6), none, none, none, none] [.int s0] h (e_is (e_rn c_V q)) := by
  unfold fX35_reckonGlue_b117 at hf
  refine w_istore dX35_reckonGlue_117 (by decide) (ls' := [some (.ref l0), some (.int l1), none, some (.int l3), some (.int l4), none, some (.int l6), none, some (.int s0), none, none]) rfl ?_
  refine w_iload dX35_reckonGlue_119 rfl ?_
  refine w_aload_n dX35_reckonGlue_121 rfl rfl ?_
  obtain ⟨x1, b2, hf⟩ := Option.bind_eq_some_iff.mp hf
  refine GX35_774 b2 dX35_reckonGlue_122 rfl ?_
  refine w_icmp_le 133 dX35_reckonGlue_125 (by decide) (fun c3 => ?_) (fun c3 => ?_)
  · replace hf := (if_pos (show l6 ≤ x1 from c3)).symm.trans hf
    refine w_aload_n dX35_reckonGlue_133 rfl rfl ?_
    obtain ⟨x4, b5, hf⟩ := Option.bind_eq_some_iff.mp hf
    refine GX35_774 b5 dX35_reckonGlue_134 rfl ?_
    exact (pX35_reckonGlue_b137 hd hdr hsE hsN hf).to ⟨rfl, rfl, rfl, rfl, rfl, trivial⟩
  · replace hf := (if_neg (show ¬ (l6 ≤ x1) from c3)).symm.trans hf
    refine w_iload dX35_reckonGlue_128 rfl ?_
    refine w_goto 137 dX35_reckonGlue_130 (by decide) ?_
    exact (pX35_reckonGlue_b137 hd hdr hsE hsN hf).to ⟨rfl, rfl, rfl, rfl, rfl, trivial⟩
def fX35_reckonGlue_b72 (N : Nat) (sE : Nat → Int32 → eH → Option (Unit × eH)) (sN : Nat → eH → Option (Int32 × eH)) (l0 : Nat) (l1 : Int32) (l3 : Int32) (l4 : Int32) (l5 : Int32) (l6 : Int32) (s0 : Int32) (h : eH) : Option (Unit × eH) :=
  if s0 = 0 then
    (g_I 34 h l0 116).bind fun x2 =>
    if l6 ≤ x2 then
      (g_I 34 h l0 115).bind fun x5 =>
      fX35_reckonGlue_b117 N sE sN l0 l1 l3 l4 l6 x5 h
    else
      fX35_reckonGlue_b117 N sE sN l0 l1 l3 l4 l6 l5 h
  else
    (g_I 34 h l0 115).bind fun x7 =>
    (k_ok 34 h l0).bind fun _ =>
    (fX35_reckoned l0 (l5).toInt64 (x7).toInt64 (36 : Int32) (1073741823 : Int64) h).bind fun q10 =>
    fX35_reckonGlue_b117 N sE sN l0 l1 l3 l4 l6 q10.1 q10.2
theorem pX35_reckonGlue_b72 {w : eW} {d : Nat} {dr : Nat} (hd : dr + 12 ≤ d + 1) (hdr : 12 ≤ dr) {N : Nat} {sE : Nat → Int32 → eH → Option (Unit × eH)} {sN : Nat → eH → Option (Int32 × eH)} (hsE : ∀ a t0 h q, sE a t0 h = some q → wm w dr YX35_expand [.ref a, .int t0] h (e_is (e_rn c_V q))) (hsN : ∀ a h q, sN a h = some q → wm w dr YX35_number [.ref a] h (e_is (e_rn c_I q))) {l0 : Nat} {l1 : Int32} {l3 : Int32} {l4 : Int32} {l5 : Int32} {l6 : Int32} {s0 : Int32} {h : eH} {q} (hf : fX35_reckonGlue_b72 N sE sN l0 l1 l3 l4 l5 l6 s0 h = some q) : wp w (d + 1) YX35_reckonGlue 72 [some (.ref l0), some (.int l1), none, some (.int l3), some (.int l4), some (.int l5), some (.int l6), none, none, none, none] [.int s0] h (e_is (e_rn c_V q)) := by
  unfold fX35_reckonGlue_b72 at hf
  refine w_istore dX35_reckonGlue_72 (by decide) (ls' := [some (.ref l0), some (.int l1), none, some (.int l3), some (.int l4), some (.int l5), some (.int l6), some (.int s0), none, none, none]) rfl ?_
  refine w_iload dX35_reckonGlue_74 rfl ?_
  refine w_if_eq 99 dX35_reckonGlue_76 (by decide) (fun c1 => ?_) (fun c1 => ?_)
  · replace hf := (if_pos (show s0 = 0 from c1)).symm.trans hf
    refine w_iload dX35_reckonGlue_99 rfl ?_
    refine w_aload_n dX35_reckonGlue_101 rfl rfl ?_
    obtain ⟨x2, b3, hf⟩ := Option.bind_eq_some_iff.mp hf
    refine GX35_774 b3 dX35_reckonGlue_102 rfl ?_
    refine w_icmp_le 113 dX35_reckonGlue_105 (by decide) (fun c4 => ?_) (fun c4 => ?_)
    · replace hf := (if_pos (show l6 ≤ x2 from c4)).symm.trans hf
      refine w_aload_n dX35_reckonGlue_113 rfl rfl ?_
      obtain ⟨x5, b6, hf⟩ := Option.bind_eq_some_iff.mp hf
      refine GX35_771 b6 dX35_reckonGlue_114 rfl ?_
      exact (pX35_reckonGlue_b117 hd hdr hsE hsN hf).to ⟨rfl, rfl, rfl, rfl, rfl, trivial⟩
    · replace hf := (if_neg (show ¬ (l6 ≤ x2) from c4)).symm.trans hf
      refine w_iload dX35_reckonGlue_108 rfl ?_
      refine w_goto 117 dX35_reckonGlue_110 (by decide) ?_
      exact (pX35_reckonGlue_b117 hd hdr hsE hsN hf).to ⟨rfl, rfl, rfl, rfl, rfl, trivial⟩
  · replace hf := (if_neg (show ¬ (s0 = 0) from c1)).symm.trans hf
    refine w_aload_n dX35_reckonGlue_79 rfl rfl ?_
    refine w_iload dX35_reckonGlue_80 rfl ?_
    refine w_i2l dX35_reckonGlue_82 ?_
    refine w_aload_n dX35_reckonGlue_83 rfl rfl ?_
    obtain ⟨x7, b8, hf⟩ := Option.bind_eq_some_iff.mp hf
    refine GX35_771 b8 dX35_reckonGlue_84 rfl ?_
    refine w_i2l dX35_reckonGlue_87 ?_
    refine w_bipush dX35_reckonGlue_88 (v := 36) (by decide) ?_
    refine w_ldc2 dX35_reckonGlue_90 q5416 ?_
    obtain ⟨_, b9, hf⟩ := Option.bind_eq_some_iff.mp hf
    refine x_cnI hf (e_stV (Yc := YX35_reckoned) (ci := 34) (av := [.long (l5).toInt64, .long (x7).toInt64, .int (36 : Int32), .long (1073741823 : Int64)]) (st := []) dX35_reckonGlue_93 q5975 mX35_reckoned rfl (k_ok_some b9).1 (k_ok_some b9).2) mX35_reckoned.2.2.1 mX35_reckoned.2.2.2.2.1 (Nat.le_of_ble_eq_true rfl) (Nat.le_of_ble_eq_true rfl) (fun q hq => pX35_reckoned (by omega) hq) (fun q10 hf => ?_)
    refine w_goto 117 dX35_reckonGlue_96 (by decide) ?_
    exact (pX35_reckonGlue_b117 hd hdr hsE hsN hf).to ⟨rfl, rfl, rfl, rfl, rfl, trivial⟩
def fX35_reckonGlue (N : Nat) (sE : Nat → Int32 → eH → Option (Unit × eH)) (sN : Nat → eH → Option (Int32 × eH)) (this : Nat) (p0 : Int32) (p1 : Int32) (p2 : Int32) (h : eH) : Option (Unit × eH) :=
  if ¬ p1 = (36 : Int32) then
    (k_ok 34 h this).bind fun _ =>
    (sN this h).bind fun q3 =>
    (g_I 34 q3.2 this 46).bind fun x4 =>
    if x4 ≤ 0 then
      (k_ok 34 q3.2 this).bind fun _ =>
      (fX35_now this p0 q3.2).bind fun q8 =>
      (k_ok 34 q8.2 this).bind fun _ =>
      (fX35_reckoned this (q8.1).toInt64 (q3.1).toInt64 p1 (1073741823 : Int64) q8.2).bind fun q10 =>
      (p_V 34 q10.2 this 114 (.int q10.1)).bind fun h11 =>
      (k_ok 34 h11 this).bind fun _ =>
      (fX35_now this (p0 + (1 : Int32)) h11).bind fun q14 =>
      (k_ok 34 q14.2 this).bind fun _ =>
      (fX35_reckoned this (q14.1).toInt64 (q3.1).toInt64 p1 (1073741823 : Int64) q14.2).bind fun q16 =>
      (p_V 34 q16.2 this 115 (.int q16.1)).bind fun h17 =>
      (k_ok 34 h17 this).bind fun _ =>
      (fX35_now this (p0 + (2 : Int32)) h17).bind fun q20 =>
      (p_V 34 q20.2 this 116 (.int q20.1)).bind fun h21 =>
      (k_ok 34 h21 this).bind fun _ =>
      (fX35_now this (p0 + (3 : Int32)) h21).bind fun q24 =>
      (k_ok 34 q24.2 this).bind fun _ =>
      (fX35_reckoned this (q24.1).toInt64 (q3.1).toInt64 p1 (1073741823 : Int64) q24.2).bind fun q26 =>
      (p_V 34 q26.2 this 117 (.int q26.1)).bind fun h27 =>
      fX35_reckonGlue_b280 N sE sN this p0 p2 h27
    else
      some ((), q3.2)
  else
    (k_ok 34 h this).bind fun _ =>
    (fX35_readGlue N sE sN this h).bind fun q30 =>
    (g_I 34 q30.2 this 46).bind fun x31 =>
    if x31 ≤ 0 then
      (k_ok 34 q30.2 this).bind fun _ =>
      (fX35_now this p0 q30.2).bind fun q35 =>
      (g_I 34 q35.2 this 114).bind fun x36 =>
      (k_ok 34 q35.2 this).bind fun _ =>
      (fX35_reckoned this (q35.1).toInt64 (x36).toInt64 (36 : Int32) (1073741823 : Int64) q35.2).bind fun q39 =>
      (k_ok 34 q39.2 this).bind fun _ =>
      (fX35_now this (p0 + (1 : Int32)) q39.2).bind fun q41 =>
      (k_ok 34 q41.2 this).bind fun _ =>
      (fX35_now this (p0 + (2 : Int32)) q41.2).bind fun q43 =>
      (g_I 34 q43.2 this 116).bind fun x44 =>
      if ¬ q43.1 = x44 then
        fX35_reckonGlue_b72 N sE sN this p0 p2 q39.1 q41.1 q43.1 (0 : Int32) q43.2
      else
        fX35_reckonGlue_b72 N sE sN this p0 p2 q39.1 q41.1 q43.1 (1 : Int32) q43.2
    else
      some ((), q30.2)
theorem pX35_reckonGlue {w : eW} {d : Nat} {dr : Nat} (hd : dr + 12 ≤ d) (hdr : 12 ≤ dr) {N : Nat} {sE : Nat → Int32 → eH → Option (Unit × eH)} {sN : Nat → eH → Option (Int32 × eH)} (hsE : ∀ a t0 h q, sE a t0 h = some q → wm w dr YX35_expand [.ref a, .int t0] h (e_is (e_rn c_V q))) (hsN : ∀ a h q, sN a h = some q → wm w dr YX35_number [.ref a] h (e_is (e_rn c_I q))) {this : Nat} {p0 : Int32} {p1 : Int32} {p2 : Int32} {h : eH} {q} (hf : fX35_reckonGlue N sE sN this p0 p1 p2 h = some q) : wm w d YX35_reckonGlue [.ref this, .int p0, .int p1, .int p2] h (e_is (e_rn c_V q)) := by
  obtain ⟨d, rfl⟩ : ∃ e, d = e + 1 := ⟨d - 1, by omega⟩
  show wp w (d + 1) YX35_reckonGlue 0 [some (.ref this), some (.int p0), some (.int p1), some (.int p2), none, none, none, none, none, none, none] [] h _
  unfold fX35_reckonGlue at hf
  refine w_iload_n dX35_reckonGlue_0 rfl rfl ?_
  refine w_bipush dX35_reckonGlue_1 (v := 36) (by decide) ?_
  refine w_icmp_ne 190 dX35_reckonGlue_3 (by decide) (fun c1 => ?_) (fun c1 => ?_)
  · replace hf := (if_pos (show ¬ p1 = (36 : Int32) from c1)).symm.trans hf
    refine w_aload_n dX35_reckonGlue_190 rfl rfl ?_
    obtain ⟨_, b2, hf⟩ := Option.bind_eq_some_iff.mp hf
    refine x_cnI hf (e_stV (Yc := YX35_number) (ci := 34) (av := []) (st := []) dX35_reckonGlue_191 q5217 mX35_number rfl (k_ok_some b2).1 (k_ok_some b2).2) mX35_number.2.2.1 mX35_number.2.2.2.2.1 (Nat.le_of_ble_eq_true rfl) (Nat.le_of_ble_eq_true rfl) (fun q hq => (hsN _ _ _ hq).up (by omega)) (fun q3 hf => ?_)
    refine w_i2l dX35_reckonGlue_194 ?_
    refine w_lstore dX35_reckonGlue_195 (by decide) (ls' := [some (.ref this), some (.int p0), some (.int p1), some (.int p2), some (.long (q3.1).toInt64), none, none, none, none, none, none]) rfl ?_
    refine w_aload_n dX35_reckonGlue_197 rfl rfl ?_
    obtain ⟨x4, b5, hf⟩ := Option.bind_eq_some_iff.mp hf
    refine GX35_321 b5 dX35_reckonGlue_198 rfl ?_
    refine w_if_le 205 dX35_reckonGlue_201 (by decide) (fun c6 => ?_) (fun c6 => ?_)
    · replace hf := (if_pos (show x4 ≤ 0 from c6)).symm.trans hf
      refine w_aload_n dX35_reckonGlue_205 rfl rfl ?_
      refine w_aload_n dX35_reckonGlue_206 rfl rfl ?_
      refine w_aload_n dX35_reckonGlue_207 rfl rfl ?_
      refine w_iload_n dX35_reckonGlue_208 rfl rfl ?_
      obtain ⟨_, b7, hf⟩ := Option.bind_eq_some_iff.mp hf
      refine x_cnI hf (e_stV (Yc := YX35_now) (ci := 34) (av := [.int p0]) (st := [.ref this, .ref this]) dX35_reckonGlue_209 q5097 mX35_now rfl (k_ok_some b7).1 (k_ok_some b7).2) mX35_now.2.2.1 mX35_now.2.2.2.2.1 (Nat.le_of_ble_eq_true rfl) (Nat.le_of_ble_eq_true rfl) (fun q hq => pX35_now (by omega) hq) (fun q8 hf => ?_)
      refine w_i2l dX35_reckonGlue_212 ?_
      refine w_lload dX35_reckonGlue_213 rfl ?_
      refine w_iload_n dX35_reckonGlue_215 rfl rfl ?_
      refine w_ldc2 dX35_reckonGlue_216 q5416 ?_
      obtain ⟨_, b9, hf⟩ := Option.bind_eq_some_iff.mp hf
      refine x_cnI hf (e_stV (Yc := YX35_reckoned) (ci := 34) (av := [.long (q8.1).toInt64, .long (q3.1).toInt64, .int p1, .long (1073741823 : Int64)]) (st := [.ref this]) dX35_reckonGlue_219 q5975 mX35_reckoned rfl (k_ok_some b9).1 (k_ok_some b9).2) mX35_reckoned.2.2.1 mX35_reckoned.2.2.2.2.1 (Nat.le_of_ble_eq_true rfl) (Nat.le_of_ble_eq_true rfl) (fun q hq => pX35_reckoned (by omega) hq) (fun q10 hf => ?_)
      obtain ⟨h11, b12, hf⟩ := Option.bind_eq_some_iff.mp hf
      refine SX35_768 b12 dX35_reckonGlue_222 rfl ?_
      refine w_aload_n dX35_reckonGlue_225 rfl rfl ?_
      refine w_aload_n dX35_reckonGlue_226 rfl rfl ?_
      refine w_aload_n dX35_reckonGlue_227 rfl rfl ?_
      refine w_iload_n dX35_reckonGlue_228 rfl rfl ?_
      refine w_iconst dX35_reckonGlue_229 (v := 1) (by decide) ?_
      refine w_iadd dX35_reckonGlue_230 ?_
      obtain ⟨_, b13, hf⟩ := Option.bind_eq_some_iff.mp hf
      refine x_cnI hf (e_stV (Yc := YX35_now) (ci := 34) (av := [.int (p0 + (1 : Int32))]) (st := [.ref this, .ref this]) dX35_reckonGlue_231 q5097 mX35_now rfl (k_ok_some b13).1 (k_ok_some b13).2) mX35_now.2.2.1 mX35_now.2.2.2.2.1 (Nat.le_of_ble_eq_true rfl) (Nat.le_of_ble_eq_true rfl) (fun q hq => pX35_now (by omega) hq) (fun q14 hf => ?_)
      refine w_i2l dX35_reckonGlue_234 ?_
      refine w_lload dX35_reckonGlue_235 rfl ?_
      refine w_iload_n dX35_reckonGlue_237 rfl rfl ?_
      refine w_ldc2 dX35_reckonGlue_238 q5416 ?_
      obtain ⟨_, b15, hf⟩ := Option.bind_eq_some_iff.mp hf
      refine x_cnI hf (e_stV (Yc := YX35_reckoned) (ci := 34) (av := [.long (q14.1).toInt64, .long (q3.1).toInt64, .int p1, .long (1073741823 : Int64)]) (st := [.ref this]) dX35_reckonGlue_241 q5975 mX35_reckoned rfl (k_ok_some b15).1 (k_ok_some b15).2) mX35_reckoned.2.2.1 mX35_reckoned.2.2.2.2.1 (Nat.le_of_ble_eq_true rfl) (Nat.le_of_ble_eq_true rfl) (fun q hq => pX35_reckoned (by omega) hq) (fun q16 hf => ?_)
      obtain ⟨h17, b18, hf⟩ := Option.bind_eq_some_iff.mp hf
      refine SX35_771 b18 dX35_reckonGlue_244 rfl ?_
      refine w_aload_n dX35_reckonGlue_247 rfl rfl ?_
      refine w_aload_n dX35_reckonGlue_248 rfl rfl ?_
      refine w_iload_n dX35_reckonGlue_249 rfl rfl ?_
      refine w_iconst dX35_reckonGlue_250 (v := 2) (by decide) ?_
      refine w_iadd dX35_reckonGlue_251 ?_
      obtain ⟨_, b19, hf⟩ := Option.bind_eq_some_iff.mp hf
      refine x_cnI hf (e_stV (Yc := YX35_now) (ci := 34) (av := [.int (p0 + (2 : Int32))]) (st := [.ref this]) dX35_reckonGlue_252 q5097 mX35_now rfl (k_ok_some b19).1 (k_ok_some b19).2) mX35_now.2.2.1 mX35_now.2.2.2.2.1 (Nat.le_of_ble_eq_true rfl) (Nat.le_of_ble_eq_true rfl) (fun q hq => pX35_now (by omega) hq) (fun q20 hf => ?_)
      obtain ⟨h21, b22, hf⟩ := Option.bind_eq_some_iff.mp hf
      refine SX35_774 b22 dX35_reckonGlue_255 rfl ?_
      refine w_aload_n dX35_reckonGlue_258 rfl rfl ?_
      refine w_aload_n dX35_reckonGlue_259 rfl rfl ?_
      refine w_aload_n dX35_reckonGlue_260 rfl rfl ?_
      refine w_iload_n dX35_reckonGlue_261 rfl rfl ?_
      refine w_iconst dX35_reckonGlue_262 (v := 3) (by decide) ?_
      refine w_iadd dX35_reckonGlue_263 ?_
      obtain ⟨_, b23, hf⟩ := Option.bind_eq_some_iff.mp hf
      refine x_cnI hf (e_stV (Yc := YX35_now) (ci := 34) (av := [.int (p0 + (3 : Int32))]) (st := [.ref this, .ref this]) dX35_reckonGlue_264 q5097 mX35_now rfl (k_ok_some b23).1 (k_ok_some b23).2) mX35_now.2.2.1 mX35_now.2.2.2.2.1 (Nat.le_of_ble_eq_true rfl) (Nat.le_of_ble_eq_true rfl) (fun q hq => pX35_now (by omega) hq) (fun q24 hf => ?_)
      refine w_i2l dX35_reckonGlue_267 ?_
      refine w_lload dX35_reckonGlue_268 rfl ?_
      refine w_iload_n dX35_reckonGlue_270 rfl rfl ?_
      refine w_ldc2 dX35_reckonGlue_271 q5416 ?_
      obtain ⟨_, b25, hf⟩ := Option.bind_eq_some_iff.mp hf
      refine x_cnI hf (e_stV (Yc := YX35_reckoned) (ci := 34) (av := [.long (q24.1).toInt64, .long (q3.1).toInt64, .int p1, .long (1073741823 : Int64)]) (st := [.ref this]) dX35_reckonGlue_274 q5975 mX35_reckoned rfl (k_ok_some b25).1 (k_ok_some b25).2) mX35_reckoned.2.2.1 mX35_reckoned.2.2.2.2.1 (Nat.le_of_ble_eq_true rfl) (Nat.le_of_ble_eq_true rfl) (fun q hq => pX35_reckoned (by omega) hq) (fun q26 hf => ?_)
      obtain ⟨h27, b28, hf⟩ := Option.bind_eq_some_iff.mp hf
      refine SX35_777 b28 dX35_reckonGlue_277 rfl ?_
      exact (pX35_reckonGlue_b280 hd hdr hsE hsN hf).to ⟨rfl, rfl, rfl, trivial⟩
    · replace hf := (if_neg (show ¬ (x4 ≤ 0) from c6)).symm.trans hf
      cases hf
      exact w_vret dX35_reckonGlue_204 rfl rfl
  · replace hf := (if_neg (show ¬ (¬ p1 = (36 : Int32)) from (fun z => z c1))).symm.trans hf
    refine w_aload_n dX35_reckonGlue_6 rfl rfl ?_
    obtain ⟨_, b29, hf⟩ := Option.bind_eq_some_iff.mp hf
    refine x_cnV hf (e_stV (Yc := YX35_readGlue) (ci := 34) (av := []) (st := []) dX35_reckonGlue_7 q5969 mX35_readGlue rfl (k_ok_some b29).1 (k_ok_some b29).2) mX35_readGlue.2.2.1 mX35_readGlue.2.2.2.2.1 (Nat.le_of_ble_eq_true rfl) (Nat.le_of_ble_eq_true rfl) (fun q hq => pX35_readGlue (by omega) hdr hsE hsN hq) (fun q30 hf => ?_)
    refine w_aload_n dX35_reckonGlue_10 rfl rfl ?_
    obtain ⟨x31, b32, hf⟩ := Option.bind_eq_some_iff.mp hf
    refine GX35_321 b32 dX35_reckonGlue_11 rfl ?_
    refine w_if_le 18 dX35_reckonGlue_14 (by decide) (fun c33 => ?_) (fun c33 => ?_)
    · replace hf := (if_pos (show x31 ≤ 0 from c33)).symm.trans hf
      refine w_aload_n dX35_reckonGlue_18 rfl rfl ?_
      refine w_aload_n dX35_reckonGlue_19 rfl rfl ?_
      refine w_iload_n dX35_reckonGlue_20 rfl rfl ?_
      obtain ⟨_, b34, hf⟩ := Option.bind_eq_some_iff.mp hf
      refine x_cnI hf (e_stV (Yc := YX35_now) (ci := 34) (av := [.int p0]) (st := [.ref this]) dX35_reckonGlue_21 q5097 mX35_now rfl (k_ok_some b34).1 (k_ok_some b34).2) mX35_now.2.2.1 mX35_now.2.2.2.2.1 (Nat.le_of_ble_eq_true rfl) (Nat.le_of_ble_eq_true rfl) (fun q hq => pX35_now (by omega) hq) (fun q35 hf => ?_)
      refine w_i2l dX35_reckonGlue_24 ?_
      refine w_aload_n dX35_reckonGlue_25 rfl rfl ?_
      obtain ⟨x36, b37, hf⟩ := Option.bind_eq_some_iff.mp hf
      refine GX35_768 b37 dX35_reckonGlue_26 rfl ?_
      refine w_i2l dX35_reckonGlue_29 ?_
      refine w_bipush dX35_reckonGlue_30 (v := 36) (by decide) ?_
      refine w_ldc2 dX35_reckonGlue_32 q5416 ?_
      obtain ⟨_, b38, hf⟩ := Option.bind_eq_some_iff.mp hf
      refine x_cnI hf (e_stV (Yc := YX35_reckoned) (ci := 34) (av := [.long (q35.1).toInt64, .long (x36).toInt64, .int (36 : Int32), .long (1073741823 : Int64)]) (st := []) dX35_reckonGlue_35 q5975 mX35_reckoned rfl (k_ok_some b38).1 (k_ok_some b38).2) mX35_reckoned.2.2.1 mX35_reckoned.2.2.2.2.1 (Nat.le_of_ble_eq_true rfl) (Nat.le_of_ble_eq_true rfl) (fun q hq => pX35_reckoned (by omega) hq) (fun q39 hf => ?_)
      refine w_istore dX35_reckonGlue_38 (by decide) (ls' := [some (.ref this), some (.int p0), some (.int p1), some (.int p2), some (.int q39.1), none, none, none, none, none, none]) rfl ?_
      refine w_aload_n dX35_reckonGlue_40 rfl rfl ?_
      refine w_iload_n dX35_reckonGlue_41 rfl rfl ?_
      refine w_iconst dX35_reckonGlue_42 (v := 1) (by decide) ?_
      refine w_iadd dX35_reckonGlue_43 ?_
      obtain ⟨_, b40, hf⟩ := Option.bind_eq_some_iff.mp hf
      refine x_cnI hf (e_stV (Yc := YX35_now) (ci := 34) (av := [.int (p0 + (1 : Int32))]) (st := []) dX35_reckonGlue_44 q5097 mX35_now rfl (k_ok_some b40).1 (k_ok_some b40).2) mX35_now.2.2.1 mX35_now.2.2.2.2.1 (Nat.le_of_ble_eq_true rfl) (Nat.le_of_ble_eq_true rfl) (fun q hq => pX35_now (by omega) hq) (fun q41 hf => ?_)
      refine w_istore dX35_reckonGlue_47 (by decide) (ls' := [some (.ref this), some (.int p0), some (.int p1), some (.int p2), some (.int q39.1), some (.int q41.1), none, none, none, none, none]) rfl ?_
      refine w_aload_n dX35_reckonGlue_49 rfl rfl ?_
      refine w_iload_n dX35_reckonGlue_50 rfl rfl ?_
      refine w_iconst dX35_reckonGlue_51 (v := 2) (by decide) ?_
      refine w_iadd dX35_reckonGlue_52 ?_
      obtain ⟨_, b42, hf⟩ := Option.bind_eq_some_iff.mp hf
      refine x_cnI hf (e_stV (Yc := YX35_now) (ci := 34) (av := [.int (p0 + (2 : Int32))]) (st := []) dX35_reckonGlue_53 q5097 mX35_now rfl (k_ok_some b42).1 (k_ok_some b42).2) mX35_now.2.2.1 mX35_now.2.2.2.2.1 (Nat.le_of_ble_eq_true rfl) (Nat.le_of_ble_eq_true rfl) (fun q hq => pX35_now (by omega) hq) (fun q43 hf => ?_)
      refine w_istore dX35_reckonGlue_56 (by decide) (ls' := [some (.ref this), some (.int p0), some (.int p1), some (.int p2), some (.int q39.1), some (.int q41.1), some (.int q43.1), none, none, none, none]) rfl ?_
      refine w_iload dX35_reckonGlue_58 rfl ?_
      refine w_aload_n dX35_reckonGlue_60 rfl rfl ?_
      obtain ⟨x44, b45, hf⟩ := Option.bind_eq_some_iff.mp hf
      refine GX35_774 b45 dX35_reckonGlue_61 rfl ?_
      refine w_icmp_ne 71 dX35_reckonGlue_64 (by decide) (fun c46 => ?_) (fun c46 => ?_)
      · replace hf := (if_pos (show ¬ q43.1 = x44 from c46)).symm.trans hf
        refine w_iconst dX35_reckonGlue_71 (v := 0) (by decide) ?_
        exact (pX35_reckonGlue_b72 hd hdr hsE hsN hf).to ⟨rfl, rfl, rfl, rfl, rfl, rfl, trivial⟩
      · replace hf := (if_neg (show ¬ (¬ q43.1 = x44) from (fun z => z c46))).symm.trans hf
        refine w_iconst dX35_reckonGlue_67 (v := 1) (by decide) ?_
        refine w_goto 72 dX35_reckonGlue_68 (by decide) ?_
        exact (pX35_reckonGlue_b72 hd hdr hsE hsN hf).to ⟨rfl, rfl, rfl, rfl, rfl, rfl, trivial⟩
    · replace hf := (if_neg (show ¬ (x31 ≤ 0) from c33)).symm.trans hf
      cases hf
      exact w_vret dX35_reckonGlue_17 rfl rfl
