set_option maxRecDepth 100000
set_option maxHeartbeats 4000000
theorem q466 : (Jvm.Cond.initialized "TypeHouseModel") ∈ lw_all := lw_g (lw_at lw_m1 41 rfl) rfl
theorem q467 : (Jvm.Cond.initialized "TypeHouseModel$Hyphens") ∈ lw_all := lw_g (lw_at lw_m1 42 rfl) rfl
theorem q468 : (Jvm.Cond.initialized "TypeHouseModel$Breaker") ∈ lw_all := lw_g (lw_at lw_m1 43 rfl) rfl
theorem q469 : (Jvm.Cond.initialized "TypeHouseModel$Device") ∈ lw_all := lw_g (lw_at lw_m1 44 rfl) rfl
theorem q4116 : (Jvm.Cond.instanceMethod ({ cls := "TypeHouseModel", name := "<init>", desc := "()V" } : Jvm.MethodName)) ∈ lw_all := lw_g (lw_at lw_m16 91 rfl) rfl
theorem q4117 : (Jvm.Cond.code ({ cls := "TypeHouseModel", name := "<init>", desc := "()V" } : Jvm.MethodName) prog_37_method_1_code (1 : Nat) (Option.none : Option Jvm.ClassFile.FieldType)) ∈ lw_all := lw_g (lw_at lw_m16 92 rfl) rfl
theorem q4118 : (Jvm.Cond.methodLink "TypeHouseModel" (1 : Nat) ({ cls := "java/lang/Object", name := "<init>", desc := "()V" } : Jvm.MethodName)) ∈ lw_all := lw_g (lw_at lw_m16 93 rfl) rfl
theorem q4119 : (Jvm.Cond.constant "TypeHouseModel" (7 : Nat) (65536 : Int32)) ∈ lw_all := lw_g (lw_at lw_m16 94 rfl) rfl
theorem q4120 : (Jvm.Cond.constant "TypeHouseModel" (14 : Nat) (100000 : Int32)) ∈ lw_all := lw_g (lw_at lw_m16 95 rfl) rfl
theorem q4121 : (Jvm.Cond.classLink "TypeHouseModel" (19 : Nat) "TypeHouseModel$Metrics") ∈ lw_all := lw_g (lw_at lw_m16 96 rfl) rfl
theorem q4122 : (Jvm.Cond.arrayOver (Jvm.ClassFile.FieldType.object "TypeHouseModel$Metrics")) ∈ lw_tbl := lw_at lw_m16 97 rfl
theorem q4123 : (Jvm.Cond.classLink "TypeHouseModel" (25 : Nat) "TypeHouseModel$Hyphens") ∈ lw_all := lw_g (lw_at lw_m16 98 rfl) rfl
theorem q4124 : (Jvm.Cond.instantiable "TypeHouseModel$Hyphens" (28 : Nat)) ∈ lw_all := lw_g (lw_at lw_m16 99 rfl) rfl
theorem q4125 : (Jvm.Cond.methodLink "TypeHouseModel" (27 : Nat) ({ cls := "TypeHouseModel$Hyphens", name := "<init>", desc := "()V" } : Jvm.MethodName)) ∈ lw_all := lw_g (lw_at lw_m16 100 rfl) rfl
theorem q4126 : (Jvm.Cond.instanceMethod ({ cls := "TypeHouseModel$Hyphens", name := "<init>", desc := "()V" } : Jvm.MethodName)) ∈ lw_all := lw_g (lw_at lw_m16 101 rfl) rfl
theorem q4127 : (Jvm.Cond.code ({ cls := "TypeHouseModel$Hyphens", name := "<init>", desc := "()V" } : Jvm.MethodName) prog_40_method_1_code (2 : Nat) (Option.none : Option Jvm.ClassFile.FieldType)) ∈ lw_all := lw_g (lw_at lw_m16 102 rfl) rfl
theorem q4128 : (Jvm.Cond.methodLink "TypeHouseModel$Hyphens" (1 : Nat) ({ cls := "java/lang/Object", name := "<init>", desc := "()V" } : Jvm.MethodName)) ∈ lw_all := lw_g (lw_at lw_m16 103 rfl) rfl
theorem q4129 : (Jvm.Cond.constant "TypeHouseModel$Hyphens" (20 : Nat) (65536 : Int32)) ∈ lw_all := lw_g (lw_at lw_m16 104 rfl) rfl
theorem q4130 : (Jvm.Cond.constant "TypeHouseModel$Hyphens" (55 : Nat) (65537 : Int32)) ∈ lw_all := lw_g (lw_at lw_m16 105 rfl) rfl
theorem q4131 : (Jvm.Cond.fieldLink "TypeHouseModel$Hyphens" (7 : Nat) "TypeHouseModel$Hyphens" "letterOf" "[I") ∈ lw_all := lw_g (lw_at lw_m16 106 rfl) rfl
theorem q4132 : (Jvm.Cond.fieldLink "TypeHouseModel$Hyphens" (13 : Nat) "TypeHouseModel$Hyphens" "left" "I") ∈ lw_all := lw_g (lw_at lw_m16 107 rfl) rfl
theorem q4133 : (Jvm.Cond.fieldLink "TypeHouseModel$Hyphens" (17 : Nat) "TypeHouseModel$Hyphens" "right" "I") ∈ lw_all := lw_g (lw_at lw_m16 108 rfl) rfl
theorem q4136 : (Jvm.Cond.fieldLink "TypeHouseModel$Hyphens" (21 : Nat) "TypeHouseModel$Hyphens" "text" "[I") ∈ lw_all := lw_g (lw_at lw_m16 111 rfl) rfl
theorem q4139 : (Jvm.Cond.fieldLink "TypeHouseModel$Hyphens" (24 : Nat) "TypeHouseModel$Hyphens" "letterFrom" "[I") ∈ lw_all := lw_g (lw_at lw_m16 114 rfl) rfl
theorem q4140 : (Jvm.Cond.fieldLink "TypeHouseModel$Hyphens" (27 : Nat) "TypeHouseModel$Hyphens" "numberFrom" "[I") ∈ lw_all := lw_g (lw_at lw_m16 115 rfl) rfl
theorem q4141 : (Jvm.Cond.fieldLink "TypeHouseModel$Hyphens" (30 : Nat) "TypeHouseModel$Hyphens" "begins" "[Z") ∈ lw_all := lw_g (lw_at lw_m16 116 rfl) rfl
theorem q4142 : (Jvm.Cond.fieldLink "TypeHouseModel$Hyphens" (34 : Nat) "TypeHouseModel$Hyphens" "ends" "[Z") ∈ lw_all := lw_g (lw_at lw_m16 117 rfl) rfl
theorem q4143 : (Jvm.Cond.fieldLink "TypeHouseModel$Hyphens" (37 : Nat) "TypeHouseModel$Hyphens" "letters" "[I") ∈ lw_all := lw_g (lw_at lw_m16 118 rfl) rfl
theorem q4144 : (Jvm.Cond.fieldLink "TypeHouseModel$Hyphens" (40 : Nat) "TypeHouseModel$Hyphens" "numbers" "[I") ∈ lw_all := lw_g (lw_at lw_m16 119 rfl) rfl
theorem q4146 : (Jvm.Cond.fieldLink "TypeHouseModel$Hyphens" (43 : Nat) "TypeHouseModel$Hyphens" "toldFrom" "[I") ∈ lw_all := lw_g (lw_at lw_m16 121 rfl) rfl
theorem q4147 : (Jvm.Cond.fieldLink "TypeHouseModel$Hyphens" (46 : Nat) "TypeHouseModel$Hyphens" "toldLetters" "[I") ∈ lw_all := lw_g (lw_at lw_m16 122 rfl) rfl
theorem q4148 : (Jvm.Cond.fieldLink "TypeHouseModel$Hyphens" (49 : Nat) "TypeHouseModel$Hyphens" "hyphens" "[Z") ∈ lw_all := lw_g (lw_at lw_m16 123 rfl) rfl
theorem q4153 : (Jvm.Cond.fieldLink "TypeHouseModel$Hyphens" (52 : Nat) "TypeHouseModel$Hyphens" "readLetters" "[I") ∈ lw_all := lw_g (lw_at lw_m16 128 rfl) rfl
theorem q4154 : (Jvm.Cond.fieldLink "TypeHouseModel$Hyphens" (56 : Nat) "TypeHouseModel$Hyphens" "readNumbers" "[I") ∈ lw_all := lw_g (lw_at lw_m16 129 rfl) rfl
theorem q4155 : (Jvm.Cond.fieldLink "TypeHouseModel$Hyphens" (59 : Nat) "TypeHouseModel$Hyphens" "readHyphens" "[Z") ∈ lw_all := lw_g (lw_at lw_m16 130 rfl) rfl
theorem q4157 : (Jvm.Cond.fieldLink "TypeHouseModel$Hyphens" (62 : Nat) "TypeHouseModel$Hyphens" "word" "[I") ∈ lw_all := lw_g (lw_at lw_m16 132 rfl) rfl
theorem q4158 : (Jvm.Cond.fieldLink "TypeHouseModel$Hyphens" (65 : Nat) "TypeHouseModel$Hyphens" "values" "[I") ∈ lw_all := lw_g (lw_at lw_m16 133 rfl) rfl
theorem q4161 : (Jvm.Cond.fieldLink "TypeHouseModel$Hyphens" (68 : Nat) "TypeHouseModel$Hyphens" "places" "[I") ∈ lw_all := lw_g (lw_at lw_m16 136 rfl) rfl
theorem q4220 : (Jvm.Cond.classLink "TypeHouseModel" (32 : Nat) "TypeHouseModel$Breaker") ∈ lw_all := lw_g (lw_at lw_m16 195 rfl) rfl
theorem q4221 : (Jvm.Cond.instantiable "TypeHouseModel$Breaker" (48 : Nat)) ∈ lw_all := lw_g (lw_at lw_m16 196 rfl) rfl
theorem q4222 : (Jvm.Cond.methodLinkNest "TypeHouseModel" (34 : Nat) ({ cls := "TypeHouseModel$Breaker", name := "<init>", desc := "()V" } : Jvm.MethodName) "TypeHouseModel") ∈ lw_tbl := lw_at lw_m16 197 rfl
theorem q4223 : (Jvm.Cond.instanceMethod ({ cls := "TypeHouseModel$Breaker", name := "<init>", desc := "()V" } : Jvm.MethodName)) ∈ lw_all := lw_g (lw_at lw_m16 198 rfl) rfl
theorem q4224 : (Jvm.Cond.code ({ cls := "TypeHouseModel$Breaker", name := "<init>", desc := "()V" } : Jvm.MethodName) prog_38_method_1_code (1 : Nat) (Option.none : Option Jvm.ClassFile.FieldType)) ∈ lw_all := lw_g (lw_at lw_m16 199 rfl) rfl
theorem q4225 : (Jvm.Cond.methodLink "TypeHouseModel$Breaker" (1 : Nat) ({ cls := "java/lang/Object", name := "<init>", desc := "()V" } : Jvm.MethodName)) ∈ lw_all := lw_g (lw_at lw_m16 200 rfl) rfl
theorem q4230 : (Jvm.Cond.fieldLink "TypeHouseModel$Breaker" (7 : Nat) "TypeHouseModel$Breaker" "kinds" "[I") ∈ lw_all := lw_g (lw_at lw_m16 205 rfl) rfl
theorem q4231 : (Jvm.Cond.fieldLink "TypeHouseModel$Breaker" (13 : Nat) "TypeHouseModel$Breaker" "widths" "[I") ∈ lw_all := lw_g (lw_at lw_m16 206 rfl) rfl
theorem q4232 : (Jvm.Cond.fieldLink "TypeHouseModel$Breaker" (16 : Nat) "TypeHouseModel$Breaker" "stretches" "[I") ∈ lw_all := lw_g (lw_at lw_m16 207 rfl) rfl
theorem q4233 : (Jvm.Cond.fieldLink "TypeHouseModel$Breaker" (19 : Nat) "TypeHouseModel$Breaker" "orders" "[I") ∈ lw_all := lw_g (lw_at lw_m16 208 rfl) rfl
theorem q4234 : (Jvm.Cond.fieldLink "TypeHouseModel$Breaker" (22 : Nat) "TypeHouseModel$Breaker" "shrinks" "[I") ∈ lw_all := lw_g (lw_at lw_m16 209 rfl) rfl
theorem q4235 : (Jvm.Cond.fieldLink "TypeHouseModel$Breaker" (25 : Nat) "TypeHouseModel$Breaker" "befores" "[I") ∈ lw_all := lw_g (lw_at lw_m16 210 rfl) rfl
theorem q4236 : (Jvm.Cond.fieldLink "TypeHouseModel$Breaker" (28 : Nat) "TypeHouseModel$Breaker" "behinds" "[I") ∈ lw_all := lw_g (lw_at lw_m16 211 rfl) rfl
theorem q4237 : (Jvm.Cond.fieldLink "TypeHouseModel$Breaker" (31 : Nat) "TypeHouseModel$Breaker" "replaces" "[I") ∈ lw_all := lw_g (lw_at lw_m16 212 rfl) rfl
theorem q4238 : (Jvm.Cond.fieldLink "TypeHouseModel$Breaker" (34 : Nat) "TypeHouseModel$Breaker" "settings" "[I") ∈ lw_all := lw_g (lw_at lw_m16 213 rfl) rfl
theorem q4242 : (Jvm.Cond.fieldLink "TypeHouseModel$Breaker" (37 : Nat) "TypeHouseModel$Breaker" "aroundWidth" "[I") ∈ lw_all := lw_g (lw_at lw_m16 217 rfl) rfl
theorem q4244 : (Jvm.Cond.fieldLink "TypeHouseModel$Breaker" (40 : Nat) "TypeHouseModel$Breaker" "aroundStretch" "[I") ∈ lw_all := lw_g (lw_at lw_m16 219 rfl) rfl
theorem q4246 : (Jvm.Cond.fieldLink "TypeHouseModel$Breaker" (43 : Nat) "TypeHouseModel$Breaker" "aroundOrder" "[I") ∈ lw_all := lw_g (lw_at lw_m16 221 rfl) rfl
theorem q4248 : (Jvm.Cond.fieldLink "TypeHouseModel$Breaker" (46 : Nat) "TypeHouseModel$Breaker" "aroundShrink" "[I") ∈ lw_all := lw_g (lw_at lw_m16 223 rfl) rfl
theorem q4255 : (Jvm.Cond.fieldLinkNest "TypeHouseModel" (392 : Nat) "TypeHouseModel$Breaker" "looks" "I" "TypeHouseModel") ∈ lw_tbl := lw_at lw_m16 230 rfl
theorem q4258 : (Jvm.Cond.fieldLink "TypeHouseModel$Breaker" (49 : Nat) "TypeHouseModel$Breaker" "place" "[I") ∈ lw_all := lw_g (lw_at lw_m16 233 rfl) rfl
theorem q4259 : (Jvm.Cond.fieldLink "TypeHouseModel$Breaker" (52 : Nat) "TypeHouseModel$Breaker" "lines" "[I") ∈ lw_all := lw_g (lw_at lw_m16 234 rfl) rfl
theorem q4260 : (Jvm.Cond.fieldLink "TypeHouseModel$Breaker" (55 : Nat) "TypeHouseModel$Breaker" "fits" "[I") ∈ lw_all := lw_g (lw_at lw_m16 235 rfl) rfl
theorem q4261 : (Jvm.Cond.fieldLink "TypeHouseModel$Breaker" (58 : Nat) "TypeHouseModel$Breaker" "totals" "[J") ∈ lw_all := lw_g (lw_at lw_m16 236 rfl) rfl
theorem q4262 : (Jvm.Cond.fieldLink "TypeHouseModel$Breaker" (62 : Nat) "TypeHouseModel$Breaker" "former" "[I") ∈ lw_all := lw_g (lw_at lw_m16 237 rfl) rfl
theorem q4263 : (Jvm.Cond.fieldLink "TypeHouseModel$Breaker" (65 : Nat) "TypeHouseModel$Breaker" "dead" "[Z") ∈ lw_all := lw_g (lw_at lw_m16 238 rfl) rfl
theorem q4266 : (Jvm.Cond.fieldLink "TypeHouseModel$Breaker" (69 : Nat) "TypeHouseModel$Breaker" "stretch" "[I") ∈ lw_all := lw_g (lw_at lw_m17 1 rfl) rfl
theorem q4274 : (Jvm.Cond.fieldLink "TypeHouseModel$Breaker" (72 : Nat) "TypeHouseModel$Breaker" "lineEnd" "[I") ∈ lw_all := lw_g (lw_at lw_m17 9 rfl) rfl
theorem q4276 : (Jvm.Cond.fieldLink "TypeHouseModel$Breaker" (75 : Nat) "TypeHouseModel$Breaker" "lineFirst" "[I") ∈ lw_all := lw_g (lw_at lw_m17 11 rfl) rfl
theorem q4278 : (Jvm.Cond.fieldLink "TypeHouseModel$Breaker" (78 : Nat) "TypeHouseModel$Breaker" "lineShort" "[I") ∈ lw_all := lw_g (lw_at lw_m17 13 rfl) rfl
theorem q4279 : (Jvm.Cond.fieldLink "TypeHouseModel$Breaker" (81 : Nat) "TypeHouseModel$Breaker" "lineBad" "[I") ∈ lw_all := lw_g (lw_at lw_m17 14 rfl) rfl
theorem q4280 : (Jvm.Cond.fieldLink "TypeHouseModel$Breaker" (84 : Nat) "TypeHouseModel$Breaker" "lineFit" "[I") ∈ lw_all := lw_g (lw_at lw_m17 15 rfl) rfl
theorem q4281 : (Jvm.Cond.fieldLink "TypeHouseModel$Breaker" (87 : Nat) "TypeHouseModel$Breaker" "lineTotal" "[J") ∈ lw_all := lw_g (lw_at lw_m17 16 rfl) rfl
theorem q4282 : (Jvm.Cond.fieldLink "TypeHouseModel$Breaker" (90 : Nat) "TypeHouseModel$Breaker" "widthBefore" "[I") ∈ lw_all := lw_g (lw_at lw_m17 17 rfl) rfl
theorem q4283 : (Jvm.Cond.fieldLink "TypeHouseModel$Breaker" (93 : Nat) "TypeHouseModel$Breaker" "stretchBefore" "[I") ∈ lw_all := lw_g (lw_at lw_m17 18 rfl) rfl
theorem q4284 : (Jvm.Cond.fieldLink "TypeHouseModel$Breaker" (96 : Nat) "TypeHouseModel$Breaker" "shrinkBefore" "[I") ∈ lw_all := lw_g (lw_at lw_m17 19 rfl) rfl
theorem q4382 : (Jvm.Cond.classLink "TypeHouseModel" (39 : Nat) "TypeHouseModel$Device") ∈ lw_all := lw_g (lw_at lw_m17 117 rfl) rfl
theorem q4383 : (Jvm.Cond.instantiable "TypeHouseModel$Device" (23 : Nat)) ∈ lw_all := lw_g (lw_at lw_m17 118 rfl) rfl
theorem q4384 : (Jvm.Cond.methodLinkNest "TypeHouseModel" (41 : Nat) ({ cls := "TypeHouseModel$Device", name := "<init>", desc := "()V" } : Jvm.MethodName) "TypeHouseModel") ∈ lw_tbl := lw_at lw_m17 119 rfl
theorem q4385 : (Jvm.Cond.instanceMethod ({ cls := "TypeHouseModel$Device", name := "<init>", desc := "()V" } : Jvm.MethodName)) ∈ lw_all := lw_g (lw_at lw_m17 120 rfl) rfl
theorem q4386 : (Jvm.Cond.code ({ cls := "TypeHouseModel$Device", name := "<init>", desc := "()V" } : Jvm.MethodName) prog_39_method_1_code (1 : Nat) (Option.none : Option Jvm.ClassFile.FieldType)) ∈ lw_all := lw_g (lw_at lw_m17 121 rfl) rfl
theorem q4387 : (Jvm.Cond.methodLink "TypeHouseModel$Device" (3 : Nat) ({ cls := "java/lang/Object", name := "<init>", desc := "()V" } : Jvm.MethodName)) ∈ lw_all := lw_g (lw_at lw_m17 122 rfl) rfl
theorem q4388 : (Jvm.Cond.constant "TypeHouseModel$Device" (27 : Nat) (360000 : Int32)) ∈ lw_all := lw_g (lw_at lw_m17 123 rfl) rfl
theorem q4389 : (Jvm.Cond.fieldLink "TypeHouseModel$Device" (9 : Nat) "TypeHouseModel$Device" "checks" "[I") ∈ lw_all := lw_g (lw_at lw_m17 124 rfl) rfl
theorem q4390 : (Jvm.Cond.fieldLink "TypeHouseModel$Device" (15 : Nat) "TypeHouseModel$Device" "sizes" "[I") ∈ lw_all := lw_g (lw_at lw_m17 125 rfl) rfl
theorem q4391 : (Jvm.Cond.fieldLink "TypeHouseModel$Device" (18 : Nat) "TypeHouseModel$Device" "designs" "[I") ∈ lw_all := lw_g (lw_at lw_m17 126 rfl) rfl
theorem q4392 : (Jvm.Cond.fieldLink "TypeHouseModel$Device" (21 : Nat) "TypeHouseModel$Device" "slotOf" "[I") ∈ lw_all := lw_g (lw_at lw_m17 127 rfl) rfl
theorem q4393 : (Jvm.Cond.fieldLink "TypeHouseModel$Device" (24 : Nat) "TypeHouseModel$Device" "counts" "[I") ∈ lw_all := lw_g (lw_at lw_m17 128 rfl) rfl
theorem q4397 : (Jvm.Cond.fieldLink "TypeHouseModel$Device" (28 : Nat) "TypeHouseModel$Device" "out" "[B") ∈ lw_all := lw_g (lw_at lw_m17 132 rfl) rfl
theorem q4400 : (Jvm.Cond.fieldLink "TypeHouseModel$Device" (32 : Nat) "TypeHouseModel$Device" "lastPage" "I") ∈ lw_all := lw_g (lw_at lw_m17 135 rfl) rfl
theorem q4404 : (Jvm.Cond.fieldLink "TypeHouseModel$Device" (36 : Nat) "TypeHouseModel$Device" "toldFonts" "[I") ∈ lw_all := lw_g (lw_at lw_m17 139 rfl) rfl
theorem q4407 : (Jvm.Cond.fieldLink "TypeHouseModel$Device" (39 : Nat) "TypeHouseModel$Device" "fonts" "[I") ∈ lw_all := lw_g (lw_at lw_m17 142 rfl) rfl
theorem q4409 : (Jvm.Cond.fieldLink "TypeHouseModel$Device" (42 : Nat) "TypeHouseModel$Device" "codes" "[I") ∈ lw_all := lw_g (lw_at lw_m17 144 rfl) rfl
theorem q4411 : (Jvm.Cond.fieldLink "TypeHouseModel$Device" (45 : Nat) "TypeHouseModel$Device" "xs" "[I") ∈ lw_all := lw_g (lw_at lw_m17 146 rfl) rfl
theorem q4413 : (Jvm.Cond.fieldLink "TypeHouseModel$Device" (48 : Nat) "TypeHouseModel$Device" "ys" "[I") ∈ lw_all := lw_g (lw_at lw_m17 148 rfl) rfl
theorem q4415 : (Jvm.Cond.fieldLink "TypeHouseModel$Device" (51 : Nat) "TypeHouseModel$Device" "heights" "[I") ∈ lw_all := lw_g (lw_at lw_m17 150 rfl) rfl
theorem q4417 : (Jvm.Cond.fieldLink "TypeHouseModel$Device" (54 : Nat) "TypeHouseModel$Device" "wide" "[I") ∈ lw_all := lw_g (lw_at lw_m17 152 rfl) rfl
theorem q4419 : (Jvm.Cond.fieldLink "TypeHouseModel$Device" (57 : Nat) "TypeHouseModel$Device" "rights" "[I") ∈ lw_all := lw_g (lw_at lw_m17 154 rfl) rfl
theorem q4420 : (Jvm.Cond.fieldLink "TypeHouseModel$Device" (60 : Nat) "TypeHouseModel$Device" "downs" "[I") ∈ lw_all := lw_g (lw_at lw_m17 155 rfl) rfl
theorem q4421 : (Jvm.Cond.fieldLink "TypeHouseModel$Device" (63 : Nat) "TypeHouseModel$Device" "six" "[I") ∈ lw_all := lw_g (lw_at lw_m17 156 rfl) rfl
theorem q4469 : (Jvm.Cond.constant "TypeHouseModel" (46 : Nat) (65537 : Int32)) ∈ lw_all := lw_g (lw_at lw_m17 204 rfl) rfl
theorem q4470 : (Jvm.Cond.constant "TypeHouseModel" (51 : Nat) (44000 : Int32)) ∈ lw_all := lw_g (lw_at lw_m17 205 rfl) rfl
theorem q4471 : (Jvm.Cond.constant "TypeHouseModel" (64 : Nat) (385012 : Int32)) ∈ lw_all := lw_g (lw_at lw_m17 206 rfl) rfl
theorem q4472 : (Jvm.Cond.constant "TypeHouseModel" (108 : Nat) (99000 : Int32)) ∈ lw_all := lw_g (lw_at lw_m17 207 rfl) rfl
theorem q4473 : (Jvm.Cond.constant "TypeHouseModel" (184 : Nat) (120000 : Int32)) ∈ lw_all := lw_g (lw_at lw_m17 208 rfl) rfl
theorem q4474 : (Jvm.Cond.methodLink "TypeHouseModel" (249 : Nat) ({ cls := "TypeHouseModel", name := "clear", desc := "()V" } : Jvm.MethodName)) ∈ lw_all := lw_g (lw_at lw_m17 209 rfl) rfl
theorem q4476 : (Jvm.Cond.instanceMethod ({ cls := "TypeHouseModel", name := "clear", desc := "()V" } : Jvm.MethodName)) ∈ lw_all := lw_g (lw_at lw_m17 211 rfl) rfl
theorem q4477 : (Jvm.Cond.code ({ cls := "TypeHouseModel", name := "clear", desc := "()V" } : Jvm.MethodName) prog_37_method_16_code (3 : Nat) (Option.none : Option Jvm.ClassFile.FieldType)) ∈ lw_all := lw_g (lw_at lw_m17 212 rfl) rfl
theorem q4478 : (Jvm.Cond.constant "TypeHouseModel" (369 : Nat) (-2147483647 : Int32)) ∈ lw_all := lw_g (lw_at lw_m17 213 rfl) rfl
theorem q4479 : (Jvm.Cond.constant "TypeHouseModel" (388 : Nat) (1073741823 : Int32)) ∈ lw_all := lw_g (lw_at lw_m17 214 rfl) rfl
theorem q4480 : (Jvm.Cond.methodLink "TypeHouseModel" (395 : Nat) ({ cls := "TypeHouseModel", name := "first", desc := "(II)V" } : Jvm.MethodName)) ∈ lw_all := lw_g (lw_at lw_m17 215 rfl) rfl
theorem q4482 : (Jvm.Cond.instanceMethod ({ cls := "TypeHouseModel", name := "first", desc := "(II)V" } : Jvm.MethodName)) ∈ lw_all := lw_g (lw_at lw_m17 217 rfl) rfl
theorem q4483 : (Jvm.Cond.code ({ cls := "TypeHouseModel", name := "first", desc := "(II)V" } : Jvm.MethodName) prog_37_method_15_code (3 : Nat) (Option.none : Option Jvm.ClassFile.FieldType)) ∈ lw_all := lw_g (lw_at lw_m17 218 rfl) rfl
theorem q4484 : (Jvm.Cond.constant "TypeHouseModel" (399 : Nat) (26214400 : Int32)) ∈ lw_all := lw_g (lw_at lw_m17 219 rfl) rfl
theorem q4485 : (Jvm.Cond.constant "TypeHouseModel" (400 : Nat) (39321600 : Int32)) ∈ lw_all := lw_g (lw_at lw_m17 220 rfl) rfl
theorem q4486 : (Jvm.Cond.constant "TypeHouseModel" (401 : Nat) (1310720 : Int32)) ∈ lw_all := lw_g (lw_at lw_m17 221 rfl) rfl
theorem q4487 : (Jvm.Cond.constant "TypeHouseModel" (402 : Nat) (262144 : Int32)) ∈ lw_all := lw_g (lw_at lw_m17 222 rfl) rfl
theorem q4488 : (Jvm.Cond.constant "TypeHouseModel" (403 : Nat) (786432 : Int32)) ∈ lw_all := lw_g (lw_at lw_m17 223 rfl) rfl
theorem q4489 : (Jvm.Cond.constant "TypeHouseModel" (404 : Nat) (655360 : Int32)) ∈ lw_all := lw_g (lw_at lw_m17 224 rfl) rfl
theorem q4491 : (Jvm.Cond.methodLink "TypeHouseModel" (407 : Nat) ({ cls := "TypeHouseModel", name := "primitives", desc := "(Ljava/lang/String;)V" } : Jvm.MethodName)) ∈ lw_all := lw_g (lw_at lw_m17 226 rfl) rfl
theorem q4493 : (Jvm.Cond.instanceMethod ({ cls := "TypeHouseModel", name := "primitives", desc := "(Ljava/lang/String;)V" } : Jvm.MethodName)) ∈ lw_all := lw_g (lw_at lw_m17 228 rfl) rfl
theorem q4494 : (Jvm.Cond.code ({ cls := "TypeHouseModel", name := "primitives", desc := "(Ljava/lang/String;)V" } : Jvm.MethodName) prog_37_method_17_code (4 : Nat) (Option.none : Option Jvm.ClassFile.FieldType)) ∈ lw_all := lw_g (lw_at lw_m17 229 rfl) rfl
theorem q4495 : (Jvm.Cond.methodLink "TypeHouseModel" (416 : Nat) ({ cls := "java/lang/String", name := "length", desc := "()I" } : Jvm.MethodName)) ∈ lw_all := lw_g (lw_at lw_m17 230 rfl) rfl
theorem q4496 : (Jvm.Cond.methodLink "TypeHouseModel" (421 : Nat) ({ cls := "java/lang/String", name := "charAt", desc := "(I)C" } : Jvm.MethodName)) ∈ lw_all := lw_g (lw_at lw_m17 231 rfl) rfl
theorem q4497 : (Jvm.Cond.methodLink "TypeHouseModel" (425 : Nat) ({ cls := "TypeHouseModel", name := "addName", desc := "()I" } : Jvm.MethodName)) ∈ lw_all := lw_g (lw_at lw_m17 232 rfl) rfl
theorem q4499 : (Jvm.Cond.instanceMethod ({ cls := "TypeHouseModel", name := "addName", desc := "()I" } : Jvm.MethodName)) ∈ lw_all := lw_g (lw_at lw_m17 234 rfl) rfl
theorem q4500 : (Jvm.Cond.code ({ cls := "TypeHouseModel", name := "addName", desc := "()I" } : Jvm.MethodName) prog_37_method_18_code (2 : Nat) (Option.some Jvm.ClassFile.FieldType.int)) ∈ lw_all := lw_g (lw_at lw_m17 235 rfl) rfl
theorem q4502 : (Jvm.Cond.fieldLink "TypeHouseModel" (252 : Nat) "TypeHouseModel" "thrown" "I") ∈ lw_all := lw_g (lw_at lw_m17 237 rfl) rfl
theorem q4504 : (Jvm.Cond.fieldLink "TypeHouseModel" (8 : Nat) "TypeHouseModel" "tape" "[B") ∈ lw_all := lw_g (lw_at lw_m17 239 rfl) rfl
theorem q4505 : (Jvm.Cond.fieldLink "TypeHouseModel" (15 : Nat) "TypeHouseModel" "fuel" "I") ∈ lw_all := lw_g (lw_at lw_m18 0 rfl) rfl
theorem q4506 : (Jvm.Cond.fieldLink "TypeHouseModel" (21 : Nat) "TypeHouseModel" "slots" "[LTypeHouseModel$Metrics;") ∈ lw_all := lw_g (lw_at lw_m18 1 rfl) rfl
theorem q4507 : (Jvm.Cond.fieldLink "TypeHouseModel" (28 : Nat) "TypeHouseModel" "hyphens" "LTypeHouseModel$Hyphens;") ∈ lw_all := lw_g (lw_at lw_m18 2 rfl) rfl
theorem q4508 : (Jvm.Cond.fieldLink "TypeHouseModel" (35 : Nat) "TypeHouseModel" "breaker" "LTypeHouseModel$Breaker;") ∈ lw_all := lw_g (lw_at lw_m18 3 rfl) rfl
theorem q4509 : (Jvm.Cond.fieldLink "TypeHouseModel" (42 : Nat) "TypeHouseModel" "device" "LTypeHouseModel$Device;") ∈ lw_all := lw_g (lw_at lw_m18 4 rfl) rfl
theorem q4511 : (Jvm.Cond.fieldLink "TypeHouseModel" (326 : Nat) "TypeHouseModel" "nextLine" "I") ∈ lw_all := lw_g (lw_at lw_m18 6 rfl) rfl
theorem q4512 : (Jvm.Cond.fieldLink "TypeHouseModel" (329 : Nat) "TypeHouseModel" "lines" "I") ∈ lw_all := lw_g (lw_at lw_m18 7 rfl) rfl
theorem q4513 : (Jvm.Cond.fieldLink "TypeHouseModel" (47 : Nat) "TypeHouseModel" "line" "[I") ∈ lw_all := lw_g (lw_at lw_m18 8 rfl) rfl
theorem q4514 : (Jvm.Cond.fieldLink "TypeHouseModel" (332 : Nat) "TypeHouseModel" "lineSize" "I") ∈ lw_all := lw_g (lw_at lw_m18 9 rfl) rfl
theorem q4515 : (Jvm.Cond.fieldLink "TypeHouseModel" (335 : Nat) "TypeHouseModel" "linePlace" "I") ∈ lw_all := lw_g (lw_at lw_m18 10 rfl) rfl
theorem q4516 : (Jvm.Cond.fieldLink "TypeHouseModel" (338 : Nat) "TypeHouseModel" "state" "I") ∈ lw_all := lw_g (lw_at lw_m18 11 rfl) rfl
theorem q4517 : (Jvm.Cond.fieldLink "TypeHouseModel" (360 : Nat) "TypeHouseModel" "names" "I") ∈ lw_all := lw_g (lw_at lw_m18 12 rfl) rfl
theorem q4518 : (Jvm.Cond.fieldLink "TypeHouseModel" (52 : Nat) "TypeHouseModel" "nameChars" "[B") ∈ lw_all := lw_g (lw_at lw_m18 13 rfl) rfl
theorem q4519 : (Jvm.Cond.fieldLink "TypeHouseModel" (55 : Nat) "TypeHouseModel" "nameSize" "[I") ∈ lw_all := lw_g (lw_at lw_m18 14 rfl) rfl
theorem q4520 : (Jvm.Cond.fieldLink "TypeHouseModel" (58 : Nat) "TypeHouseModel" "spelled" "[I") ∈ lw_all := lw_g (lw_at lw_m18 15 rfl) rfl
theorem q4521 : (Jvm.Cond.fieldLink "TypeHouseModel" (413 : Nat) "TypeHouseModel" "spelledSize" "I") ∈ lw_all := lw_g (lw_at lw_m18 16 rfl) rfl
theorem q4522 : (Jvm.Cond.fieldLink "TypeHouseModel" (61 : Nat) "TypeHouseModel" "madeNames" "[I") ∈ lw_all := lw_g (lw_at lw_m18 17 rfl) rfl
theorem q4523 : (Jvm.Cond.fieldLink "TypeHouseModel" (323 : Nat) "TypeHouseModel" "level" "I") ∈ lw_all := lw_g (lw_at lw_m18 18 rfl) rfl
theorem q4524 : (Jvm.Cond.fieldLink "TypeHouseModel" (65 : Nat) "TypeHouseModel" "all" "[I") ∈ lw_all := lw_g (lw_at lw_m18 19 rfl) rfl
theorem q4525 : (Jvm.Cond.fieldLink "TypeHouseModel" (68 : Nat) "TypeHouseModel" "groupKind" "[I") ∈ lw_all := lw_g (lw_at lw_m18 20 rfl) rfl
theorem q4526 : (Jvm.Cond.fieldLink "TypeHouseModel" (71 : Nat) "TypeHouseModel" "boxBelow" "[Z") ∈ lw_all := lw_g (lw_at lw_m18 21 rfl) rfl
theorem q4527 : (Jvm.Cond.fieldLink "TypeHouseModel" (75 : Nat) "TypeHouseModel" "boxHow" "[I") ∈ lw_all := lw_g (lw_at lw_m18 22 rfl) rfl
theorem q4528 : (Jvm.Cond.fieldLink "TypeHouseModel" (78 : Nat) "TypeHouseModel" "boxSize" "[I") ∈ lw_all := lw_g (lw_at lw_m18 23 rfl) rfl
theorem q4529 : (Jvm.Cond.fieldLink "TypeHouseModel" (81 : Nat) "TypeHouseModel" "boxGoal" "[I") ∈ lw_all := lw_g (lw_at lw_m18 24 rfl) rfl
theorem q4530 : (Jvm.Cond.fieldLink "TypeHouseModel" (84 : Nat) "TypeHouseModel" "boxShift" "[I") ∈ lw_all := lw_g (lw_at lw_m18 25 rfl) rfl
theorem q4531 : (Jvm.Cond.fieldLink "TypeHouseModel" (87 : Nat) "TypeHouseModel" "boxGlobal" "[Z") ∈ lw_all := lw_g (lw_at lw_m18 26 rfl) rfl
theorem q4532 : (Jvm.Cond.fieldLink "TypeHouseModel" (341 : Nat) "TypeHouseModel" "macros" "I") ∈ lw_all := lw_g (lw_at lw_m18 27 rfl) rfl
theorem q4533 : (Jvm.Cond.fieldLink "TypeHouseModel" (90 : Nat) "TypeHouseModel" "parameters" "[I") ∈ lw_all := lw_g (lw_at lw_m18 28 rfl) rfl
theorem q4534 : (Jvm.Cond.fieldLink "TypeHouseModel" (93 : Nat) "TypeHouseModel" "heads" "[I") ∈ lw_all := lw_g (lw_at lw_m18 29 rfl) rfl
theorem q4535 : (Jvm.Cond.fieldLink "TypeHouseModel" (96 : Nat) "TypeHouseModel" "bodies" "[I") ∈ lw_all := lw_g (lw_at lw_m18 30 rfl) rfl
theorem q4536 : (Jvm.Cond.fieldLink "TypeHouseModel" (99 : Nat) "TypeHouseModel" "ends" "[I") ∈ lw_all := lw_g (lw_at lw_m18 31 rfl) rfl
theorem q4537 : (Jvm.Cond.fieldLink "TypeHouseModel" (344 : Nat) "TypeHouseModel" "stored" "I") ∈ lw_all := lw_g (lw_at lw_m18 32 rfl) rfl
theorem q4538 : (Jvm.Cond.fieldLink "TypeHouseModel" (102 : Nat) "TypeHouseModel" "store" "[I") ∈ lw_all := lw_g (lw_at lw_m18 33 rfl) rfl
theorem q4539 : (Jvm.Cond.fieldLink "TypeHouseModel" (347 : Nat) "TypeHouseModel" "pending" "I") ∈ lw_all := lw_g (lw_at lw_m18 34 rfl) rfl
theorem q4540 : (Jvm.Cond.fieldLink "TypeHouseModel" (105 : Nat) "TypeHouseModel" "row" "[I") ∈ lw_all := lw_g (lw_at lw_m18 35 rfl) rfl
theorem q4541 : (Jvm.Cond.fieldLink "TypeHouseModel" (109 : Nat) "TypeHouseModel" "argument" "[I") ∈ lw_all := lw_g (lw_at lw_m18 36 rfl) rfl
theorem q4542 : (Jvm.Cond.fieldLink "TypeHouseModel" (112 : Nat) "TypeHouseModel" "argumentSize" "[I") ∈ lw_all := lw_g (lw_at lw_m18 37 rfl) rfl
theorem q4543 : (Jvm.Cond.fieldLink "TypeHouseModel" (350 : Nat) "TypeHouseModel" "conditions" "I") ∈ lw_all := lw_g (lw_at lw_m18 38 rfl) rfl
theorem q4544 : (Jvm.Cond.fieldLink "TypeHouseModel" (115 : Nat) "TypeHouseModel" "isCase" "[Z") ∈ lw_all := lw_g (lw_at lw_m18 39 rfl) rfl
theorem q4545 : (Jvm.Cond.fieldLink "TypeHouseModel" (118 : Nat) "TypeHouseModel" "decided" "[I") ∈ lw_all := lw_g (lw_at lw_m18 40 rfl) rfl
theorem q4546 : (Jvm.Cond.fieldLink "TypeHouseModel" (300 : Nat) "TypeHouseModel" "ticks" "I") ∈ lw_all := lw_g (lw_at lw_m18 41 rfl) rfl
theorem q4547 : (Jvm.Cond.fieldLink "TypeHouseModel" (353 : Nat) "TypeHouseModel" "open" "I") ∈ lw_all := lw_g (lw_at lw_m18 42 rfl) rfl
theorem q4548 : (Jvm.Cond.fieldLink "TypeHouseModel" (321 : Nat) "TypeHouseModel" "fault" "I") ∈ lw_all := lw_g (lw_at lw_m18 43 rfl) rfl
theorem q4549 : (Jvm.Cond.fieldLink "TypeHouseModel" (356 : Nat) "TypeHouseModel" "over" "Z") ∈ lw_all := lw_g (lw_at lw_m18 44 rfl) rfl
theorem q4550 : (Jvm.Cond.fieldLink "TypeHouseModel" (363 : Nat) "TypeHouseModel" "fonts" "I") ∈ lw_all := lw_g (lw_at lw_m18 45 rfl) rfl
theorem q4551 : (Jvm.Cond.fieldLink "TypeHouseModel" (121 : Nat) "TypeHouseModel" "fontSlot" "[I") ∈ lw_all := lw_g (lw_at lw_m18 46 rfl) rfl
theorem q4552 : (Jvm.Cond.fieldLink "TypeHouseModel" (124 : Nat) "TypeHouseModel" "fontSize" "[I") ∈ lw_all := lw_g (lw_at lw_m18 47 rfl) rfl
theorem q4553 : (Jvm.Cond.fieldLink "TypeHouseModel" (366 : Nat) "TypeHouseModel" "lists" "I") ∈ lw_all := lw_g (lw_at lw_m18 48 rfl) rfl
theorem q4554 : (Jvm.Cond.fieldLink "TypeHouseModel" (127 : Nat) "TypeHouseModel" "listMode" "[I") ∈ lw_all := lw_g (lw_at lw_m18 49 rfl) rfl
theorem q4555 : (Jvm.Cond.fieldLink "TypeHouseModel" (130 : Nat) "TypeHouseModel" "listStart" "[I") ∈ lw_all := lw_g (lw_at lw_m18 50 rfl) rfl
theorem q4556 : (Jvm.Cond.fieldLink "TypeHouseModel" (133 : Nat) "TypeHouseModel" "listDepth" "[I") ∈ lw_all := lw_g (lw_at lw_m18 51 rfl) rfl
theorem q4557 : (Jvm.Cond.fieldLink "TypeHouseModel" (136 : Nat) "TypeHouseModel" "pool" "[I") ∈ lw_all := lw_g (lw_at lw_m18 52 rfl) rfl
theorem q4558 : (Jvm.Cond.fieldLink "TypeHouseModel" (370 : Nat) "TypeHouseModel" "pooled" "I") ∈ lw_all := lw_g (lw_at lw_m18 53 rfl) rfl
theorem q4560 : (Jvm.Cond.fieldLink "TypeHouseModel" (373 : Nat) "TypeHouseModel" "wordSize" "I") ∈ lw_all := lw_g (lw_at lw_m18 55 rfl) rfl
theorem q4561 : (Jvm.Cond.fieldLink "TypeHouseModel" (139 : Nat) "TypeHouseModel" "word" "[I") ∈ lw_all := lw_g (lw_at lw_m18 56 rfl) rfl
theorem q4562 : (Jvm.Cond.fieldLink "TypeHouseModel" (142 : Nat) "TypeHouseModel" "wholeKinds" "[I") ∈ lw_all := lw_g (lw_at lw_m18 57 rfl) rfl
theorem q4563 : (Jvm.Cond.fieldLink "TypeHouseModel" (145 : Nat) "TypeHouseModel" "wholeWide" "[I") ∈ lw_all := lw_g (lw_at lw_m18 58 rfl) rfl
theorem q4565 : (Jvm.Cond.fieldLink "TypeHouseModel" (148 : Nat) "TypeHouseModel" "items" "[I") ∈ lw_all := lw_g (lw_at lw_m18 60 rfl) rfl
theorem q4566 : (Jvm.Cond.fieldLink "TypeHouseModel" (306 : Nat) "TypeHouseModel" "boxes" "I") ∈ lw_all := lw_g (lw_at lw_m18 61 rfl) rfl
theorem q4567 : (Jvm.Cond.fieldLink "TypeHouseModel" (151 : Nat) "TypeHouseModel" "boxFrom" "[I") ∈ lw_all := lw_g (lw_at lw_m18 62 rfl) rfl
theorem q4568 : (Jvm.Cond.fieldLink "TypeHouseModel" (154 : Nat) "TypeHouseModel" "isBelow" "[Z") ∈ lw_all := lw_g (lw_at lw_m18 63 rfl) rfl
theorem q4569 : (Jvm.Cond.fieldLink "TypeHouseModel" (157 : Nat) "TypeHouseModel" "width" "[I") ∈ lw_all := lw_g (lw_at lw_m18 64 rfl) rfl
theorem q4570 : (Jvm.Cond.fieldLink "TypeHouseModel" (160 : Nat) "TypeHouseModel" "height" "[I") ∈ lw_all := lw_g (lw_at lw_m18 65 rfl) rfl
theorem q4571 : (Jvm.Cond.fieldLink "TypeHouseModel" (163 : Nat) "TypeHouseModel" "depth" "[I") ∈ lw_all := lw_g (lw_at lw_m18 66 rfl) rfl
theorem q4572 : (Jvm.Cond.fieldLink "TypeHouseModel" (166 : Nat) "TypeHouseModel" "excess" "[I") ∈ lw_all := lw_g (lw_at lw_m18 67 rfl) rfl
theorem q4573 : (Jvm.Cond.fieldLink "TypeHouseModel" (169 : Nat) "TypeHouseModel" "order" "[I") ∈ lw_all := lw_g (lw_at lw_m18 68 rfl) rfl
theorem q4574 : (Jvm.Cond.fieldLink "TypeHouseModel" (172 : Nat) "TypeHouseModel" "total" "[I") ∈ lw_all := lw_g (lw_at lw_m18 69 rfl) rfl
theorem q4575 : (Jvm.Cond.fieldLink "TypeHouseModel" (175 : Nat) "TypeHouseModel" "overfull" "[I") ∈ lw_all := lw_g (lw_at lw_m18 70 rfl) rfl
theorem q4576 : (Jvm.Cond.fieldLink "TypeHouseModel" (178 : Nat) "TypeHouseModel" "deep" "[I") ∈ lw_all := lw_g (lw_at lw_m18 71 rfl) rfl
theorem q4577 : (Jvm.Cond.fieldLink "TypeHouseModel" (181 : Nat) "TypeHouseModel" "inAll" "[I") ∈ lw_all := lw_g (lw_at lw_m18 72 rfl) rfl
theorem q4578 : (Jvm.Cond.fieldLink "TypeHouseModel" (185 : Nat) "TypeHouseModel" "held" "[I") ∈ lw_all := lw_g (lw_at lw_m18 73 rfl) rfl
theorem q4579 : (Jvm.Cond.fieldLink "TypeHouseModel" (954 : Nat) "TypeHouseModel" "good" "Z") ∈ lw_all := lw_g (lw_at lw_m18 74 rfl) rfl
theorem q4580 : (Jvm.Cond.fieldLink "TypeHouseModel" (952 : Nat) "TypeHouseModel" "length" "J") ∈ lw_all := lw_g (lw_at lw_m18 75 rfl) rfl
theorem q4581 : (Jvm.Cond.fieldLink "TypeHouseModel" (957 : Nat) "TypeHouseModel" "before" "J") ∈ lw_all := lw_g (lw_at lw_m18 76 rfl) rfl
theorem q4582 : (Jvm.Cond.fieldLink "TypeHouseModel" (960 : Nat) "TypeHouseModel" "across" "J") ∈ lw_all := lw_g (lw_at lw_m18 77 rfl) rfl
theorem q4583 : (Jvm.Cond.fieldLink "TypeHouseModel" (963 : Nat) "TypeHouseModel" "under" "J") ∈ lw_all := lw_g (lw_at lw_m18 78 rfl) rfl
theorem q4584 : (Jvm.Cond.fieldLink "TypeHouseModel" (188 : Nat) "TypeHouseModel" "stretch" "[J") ∈ lw_all := lw_g (lw_at lw_m18 79 rfl) rfl
theorem q4585 : (Jvm.Cond.fieldLink "TypeHouseModel" (192 : Nat) "TypeHouseModel" "shrinks" "[J") ∈ lw_all := lw_g (lw_at lw_m18 80 rfl) rfl
theorem q4586 : (Jvm.Cond.fieldLink "TypeHouseModel" (966 : Nat) "TypeHouseModel" "shrink" "J") ∈ lw_all := lw_g (lw_at lw_m18 81 rfl) rfl
theorem q4587 : (Jvm.Cond.fieldLink "TypeHouseModel" (376 : Nat) "TypeHouseModel" "outers" "I") ∈ lw_all := lw_g (lw_at lw_m18 82 rfl) rfl
theorem q4588 : (Jvm.Cond.fieldLink "TypeHouseModel" (195 : Nat) "TypeHouseModel" "outerKind" "[I") ∈ lw_all := lw_g (lw_at lw_m18 83 rfl) rfl
theorem q4589 : (Jvm.Cond.fieldLink "TypeHouseModel" (198 : Nat) "TypeHouseModel" "one" "[I") ∈ lw_all := lw_g (lw_at lw_m18 84 rfl) rfl
theorem q4590 : (Jvm.Cond.fieldLink "TypeHouseModel" (201 : Nat) "TypeHouseModel" "two" "[I") ∈ lw_all := lw_g (lw_at lw_m18 85 rfl) rfl
theorem q4591 : (Jvm.Cond.fieldLink "TypeHouseModel" (204 : Nat) "TypeHouseModel" "three" "[I") ∈ lw_all := lw_g (lw_at lw_m18 86 rfl) rfl
theorem q4592 : (Jvm.Cond.fieldLink "TypeHouseModel" (207 : Nat) "TypeHouseModel" "orders" "[I") ∈ lw_all := lw_g (lw_at lw_m18 87 rfl) rfl
theorem q4593 : (Jvm.Cond.fieldLink "TypeHouseModel" (210 : Nat) "TypeHouseModel" "outerBox" "[I") ∈ lw_all := lw_g (lw_at lw_m18 88 rfl) rfl
theorem q4594 : (Jvm.Cond.fieldLink "TypeHouseModel" (213 : Nat) "TypeHouseModel" "outerShift" "[I") ∈ lw_all := lw_g (lw_at lw_m18 89 rfl) rfl
theorem q4595 : (Jvm.Cond.fieldLink "TypeHouseModel" (379 : Nat) "TypeHouseModel" "isOpen" "Z") ∈ lw_all := lw_g (lw_at lw_m18 90 rfl) rfl
theorem q4596 : (Jvm.Cond.fieldLink "TypeHouseModel" (382 : Nat) "TypeHouseModel" "begin" "I") ∈ lw_all := lw_g (lw_at lw_m18 91 rfl) rfl
theorem q4597 : (Jvm.Cond.fieldLink "TypeHouseModel" (385 : Nat) "TypeHouseModel" "best" "I") ∈ lw_all := lw_g (lw_at lw_m18 92 rfl) rfl
theorem q4598 : (Jvm.Cond.fieldLink "TypeHouseModel" (389 : Nat) "TypeHouseModel" "least" "I") ∈ lw_all := lw_g (lw_at lw_m18 93 rfl) rfl
theorem q4602 : (Jvm.Cond.fieldLink "TypeHouseModel" (303 : Nat) "TypeHouseModel" "pages" "I") ∈ lw_all := lw_g (lw_at lw_m18 97 rfl) rfl
theorem q4604 : (Jvm.Cond.fieldLink "TypeHouseModel" (216 : Nat) "TypeHouseModel" "markFont" "[I") ∈ lw_all := lw_g (lw_at lw_m18 99 rfl) rfl
theorem q4605 : (Jvm.Cond.fieldLink "TypeHouseModel" (219 : Nat) "TypeHouseModel" "markChar" "[I") ∈ lw_all := lw_g (lw_at lw_m18 100 rfl) rfl
theorem q4606 : (Jvm.Cond.fieldLink "TypeHouseModel" (222 : Nat) "TypeHouseModel" "markX" "[J") ∈ lw_all := lw_g (lw_at lw_m18 101 rfl) rfl
theorem q4607 : (Jvm.Cond.fieldLink "TypeHouseModel" (225 : Nat) "TypeHouseModel" "markY" "[J") ∈ lw_all := lw_g (lw_at lw_m18 102 rfl) rfl
theorem q4608 : (Jvm.Cond.fieldLink "TypeHouseModel" (228 : Nat) "TypeHouseModel" "markWidth" "[J") ∈ lw_all := lw_g (lw_at lw_m18 103 rfl) rfl
theorem q4609 : (Jvm.Cond.fieldLink "TypeHouseModel" (231 : Nat) "TypeHouseModel" "markHeight" "[J") ∈ lw_all := lw_g (lw_at lw_m18 104 rfl) rfl
theorem q4610 : (Jvm.Cond.fieldLink "TypeHouseModel" (234 : Nat) "TypeHouseModel" "markDepth" "[J") ∈ lw_all := lw_g (lw_at lw_m18 105 rfl) rfl
theorem q4611 : (Jvm.Cond.fieldLink "TypeHouseModel" (312 : Nat) "TypeHouseModel" "overfulls" "I") ∈ lw_all := lw_g (lw_at lw_m18 106 rfl) rfl
theorem q4612 : (Jvm.Cond.fieldLink "TypeHouseModel" (309 : Nat) "TypeHouseModel" "lineCount" "I") ∈ lw_all := lw_g (lw_at lw_m18 107 rfl) rfl
theorem q4613 : (Jvm.Cond.fieldLink "TypeHouseModel" (315 : Nat) "TypeHouseModel" "hyphenCount" "I") ∈ lw_all := lw_g (lw_at lw_m18 108 rfl) rfl
theorem q4614 : (Jvm.Cond.fieldLink "TypeHouseModel" (318 : Nat) "TypeHouseModel" "nodeCount" "I") ∈ lw_all := lw_g (lw_at lw_m18 109 rfl) rfl
theorem q4624 : (Jvm.Cond.fieldLink "TypeHouseModel" (237 : Nat) "TypeHouseModel" "seen" "[I") ∈ lw_all := lw_g (lw_at lw_m18 119 rfl) rfl
theorem q4626 : (Jvm.Cond.fieldLink "TypeHouseModel" (240 : Nat) "TypeHouseModel" "softAt" "[I") ∈ lw_all := lw_g (lw_at lw_m18 121 rfl) rfl
theorem q4627 : (Jvm.Cond.fieldLink "TypeHouseModel" (243 : Nat) "TypeHouseModel" "softReplaces" "[I") ∈ lw_all := lw_g (lw_at lw_m18 122 rfl) rfl
theorem q4628 : (Jvm.Cond.fieldLink "TypeHouseModel" (246 : Nat) "TypeHouseModel" "lineItems" "[I") ∈ lw_all := lw_g (lw_at lw_m18 123 rfl) rfl
theorem q5412 : (Jvm.Cond.methodLink "TypeHouseModel" (740 : Nat) ({ cls := "TypeHouseModel", name := "isSize", desc := "(J)Z" } : Jvm.MethodName)) ∈ lw_all := lw_g (lw_at lw_m21 187 rfl) rfl
theorem q5413 : (Jvm.Cond.static ({ cls := "TypeHouseModel", name := "isSize", desc := "(J)Z" } : Jvm.MethodName)) ∈ lw_all := lw_g (lw_at lw_m21 188 rfl) rfl
theorem q5414 : (Jvm.Cond.code ({ cls := "TypeHouseModel", name := "isSize", desc := "(J)Z" } : Jvm.MethodName) prog_37_method_93_code (2 : Nat) (Option.some Jvm.ClassFile.FieldType.boolean)) ∈ lw_all := lw_g (lw_at lw_m21 189 rfl) rfl
theorem q5415 : (Jvm.Cond.constantLong "TypeHouseModel" (736 : Nat) (-1073741823 : Int64)) ∈ lw_all := lw_g (lw_at lw_m21 190 rfl) rfl
theorem q5416 : (Jvm.Cond.constantLong "TypeHouseModel" (738 : Nat) (1073741823 : Int64)) ∈ lw_all := lw_g (lw_at lw_m21 191 rfl) rfl
theorem q5539 : (Jvm.Cond.methodLink "TypeHouseModel" (984 : Nat) ({ cls := "TypeHouseModel", name := "isSolid", desc := "(I)Z" } : Jvm.MethodName)) ∈ lw_all := lw_g (lw_at lw_m22 74 rfl) rfl
theorem q5540 : (Jvm.Cond.static ({ cls := "TypeHouseModel", name := "isSolid", desc := "(I)Z" } : Jvm.MethodName)) ∈ lw_all := lw_g (lw_at lw_m22 75 rfl) rfl
theorem q5541 : (Jvm.Cond.code ({ cls := "TypeHouseModel", name := "isSolid", desc := "(I)Z" } : Jvm.MethodName) prog_37_method_134_code (1 : Nat) (Option.some Jvm.ClassFile.FieldType.boolean)) ∈ lw_all := lw_g (lw_at lw_m22 76 rfl) rfl
theorem q5548 : (Jvm.Cond.instanceMethod ({ cls := "TypeHouseModel", name := "add", desc := "([IIZ)V" } : Jvm.MethodName)) ∈ lw_all := lw_g (lw_at lw_m22 83 rfl) rfl
theorem q5549 : (Jvm.Cond.code ({ cls := "TypeHouseModel", name := "add", desc := "([IIZ)V" } : Jvm.MethodName) prog_37_method_138_code (5 : Nat) (Option.none : Option Jvm.ClassFile.FieldType)) ∈ lw_all := lw_g (lw_at lw_m22 84 rfl) rfl
theorem q5550 : (Jvm.Cond.methodLink "TypeHouseModel" (987 : Nat) ({ cls := "TypeHouseModel", name := "addSolid", desc := "([IIZ)V" } : Jvm.MethodName)) ∈ lw_all := lw_g (lw_at lw_m22 85 rfl) rfl
theorem q5552 : (Jvm.Cond.instanceMethod ({ cls := "TypeHouseModel", name := "addSolid", desc := "([IIZ)V" } : Jvm.MethodName)) ∈ lw_all := lw_g (lw_at lw_m22 87 rfl) rfl
theorem q5553 : (Jvm.Cond.code ({ cls := "TypeHouseModel", name := "addSolid", desc := "([IIZ)V" } : Jvm.MethodName) prog_37_method_137_code (5 : Nat) (Option.none : Option Jvm.ClassFile.FieldType)) ∈ lw_all := lw_g (lw_at lw_m22 88 rfl) rfl
theorem q5554 : (Jvm.Cond.methodLink "TypeHouseModel" (969 : Nat) ({ cls := "TypeHouseModel", name := "grow", desc := "(J)V" } : Jvm.MethodName)) ∈ lw_all := lw_g (lw_at lw_m22 89 rfl) rfl
theorem q5556 : (Jvm.Cond.instanceMethod ({ cls := "TypeHouseModel", name := "grow", desc := "(J)V" } : Jvm.MethodName)) ∈ lw_all := lw_g (lw_at lw_m22 91 rfl) rfl
theorem q5557 : (Jvm.Cond.code ({ cls := "TypeHouseModel", name := "grow", desc := "(J)V" } : Jvm.MethodName) prog_37_method_131_code (3 : Nat) (Option.none : Option Jvm.ClassFile.FieldType)) ∈ lw_all := lw_g (lw_at lw_m22 92 rfl) rfl
theorem q5558 : (Jvm.Cond.methodLink "TypeHouseModel" (972 : Nat) ({ cls := "TypeHouseModel", name := "sizeOf", desc := "([III)I" } : Jvm.MethodName)) ∈ lw_all := lw_g (lw_at lw_m22 93 rfl) rfl
theorem q5560 : (Jvm.Cond.instanceMethod ({ cls := "TypeHouseModel", name := "sizeOf", desc := "([III)I" } : Jvm.MethodName)) ∈ lw_all := lw_g (lw_at lw_m22 95 rfl) rfl
theorem q5561 : (Jvm.Cond.code ({ cls := "TypeHouseModel", name := "sizeOf", desc := "([III)I" } : Jvm.MethodName) prog_37_method_135_code (5 : Nat) (Option.some Jvm.ClassFile.FieldType.int)) ∈ lw_all := lw_g (lw_at lw_m22 96 rfl) rfl
theorem q5562 : (Jvm.Cond.constant "TypeHouseModel" (816 : Nat) (-1073741824 : Int32)) ∈ lw_all := lw_g (lw_at lw_m22 97 rfl) rfl
theorem q5563 : (Jvm.Cond.methodLink "TypeHouseModel" (976 : Nat) ({ cls := "TypeHouseModel", name := "isRunning", desc := "([III)Z" } : Jvm.MethodName)) ∈ lw_all := lw_g (lw_at lw_m22 98 rfl) rfl
theorem q5565 : (Jvm.Cond.instanceMethod ({ cls := "TypeHouseModel", name := "isRunning", desc := "([III)Z" } : Jvm.MethodName)) ∈ lw_all := lw_g (lw_at lw_m22 100 rfl) rfl
theorem q5566 : (Jvm.Cond.code ({ cls := "TypeHouseModel", name := "isRunning", desc := "([III)Z" } : Jvm.MethodName) prog_37_method_136_code (4 : Nat) (Option.some Jvm.ClassFile.FieldType.boolean)) ∈ lw_all := lw_g (lw_at lw_m22 101 rfl) rfl
theorem q5567 : (Jvm.Cond.methodLink "TypeHouseModel" (980 : Nat) ({ cls := "TypeHouseModel", name := "greater", desc := "(JJZ)J" } : Jvm.MethodName)) ∈ lw_all := lw_g (lw_at lw_m22 102 rfl) rfl
theorem q5569 : (Jvm.Cond.instanceMethod ({ cls := "TypeHouseModel", name := "greater", desc := "(JJZ)J" } : Jvm.MethodName)) ∈ lw_all := lw_g (lw_at lw_m22 104 rfl) rfl
theorem q5570 : (Jvm.Cond.code ({ cls := "TypeHouseModel", name := "greater", desc := "(JJZ)J" } : Jvm.MethodName) prog_37_method_132_code (6 : Nat) (Option.some Jvm.ClassFile.FieldType.long)) ∈ lw_all := lw_g (lw_at lw_m22 105 rfl) rfl
theorem q6069 : (Jvm.Cond.instanceMethod ({ cls := "TypeHouseModel", name := "about", desc := "(I)I" } : Jvm.MethodName)) ∈ lw_all := lw_g (lw_at lw_m24 124 rfl) rfl
theorem q6070 : (Jvm.Cond.selects "TypeHouseModel" ({ cls := "TypeHouseModel", name := "about", desc := "(I)I" } : Jvm.MethodName) ({ cls := "TypeHouseModel", name := "about", desc := "(I)I" } : Jvm.MethodName)) ∈ lw_all := lw_g (lw_at lw_m24 125 rfl) rfl
theorem q6071 : (Jvm.Cond.code ({ cls := "TypeHouseModel", name := "about", desc := "(I)I" } : Jvm.MethodName) prog_37_method_10_code (2 : Nat) (Option.some Jvm.ClassFile.FieldType.int)) ∈ lw_all := lw_g (lw_at lw_m24 126 rfl) rfl
abbrev cX36_init : ByteArray := prog_40_method_1_code
def yX36_init : MethodName := ⟨RX36, "<init>", "()V"⟩
def YX36_init : eY := (yX36_init, cX36_init, 2, none, [])
theorem mX36_init : e_mi YX36_init 0 := ⟨q4126, rfl, rfl, q4127, by decide, by decide +kernel, (e_sig (by decide +kernel))⟩
theorem dX36_init_0 : decode cX36_init 0 = .ok (.aload_n 0, 1) := dc_42 (by decide +kernel)
theorem dX36_init_1 : decode cX36_init 1 = .ok (.invokespecial 1, 3) := dc_183 (a := 0) (b := 1) (n := 1) (by decide +kernel)
theorem dX36_init_4 : decode cX36_init 4 = .ok (.aload_n 0, 1) := dc_42 (by decide +kernel)
theorem dX36_init_5 : decode cX36_init 5 = .ok (.sipush 256, 3) := dc_17 (a := 1) (b := 0) (v := 256) (by decide +kernel)
theorem dX36_init_8 : decode cX36_init 8 = .ok (.newarray .int, 2) := dc_188_10 (by decide +kernel)
theorem dX36_init_10 : decode cX36_init 10 = .ok (.putfield 7, 3) := dc_181 (a := 0) (b := 7) (n := 7) (by decide +kernel)
theorem dX36_init_13 : decode cX36_init 13 = .ok (.aload_n 0, 1) := dc_42 (by decide +kernel)
theorem dX36_init_14 : decode cX36_init 14 = .ok (.iconst 2, 1) := dc_5 (by decide +kernel)
theorem dX36_init_15 : decode cX36_init 15 = .ok (.putfield 13, 3) := dc_181 (a := 0) (b := 13) (n := 13) (by decide +kernel)
theorem dX36_init_18 : decode cX36_init 18 = .ok (.aload_n 0, 1) := dc_42 (by decide +kernel)
theorem dX36_init_19 : decode cX36_init 19 = .ok (.iconst 3, 1) := dc_6 (by decide +kernel)
theorem dX36_init_20 : decode cX36_init 20 = .ok (.putfield 17, 3) := dc_181 (a := 0) (b := 17) (n := 17) (by decide +kernel)
theorem dX36_init_23 : decode cX36_init 23 = .ok (.aload_n 0, 1) := dc_42 (by decide +kernel)
theorem dX36_init_24 : decode cX36_init 24 = .ok (.ldc 20, 2) := dc_18 (a := 20) (by decide +kernel)
theorem dX36_init_26 : decode cX36_init 26 = .ok (.newarray .int, 2) := dc_188_10 (by decide +kernel)
theorem dX36_init_28 : decode cX36_init 28 = .ok (.putfield 21, 3) := dc_181 (a := 0) (b := 21) (n := 21) (by decide +kernel)
theorem dX36_init_31 : decode cX36_init 31 = .ok (.aload_n 0, 1) := dc_42 (by decide +kernel)
theorem dX36_init_32 : decode cX36_init 32 = .ok (.sipush 1001, 3) := dc_17 (a := 3) (b := 233) (v := 1001) (by decide +kernel)
theorem dX36_init_35 : decode cX36_init 35 = .ok (.newarray .int, 2) := dc_188_10 (by decide +kernel)
theorem dX36_init_37 : decode cX36_init 37 = .ok (.putfield 24, 3) := dc_181 (a := 0) (b := 24) (n := 24) (by decide +kernel)
theorem dX36_init_40 : decode cX36_init 40 = .ok (.aload_n 0, 1) := dc_42 (by decide +kernel)
theorem dX36_init_41 : decode cX36_init 41 = .ok (.sipush 1001, 3) := dc_17 (a := 3) (b := 233) (v := 1001) (by decide +kernel)
theorem dX36_init_44 : decode cX36_init 44 = .ok (.newarray .int, 2) := dc_188_10 (by decide +kernel)
theorem dX36_init_46 : decode cX36_init 46 = .ok (.putfield 27, 3) := dc_181 (a := 0) (b := 27) (n := 27) (by decide +kernel)
theorem dX36_init_49 : decode cX36_init 49 = .ok (.aload_n 0, 1) := dc_42 (by decide +kernel)
theorem dX36_init_50 : decode cX36_init 50 = .ok (.sipush 1001, 3) := dc_17 (a := 3) (b := 233) (v := 1001) (by decide +kernel)
theorem dX36_init_53 : decode cX36_init 53 = .ok (.newarray .boolean, 2) := dc_188_4 (by decide +kernel)
theorem dX36_init_55 : decode cX36_init 55 = .ok (.putfield 30, 3) := dc_181 (a := 0) (b := 30) (n := 30) (by decide +kernel)
theorem dX36_init_58 : decode cX36_init 58 = .ok (.aload_n 0, 1) := dc_42 (by decide +kernel)
theorem dX36_init_59 : decode cX36_init 59 = .ok (.sipush 1001, 3) := dc_17 (a := 3) (b := 233) (v := 1001) (by decide +kernel)
theorem dX36_init_62 : decode cX36_init 62 = .ok (.newarray .boolean, 2) := dc_188_4 (by decide +kernel)
theorem dX36_init_64 : decode cX36_init 64 = .ok (.putfield 34, 3) := dc_181 (a := 0) (b := 34) (n := 34) (by decide +kernel)
theorem dX36_init_67 : decode cX36_init 67 = .ok (.aload_n 0, 1) := dc_42 (by decide +kernel)
theorem dX36_init_68 : decode cX36_init 68 = .ok (.sipush 8064, 3) := dc_17 (a := 31) (b := 128) (v := 8064) (by decide +kernel)
theorem dX36_init_71 : decode cX36_init 71 = .ok (.newarray .int, 2) := dc_188_10 (by decide +kernel)
theorem dX36_init_73 : decode cX36_init 73 = .ok (.putfield 37, 3) := dc_181 (a := 0) (b := 37) (n := 37) (by decide +kernel)
theorem dX36_init_76 : decode cX36_init 76 = .ok (.aload_n 0, 1) := dc_42 (by decide +kernel)
theorem dX36_init_77 : decode cX36_init 77 = .ok (.sipush 9100, 3) := dc_17 (a := 35) (b := 140) (v := 9100) (by decide +kernel)
theorem dX36_init_80 : decode cX36_init 80 = .ok (.newarray .int, 2) := dc_188_10 (by decide +kernel)
theorem dX36_init_82 : decode cX36_init 82 = .ok (.putfield 40, 3) := dc_181 (a := 0) (b := 40) (n := 40) (by decide +kernel)
theorem dX36_init_85 : decode cX36_init 85 = .ok (.aload_n 0, 1) := dc_42 (by decide +kernel)
theorem dX36_init_86 : decode cX36_init 86 = .ok (.sipush 301, 3) := dc_17 (a := 1) (b := 45) (v := 301) (by decide +kernel)
theorem dX36_init_89 : decode cX36_init 89 = .ok (.newarray .int, 2) := dc_188_10 (by decide +kernel)
theorem dX36_init_91 : decode cX36_init 91 = .ok (.putfield 43, 3) := dc_181 (a := 0) (b := 43) (n := 43) (by decide +kernel)
theorem dX36_init_94 : decode cX36_init 94 = .ok (.aload_n 0, 1) := dc_42 (by decide +kernel)
theorem dX36_init_95 : decode cX36_init 95 = .ok (.sipush 8064, 3) := dc_17 (a := 31) (b := 128) (v := 8064) (by decide +kernel)
theorem dX36_init_98 : decode cX36_init 98 = .ok (.newarray .int, 2) := dc_188_10 (by decide +kernel)
theorem dX36_init_100 : decode cX36_init 100 = .ok (.putfield 46, 3) := dc_181 (a := 0) (b := 46) (n := 46) (by decide +kernel)
theorem dX36_init_103 : decode cX36_init 103 = .ok (.aload_n 0, 1) := dc_42 (by decide +kernel)
theorem dX36_init_104 : decode cX36_init 104 = .ok (.sipush 8064, 3) := dc_17 (a := 31) (b := 128) (v := 8064) (by decide +kernel)
theorem dX36_init_107 : decode cX36_init 107 = .ok (.newarray .boolean, 2) := dc_188_4 (by decide +kernel)
theorem dX36_init_109 : decode cX36_init 109 = .ok (.putfield 49, 3) := dc_181 (a := 0) (b := 49) (n := 49) (by decide +kernel)
theorem dX36_init_112 : decode cX36_init 112 = .ok (.aload_n 0, 1) := dc_42 (by decide +kernel)
theorem dX36_init_113 : decode cX36_init 113 = .ok (.ldc 20, 2) := dc_18 (a := 20) (by decide +kernel)
theorem dX36_init_115 : decode cX36_init 115 = .ok (.newarray .int, 2) := dc_188_10 (by decide +kernel)
theorem dX36_init_117 : decode cX36_init 117 = .ok (.putfield 52, 3) := dc_181 (a := 0) (b := 52) (n := 52) (by decide +kernel)
theorem dX36_init_120 : decode cX36_init 120 = .ok (.aload_n 0, 1) := dc_42 (by decide +kernel)
theorem dX36_init_121 : decode cX36_init 121 = .ok (.ldc 55, 2) := dc_18 (a := 55) (by decide +kernel)
theorem dX36_init_123 : decode cX36_init 123 = .ok (.newarray .int, 2) := dc_188_10 (by decide +kernel)
theorem dX36_init_125 : decode cX36_init 125 = .ok (.putfield 56, 3) := dc_181 (a := 0) (b := 56) (n := 56) (by decide +kernel)
theorem dX36_init_128 : decode cX36_init 128 = .ok (.aload_n 0, 1) := dc_42 (by decide +kernel)
theorem dX36_init_129 : decode cX36_init 129 = .ok (.ldc 20, 2) := dc_18 (a := 20) (by decide +kernel)
theorem dX36_init_131 : decode cX36_init 131 = .ok (.newarray .boolean, 2) := dc_188_4 (by decide +kernel)
theorem dX36_init_133 : decode cX36_init 133 = .ok (.putfield 59, 3) := dc_181 (a := 0) (b := 59) (n := 59) (by decide +kernel)
theorem dX36_init_136 : decode cX36_init 136 = .ok (.aload_n 0, 1) := dc_42 (by decide +kernel)
theorem dX36_init_137 : decode cX36_init 137 = .ok (.bipush 64, 2) := dc_16 (a := 64) (v := 64) (by decide +kernel)
theorem dX36_init_139 : decode cX36_init 139 = .ok (.newarray .int, 2) := dc_188_10 (by decide +kernel)
theorem dX36_init_141 : decode cX36_init 141 = .ok (.putfield 62, 3) := dc_181 (a := 0) (b := 62) (n := 62) (by decide +kernel)
theorem dX36_init_144 : decode cX36_init 144 = .ok (.aload_n 0, 1) := dc_42 (by decide +kernel)
theorem dX36_init_145 : decode cX36_init 145 = .ok (.bipush 64, 2) := dc_16 (a := 64) (v := 64) (by decide +kernel)
theorem dX36_init_147 : decode cX36_init 147 = .ok (.newarray .int, 2) := dc_188_10 (by decide +kernel)
theorem dX36_init_149 : decode cX36_init 149 = .ok (.putfield 65, 3) := dc_181 (a := 0) (b := 65) (n := 65) (by decide +kernel)
theorem dX36_init_152 : decode cX36_init 152 = .ok (.aload_n 0, 1) := dc_42 (by decide +kernel)
theorem dX36_init_153 : decode cX36_init 153 = .ok (.bipush 64, 2) := dc_16 (a := 64) (v := 64) (by decide +kernel)
theorem dX36_init_155 : decode cX36_init 155 = .ok (.newarray .int, 2) := dc_188_10 (by decide +kernel)
theorem dX36_init_157 : decode cX36_init 157 = .ok (.putfield 68, 3) := dc_181 (a := 0) (b := 68) (n := 68) (by decide +kernel)
theorem dX36_init_160 : decode cX36_init 160 = .ok (.iconst 1, 1) := dc_4 (by decide +kernel)
theorem dX36_init_161 : decode cX36_init 161 = .ok (.istore_n 1, 1) := dc_60 (by decide +kernel)
theorem dX36_init_162 : decode cX36_init 162 = .ok (.iload_n 1, 1) := dc_27 (by decide +kernel)
theorem dX36_init_163 : decode cX36_init 163 = .ok (.bipush 26, 2) := dc_16 (a := 26) (v := 26) (by decide +kernel)
theorem dX36_init_165 : decode cX36_init 165 = .ok (.if_icmp .gt 33, 3) := dc_163 (a := 0) (b := 33) (v := 33) (by decide +kernel)
theorem dX36_init_168 : decode cX36_init 168 = .ok (.aload_n 0, 1) := dc_42 (by decide +kernel)
theorem dX36_init_169 : decode cX36_init 169 = .ok (.getfield 7, 3) := dc_180 (a := 0) (b := 7) (n := 7) (by decide +kernel)
theorem dX36_init_172 : decode cX36_init 172 = .ok (.bipush 97, 2) := dc_16 (a := 97) (v := 97) (by decide +kernel)
theorem dX36_init_174 : decode cX36_init 174 = .ok (.iload_n 1, 1) := dc_27 (by decide +kernel)
theorem dX36_init_175 : decode cX36_init 175 = .ok (.iadd, 1) := dc_96 (by decide +kernel)
theorem dX36_init_176 : decode cX36_init 176 = .ok (.iconst 1, 1) := dc_4 (by decide +kernel)
theorem dX36_init_177 : decode cX36_init 177 = .ok (.isub, 1) := dc_100 (by decide +kernel)
theorem dX36_init_178 : decode cX36_init 178 = .ok (.iload_n 1, 1) := dc_27 (by decide +kernel)
theorem dX36_init_179 : decode cX36_init 179 = .ok (.iastore, 1) := dc_79 (by decide +kernel)
theorem dX36_init_180 : decode cX36_init 180 = .ok (.aload_n 0, 1) := dc_42 (by decide +kernel)
theorem dX36_init_181 : decode cX36_init 181 = .ok (.getfield 7, 3) := dc_180 (a := 0) (b := 7) (n := 7) (by decide +kernel)
theorem dX36_init_184 : decode cX36_init 184 = .ok (.bipush 65, 2) := dc_16 (a := 65) (v := 65) (by decide +kernel)
theorem dX36_init_186 : decode cX36_init 186 = .ok (.iload_n 1, 1) := dc_27 (by decide +kernel)
theorem dX36_init_187 : decode cX36_init 187 = .ok (.iadd, 1) := dc_96 (by decide +kernel)
theorem dX36_init_188 : decode cX36_init 188 = .ok (.iconst 1, 1) := dc_4 (by decide +kernel)
theorem dX36_init_189 : decode cX36_init 189 = .ok (.isub, 1) := dc_100 (by decide +kernel)
theorem dX36_init_190 : decode cX36_init 190 = .ok (.iload_n 1, 1) := dc_27 (by decide +kernel)
theorem dX36_init_191 : decode cX36_init 191 = .ok (.iastore, 1) := dc_79 (by decide +kernel)
theorem dX36_init_192 : decode cX36_init 192 = .ok (.iinc 1 1, 3) := dc_132 (a := 1) (b := 1) (v := 1) (by decide +kernel)
theorem dX36_init_195 : decode cX36_init 195 = .ok (.goto (-33), 3) := dc_167 (a := 255) (b := 223) (v := -33) (by decide +kernel)
theorem dX36_init_198 : decode cX36_init 198 = .ok (.return_, 1) := dc_177 (by decide +kernel)
theorem GX36_7 {w : eW} {d : Nat} {Y : eY} {pc : Nat} {ls : eL} {st : List Value} {h : eH} {Q : eO → eH → Prop} {a : Nat} {x : Nat} (hf : g_A 35 h a 0 = some x) (hd : decode Y.2.1 pc = .ok (.getfield 7, 3)) (hY : Y.1.cls = RX36) (kk : wp w d Y (pc + 3) ls (.ref x :: st) h Q) : wp w d Y pc ls (.ref a :: st) h Q := x_gA (ci := 35) (k := 0) hf hd rfl (by decide) (by rw [hY]; exact q4131) kk
theorem SX36_13 {w : eW} {d : Nat} {Y : eY} {pc : Nat} {ls : eL} {st : List Value} {h : eH} {Q : eO → eH → Prop} {a : Nat} {h' : eH} {x : Int32} (hf : p_V 35 h a 1 (.int x) = some h') (hd : decode Y.2.1 pc = .ok (.putfield 13, 3)) (hY : Y.1.cls = RX36) (kk : wp w d Y (pc + 3) ls st h' Q) : wp w d Y pc ls (.int x :: .ref a :: st) h Q := x_pI (ci := 35) (k := 1) hf hd rfl (by decide) (by rw [hY]; exact q4132) rfl rfl kk
theorem SX36_17 {w : eW} {d : Nat} {Y : eY} {pc : Nat} {ls : eL} {st : List Value} {h : eH} {Q : eO → eH → Prop} {a : Nat} {h' : eH} {x : Int32} (hf : p_V 35 h a 2 (.int x) = some h') (hd : decode Y.2.1 pc = .ok (.putfield 17, 3)) (hY : Y.1.cls = RX36) (kk : wp w d Y (pc + 3) ls st h' Q) : wp w d Y pc ls (.int x :: .ref a :: st) h Q := x_pI (ci := 35) (k := 2) hf hd rfl (by decide) (by rw [hY]; exact q4133) rfl rfl kk
theorem SX36_21 {w : eW} {d : Nat} {Y : eY} {pc : Nat} {ls : eL} {st : List Value} {h : eH} {Q : eO → eH → Prop} {a : Nat} {h' : eH} {v : Value} (hf : p_F 35 h a 4 v = some h') (hd : decode Y.2.1 pc = .ok (.putfield 21, 3)) (hY : Y.1.cls = RX36) (hI : Y.1.name = "<init>") (hn : narrow (tyX36 4) v = v) (hfit : fits (tyX36 4) v = true) (kk : wp w d Y (pc + 3) ls st h' Q) : wp w d Y pc ls (v :: .ref a :: st) h Q := x_pF (ci := 35) (k := 4) hf hd rfl (by decide) (by rw [hY]; exact q4136) rfl hI (by rw [hY]; rfl) (tyX36_ok 4 (by decide)) hn hfit kk
theorem SX36_24 {w : eW} {d : Nat} {Y : eY} {pc : Nat} {ls : eL} {st : List Value} {h : eH} {Q : eO → eH → Prop} {a : Nat} {h' : eH} {v : Value} (hf : p_F 35 h a 6 v = some h') (hd : decode Y.2.1 pc = .ok (.putfield 24, 3)) (hY : Y.1.cls = RX36) (hI : Y.1.name = "<init>") (hn : narrow (tyX36 6) v = v) (hfit : fits (tyX36 6) v = true) (kk : wp w d Y (pc + 3) ls st h' Q) : wp w d Y pc ls (v :: .ref a :: st) h Q := x_pF (ci := 35) (k := 6) hf hd rfl (by decide) (by rw [hY]; exact q4139) rfl hI (by rw [hY]; rfl) (tyX36_ok 6 (by decide)) hn hfit kk
theorem SX36_27 {w : eW} {d : Nat} {Y : eY} {pc : Nat} {ls : eL} {st : List Value} {h : eH} {Q : eO → eH → Prop} {a : Nat} {h' : eH} {v : Value} (hf : p_F 35 h a 7 v = some h') (hd : decode Y.2.1 pc = .ok (.putfield 27, 3)) (hY : Y.1.cls = RX36) (hI : Y.1.name = "<init>") (hn : narrow (tyX36 7) v = v) (hfit : fits (tyX36 7) v = true) (kk : wp w d Y (pc + 3) ls st h' Q) : wp w d Y pc ls (v :: .ref a :: st) h Q := x_pF (ci := 35) (k := 7) hf hd rfl (by decide) (by rw [hY]; exact q4140) rfl hI (by rw [hY]; rfl) (tyX36_ok 7 (by decide)) hn hfit kk
theorem SX36_30 {w : eW} {d : Nat} {Y : eY} {pc : Nat} {ls : eL} {st : List Value} {h : eH} {Q : eO → eH → Prop} {a : Nat} {h' : eH} {v : Value} (hf : p_F 35 h a 8 v = some h') (hd : decode Y.2.1 pc = .ok (.putfield 30, 3)) (hY : Y.1.cls = RX36) (hI : Y.1.name = "<init>") (hn : narrow (tyX36 8) v = v) (hfit : fits (tyX36 8) v = true) (kk : wp w d Y (pc + 3) ls st h' Q) : wp w d Y pc ls (v :: .ref a :: st) h Q := x_pF (ci := 35) (k := 8) hf hd rfl (by decide) (by rw [hY]; exact q4141) rfl hI (by rw [hY]; rfl) (tyX36_ok 8 (by decide)) hn hfit kk
theorem SX36_34 {w : eW} {d : Nat} {Y : eY} {pc : Nat} {ls : eL} {st : List Value} {h : eH} {Q : eO → eH → Prop} {a : Nat} {h' : eH} {v : Value} (hf : p_F 35 h a 9 v = some h') (hd : decode Y.2.1 pc = .ok (.putfield 34, 3)) (hY : Y.1.cls = RX36) (hI : Y.1.name = "<init>") (hn : narrow (tyX36 9) v = v) (hfit : fits (tyX36 9) v = true) (kk : wp w d Y (pc + 3) ls st h' Q) : wp w d Y pc ls (v :: .ref a :: st) h Q := x_pF (ci := 35) (k := 9) hf hd rfl (by decide) (by rw [hY]; exact q4142) rfl hI (by rw [hY]; rfl) (tyX36_ok 9 (by decide)) hn hfit kk
theorem SX36_37 {w : eW} {d : Nat} {Y : eY} {pc : Nat} {ls : eL} {st : List Value} {h : eH} {Q : eO → eH → Prop} {a : Nat} {h' : eH} {v : Value} (hf : p_F 35 h a 10 v = some h') (hd : decode Y.2.1 pc = .ok (.putfield 37, 3)) (hY : Y.1.cls = RX36) (hI : Y.1.name = "<init>") (hn : narrow (tyX36 10) v = v) (hfit : fits (tyX36 10) v = true) (kk : wp w d Y (pc + 3) ls st h' Q) : wp w d Y pc ls (v :: .ref a :: st) h Q := x_pF (ci := 35) (k := 10) hf hd rfl (by decide) (by rw [hY]; exact q4143) rfl hI (by rw [hY]; rfl) (tyX36_ok 10 (by decide)) hn hfit kk
theorem SX36_40 {w : eW} {d : Nat} {Y : eY} {pc : Nat} {ls : eL} {st : List Value} {h : eH} {Q : eO → eH → Prop} {a : Nat} {h' : eH} {v : Value} (hf : p_F 35 h a 11 v = some h') (hd : decode Y.2.1 pc = .ok (.putfield 40, 3)) (hY : Y.1.cls = RX36) (hI : Y.1.name = "<init>") (hn : narrow (tyX36 11) v = v) (hfit : fits (tyX36 11) v = true) (kk : wp w d Y (pc + 3) ls st h' Q) : wp w d Y pc ls (v :: .ref a :: st) h Q := x_pF (ci := 35) (k := 11) hf hd rfl (by decide) (by rw [hY]; exact q4144) rfl hI (by rw [hY]; rfl) (tyX36_ok 11 (by decide)) hn hfit kk
theorem SX36_43 {w : eW} {d : Nat} {Y : eY} {pc : Nat} {ls : eL} {st : List Value} {h : eH} {Q : eO → eH → Prop} {a : Nat} {h' : eH} {v : Value} (hf : p_F 35 h a 13 v = some h') (hd : decode Y.2.1 pc = .ok (.putfield 43, 3)) (hY : Y.1.cls = RX36) (hI : Y.1.name = "<init>") (hn : narrow (tyX36 13) v = v) (hfit : fits (tyX36 13) v = true) (kk : wp w d Y (pc + 3) ls st h' Q) : wp w d Y pc ls (v :: .ref a :: st) h Q := x_pF (ci := 35) (k := 13) hf hd rfl (by decide) (by rw [hY]; exact q4146) rfl hI (by rw [hY]; rfl) (tyX36_ok 13 (by decide)) hn hfit kk
theorem SX36_46 {w : eW} {d : Nat} {Y : eY} {pc : Nat} {ls : eL} {st : List Value} {h : eH} {Q : eO → eH → Prop} {a : Nat} {h' : eH} {v : Value} (hf : p_F 35 h a 14 v = some h') (hd : decode Y.2.1 pc = .ok (.putfield 46, 3)) (hY : Y.1.cls = RX36) (hI : Y.1.name = "<init>") (hn : narrow (tyX36 14) v = v) (hfit : fits (tyX36 14) v = true) (kk : wp w d Y (pc + 3) ls st h' Q) : wp w d Y pc ls (v :: .ref a :: st) h Q := x_pF (ci := 35) (k := 14) hf hd rfl (by decide) (by rw [hY]; exact q4147) rfl hI (by rw [hY]; rfl) (tyX36_ok 14 (by decide)) hn hfit kk
theorem SX36_49 {w : eW} {d : Nat} {Y : eY} {pc : Nat} {ls : eL} {st : List Value} {h : eH} {Q : eO → eH → Prop} {a : Nat} {h' : eH} {v : Value} (hf : p_F 35 h a 15 v = some h') (hd : decode Y.2.1 pc = .ok (.putfield 49, 3)) (hY : Y.1.cls = RX36) (hI : Y.1.name = "<init>") (hn : narrow (tyX36 15) v = v) (hfit : fits (tyX36 15) v = true) (kk : wp w d Y (pc + 3) ls st h' Q) : wp w d Y pc ls (v :: .ref a :: st) h Q := x_pF (ci := 35) (k := 15) hf hd rfl (by decide) (by rw [hY]; exact q4148) rfl hI (by rw [hY]; rfl) (tyX36_ok 15 (by decide)) hn hfit kk
theorem SX36_52 {w : eW} {d : Nat} {Y : eY} {pc : Nat} {ls : eL} {st : List Value} {h : eH} {Q : eO → eH → Prop} {a : Nat} {h' : eH} {v : Value} (hf : p_F 35 h a 20 v = some h') (hd : decode Y.2.1 pc = .ok (.putfield 52, 3)) (hY : Y.1.cls = RX36) (hI : Y.1.name = "<init>") (hn : narrow (tyX36 20) v = v) (hfit : fits (tyX36 20) v = true) (kk : wp w d Y (pc + 3) ls st h' Q) : wp w d Y pc ls (v :: .ref a :: st) h Q := x_pF (ci := 35) (k := 20) hf hd rfl (by decide) (by rw [hY]; exact q4153) rfl hI (by rw [hY]; rfl) (tyX36_ok 20 (by decide)) hn hfit kk
theorem SX36_56 {w : eW} {d : Nat} {Y : eY} {pc : Nat} {ls : eL} {st : List Value} {h : eH} {Q : eO → eH → Prop} {a : Nat} {h' : eH} {v : Value} (hf : p_F 35 h a 21 v = some h') (hd : decode Y.2.1 pc = .ok (.putfield 56, 3)) (hY : Y.1.cls = RX36) (hI : Y.1.name = "<init>") (hn : narrow (tyX36 21) v = v) (hfit : fits (tyX36 21) v = true) (kk : wp w d Y (pc + 3) ls st h' Q) : wp w d Y pc ls (v :: .ref a :: st) h Q := x_pF (ci := 35) (k := 21) hf hd rfl (by decide) (by rw [hY]; exact q4154) rfl hI (by rw [hY]; rfl) (tyX36_ok 21 (by decide)) hn hfit kk
theorem SX36_59 {w : eW} {d : Nat} {Y : eY} {pc : Nat} {ls : eL} {st : List Value} {h : eH} {Q : eO → eH → Prop} {a : Nat} {h' : eH} {v : Value} (hf : p_F 35 h a 22 v = some h') (hd : decode Y.2.1 pc = .ok (.putfield 59, 3)) (hY : Y.1.cls = RX36) (hI : Y.1.name = "<init>") (hn : narrow (tyX36 22) v = v) (hfit : fits (tyX36 22) v = true) (kk : wp w d Y (pc + 3) ls st h' Q) : wp w d Y pc ls (v :: .ref a :: st) h Q := x_pF (ci := 35) (k := 22) hf hd rfl (by decide) (by rw [hY]; exact q4155) rfl hI (by rw [hY]; rfl) (tyX36_ok 22 (by decide)) hn hfit kk
theorem SX36_62 {w : eW} {d : Nat} {Y : eY} {pc : Nat} {ls : eL} {st : List Value} {h : eH} {Q : eO → eH → Prop} {a : Nat} {h' : eH} {v : Value} (hf : p_F 35 h a 24 v = some h') (hd : decode Y.2.1 pc = .ok (.putfield 62, 3)) (hY : Y.1.cls = RX36) (hI : Y.1.name = "<init>") (hn : narrow (tyX36 24) v = v) (hfit : fits (tyX36 24) v = true) (kk : wp w d Y (pc + 3) ls st h' Q) : wp w d Y pc ls (v :: .ref a :: st) h Q := x_pF (ci := 35) (k := 24) hf hd rfl (by decide) (by rw [hY]; exact q4157) rfl hI (by rw [hY]; rfl) (tyX36_ok 24 (by decide)) hn hfit kk
theorem SX36_65 {w : eW} {d : Nat} {Y : eY} {pc : Nat} {ls : eL} {st : List Value} {h : eH} {Q : eO → eH → Prop} {a : Nat} {h' : eH} {v : Value} (hf : p_F 35 h a 25 v = some h') (hd : decode Y.2.1 pc = .ok (.putfield 65, 3)) (hY : Y.1.cls = RX36) (hI : Y.1.name = "<init>") (hn : narrow (tyX36 25) v = v) (hfit : fits (tyX36 25) v = true) (kk : wp w d Y (pc + 3) ls st h' Q) : wp w d Y pc ls (v :: .ref a :: st) h Q := x_pF (ci := 35) (k := 25) hf hd rfl (by decide) (by rw [hY]; exact q4158) rfl hI (by rw [hY]; rfl) (tyX36_ok 25 (by decide)) hn hfit kk
theorem SX36_68 {w : eW} {d : Nat} {Y : eY} {pc : Nat} {ls : eL} {st : List Value} {h : eH} {Q : eO → eH → Prop} {a : Nat} {h' : eH} {v : Value} (hf : p_F 35 h a 27 v = some h') (hd : decode Y.2.1 pc = .ok (.putfield 68, 3)) (hY : Y.1.cls = RX36) (hI : Y.1.name = "<init>") (hn : narrow (tyX36 27) v = v) (hfit : fits (tyX36 27) v = true) (kk : wp w d Y (pc + 3) ls st h' Q) : wp w d Y pc ls (v :: .ref a :: st) h Q := x_pF (ci := 35) (k := 27) hf hd rfl (by decide) (by rw [hY]; exact q4161) rfl hI (by rw [hY]; rfl) (tyX36_ok 27 (by decide)) hn hfit kk
theorem SX36_7 {w : eW} {d : Nat} {Y : eY} {pc : Nat} {ls : eL} {st : List Value} {h : eH} {Q : eO → eH → Prop} {a : Nat} {h' : eH} {v : Value} (hf : p_F 35 h a 0 v = some h') (hd : decode Y.2.1 pc = .ok (.putfield 7, 3)) (hY : Y.1.cls = RX36) (hI : Y.1.name = "<init>") (hn : narrow (tyX36 0) v = v) (hfit : fits (tyX36 0) v = true) (kk : wp w d Y (pc + 3) ls st h' Q) : wp w d Y pc ls (v :: .ref a :: st) h Q := x_pF (ci := 35) (k := 0) hf hd rfl (by decide) (by rw [hY]; exact q4131) rfl hI (by rw [hY]; rfl) (tyX36_ok 0 (by decide)) hn hfit kk
def fX36_init_b162 (N : Nat) : Nat → Nat → Int32 → eH → Option (Unit × eH)
  | 0, _, _, _ => none
  | n + 1, l0, l1, h =>
    if (26 : Int32) < l1 then
      some ((), h)
    else
      (g_A 35 h l0 0).bind fun a2 =>
      (q_V 100 h a2 (((97 : Int32) + l1) - (1 : Int32)) (.int l1)).bind fun h4 =>
      (g_A 35 h4 l0 0).bind fun a6 =>
      (q_V 100 h4 a6 (((65 : Int32) + l1) - (1 : Int32)) (.int l1)).bind fun h8 =>
      fX36_init_b162 N n l0 (l1 + (1 : Int32)) h8
theorem pX36_init_b162 {w : eW} {d : Nat} (hd : 1 ≤ d + 1) {N : Nat} : ∀ (n : Nat) l0 l1 h q, fX36_init_b162 N n l0 l1 h = some q → wp w (d + 1) YX36_init 162 [some (.ref l0), some (.int l1)] [] h (e_is (e_rn c_V q)) := by
  intro n
  induction n with
  | zero => intro l0 l1 h q hf; simp [fX36_init_b162] at hf
  | succ n ih =>
    intro l0 l1 h q hf
    rw [fX36_init_b162] at hf
    refine w_iload_n dX36_init_162 rfl rfl ?_
    refine w_bipush dX36_init_163 (v := 26) (by decide) ?_
    refine w_icmp_gt 198 dX36_init_165 (by decide) (fun c1 => ?_) (fun c1 => ?_)
    · replace hf := (if_pos (show (26 : Int32) < l1 from c1)).symm.trans hf
      cases hf
      exact w_vret dX36_init_198 rfl rfl
    · replace hf := (if_neg (show ¬ ((26 : Int32) < l1) from c1)).symm.trans hf
      refine w_aload_n dX36_init_168 rfl rfl ?_
      obtain ⟨a2, b3, hf⟩ := Option.bind_eq_some_iff.mp hf
      refine GX36_7 b3 dX36_init_169 rfl ?_
      refine w_bipush dX36_init_172 (v := 97) (by decide) ?_
      refine w_iload_n dX36_init_174 rfl rfl ?_
      refine w_iadd dX36_init_175 ?_
      refine w_iconst dX36_init_176 (v := 1) (by decide) ?_
      refine w_isub dX36_init_177 ?_
      refine w_iload_n dX36_init_178 rfl rfl ?_
      obtain ⟨h4, b5, hf⟩ := Option.bind_eq_some_iff.mp hf
      refine x_qI b5 dX36_init_179 ?_
      refine w_aload_n dX36_init_180 rfl rfl ?_
      obtain ⟨a6, b7, hf⟩ := Option.bind_eq_some_iff.mp hf
      refine GX36_7 b7 dX36_init_181 rfl ?_
      refine w_bipush dX36_init_184 (v := 65) (by decide) ?_
      refine w_iload_n dX36_init_186 rfl rfl ?_
      refine w_iadd dX36_init_187 ?_
      refine w_iconst dX36_init_188 (v := 1) (by decide) ?_
      refine w_isub dX36_init_189 ?_
      refine w_iload_n dX36_init_190 rfl rfl ?_
      obtain ⟨h8, b9, hf⟩ := Option.bind_eq_some_iff.mp hf
      refine x_qI b9 dX36_init_191 ?_
      refine w_iinc dX36_init_192 (v := (l1 + (1 : Int32))) rfl rfl (by decide) (ls' := [some (.ref l0), some (.int (l1 + (1 : Int32)))]) rfl ?_
      refine w_goto 162 dX36_init_195 (by decide) ?_
      exact (ih _ _ _ _ hf).to ⟨rfl, rfl, trivial⟩
def fX36_init (N : Nat) (this : Nat) (h : eH) : Option (Unit × eH) :=
  (n_arr 100 189 (.int 0) h (256 : Int32)).bind fun q1 =>
  (p_F 35 q1.2 this 0 (.ref q1.1)).bind fun h3 =>
  (p_V 35 h3 this 1 (.int (2 : Int32))).bind fun h5 =>
  (p_V 35 h5 this 2 (.int (3 : Int32))).bind fun h7 =>
  (n_arr 100 190 (.int 0) h7 (65536 : Int32)).bind fun q9 =>
  (p_F 35 q9.2 this 4 (.ref q9.1)).bind fun h11 =>
  (n_arr 100 191 (.int 0) h11 (1001 : Int32)).bind fun q13 =>
  (p_F 35 q13.2 this 6 (.ref q13.1)).bind fun h15 =>
  (n_arr 100 192 (.int 0) h15 (1001 : Int32)).bind fun q17 =>
  (p_F 35 q17.2 this 7 (.ref q17.1)).bind fun h19 =>
  (n_arr 103 193 (.int 0) h19 (1001 : Int32)).bind fun q21 =>
  (p_F 35 q21.2 this 8 (.ref q21.1)).bind fun h23 =>
  (n_arr 103 194 (.int 0) h23 (1001 : Int32)).bind fun q25 =>
  (p_F 35 q25.2 this 9 (.ref q25.1)).bind fun h27 =>
  (n_arr 100 195 (.int 0) h27 (8064 : Int32)).bind fun q29 =>
  (p_F 35 q29.2 this 10 (.ref q29.1)).bind fun h31 =>
  (n_arr 100 196 (.int 0) h31 (9100 : Int32)).bind fun q33 =>
  (p_F 35 q33.2 this 11 (.ref q33.1)).bind fun h35 =>
  (n_arr 100 197 (.int 0) h35 (301 : Int32)).bind fun q37 =>
  (p_F 35 q37.2 this 13 (.ref q37.1)).bind fun h39 =>
  (n_arr 100 198 (.int 0) h39 (8064 : Int32)).bind fun q41 =>
  (p_F 35 q41.2 this 14 (.ref q41.1)).bind fun h43 =>
  (n_arr 103 199 (.int 0) h43 (8064 : Int32)).bind fun q45 =>
  (p_F 35 q45.2 this 15 (.ref q45.1)).bind fun h47 =>
  (n_arr 100 200 (.int 0) h47 (65536 : Int32)).bind fun q49 =>
  (p_F 35 q49.2 this 20 (.ref q49.1)).bind fun h51 =>
  (n_arr 100 201 (.int 0) h51 (65537 : Int32)).bind fun q53 =>
  (p_F 35 q53.2 this 21 (.ref q53.1)).bind fun h55 =>
  (n_arr 103 202 (.int 0) h55 (65536 : Int32)).bind fun q57 =>
  (p_F 35 q57.2 this 22 (.ref q57.1)).bind fun h59 =>
  (n_arr 100 203 (.int 0) h59 (64 : Int32)).bind fun q61 =>
  (p_F 35 q61.2 this 24 (.ref q61.1)).bind fun h63 =>
  (n_arr 100 204 (.int 0) h63 (64 : Int32)).bind fun q65 =>
  (p_F 35 q65.2 this 25 (.ref q65.1)).bind fun h67 =>
  (n_arr 100 205 (.int 0) h67 (64 : Int32)).bind fun q69 =>
  (p_F 35 q69.2 this 27 (.ref q69.1)).bind fun h71 =>
  fX36_init_b162 N N this (1 : Int32) h71
theorem pX36_init {w : eW} {d : Nat} (hd : 1 ≤ d) {N : Nat} {this : Nat} {h : eH} {q} (hf : fX36_init N this h = some q) : wm w d YX36_init [.ref this] h (e_is (e_rn c_V q)) := by
  obtain ⟨d, rfl⟩ : ∃ e, d = e + 1 := ⟨d - 1, by omega⟩
  show wp w (d + 1) YX36_init 0 [some (.ref this), none] [] h _
  unfold fX36_init at hf
  refine w_aload_n dX36_init_0 rfl rfl ?_
  refine w_obj dX36_init_1 q4128 q490 q491 (by decide) ?_
  refine w_aload_n dX36_init_4 rfl rfl ?_
  refine w_sipush dX36_init_5 (v := 256) (by decide) ?_
  obtain ⟨q1, b2, hf⟩ := Option.bind_eq_some_iff.mp hf
  refine x_newI (g := 189) b2 dX36_init_8 q582 ?_
  obtain ⟨h3, b4, hf⟩ := Option.bind_eq_some_iff.mp hf
  refine SX36_7 b4 dX36_init_10 rfl rfl rfl rfl ?_
  refine w_aload_n dX36_init_13 rfl rfl ?_
  refine w_iconst dX36_init_14 (v := 2) (by decide) ?_
  obtain ⟨h5, b6, hf⟩ := Option.bind_eq_some_iff.mp hf
  refine SX36_13 b6 dX36_init_15 rfl ?_
  refine w_aload_n dX36_init_18 rfl rfl ?_
  refine w_iconst dX36_init_19 (v := 3) (by decide) ?_
  obtain ⟨h7, b8, hf⟩ := Option.bind_eq_some_iff.mp hf
  refine SX36_17 b8 dX36_init_20 rfl ?_
  refine w_aload_n dX36_init_23 rfl rfl ?_
  refine w_ldc dX36_init_24 q4129 ?_
  obtain ⟨q9, b10, hf⟩ := Option.bind_eq_some_iff.mp hf
  refine x_newI (g := 190) b10 dX36_init_26 q582 ?_
  obtain ⟨h11, b12, hf⟩ := Option.bind_eq_some_iff.mp hf
  refine SX36_21 b12 dX36_init_28 rfl rfl rfl rfl ?_
  refine w_aload_n dX36_init_31 rfl rfl ?_
  refine w_sipush dX36_init_32 (v := 1001) (by decide) ?_
  obtain ⟨q13, b14, hf⟩ := Option.bind_eq_some_iff.mp hf
  refine x_newI (g := 191) b14 dX36_init_35 q582 ?_
  obtain ⟨h15, b16, hf⟩ := Option.bind_eq_some_iff.mp hf
  refine SX36_24 b16 dX36_init_37 rfl rfl rfl rfl ?_
  refine w_aload_n dX36_init_40 rfl rfl ?_
  refine w_sipush dX36_init_41 (v := 1001) (by decide) ?_
  obtain ⟨q17, b18, hf⟩ := Option.bind_eq_some_iff.mp hf
  refine x_newI (g := 192) b18 dX36_init_44 q582 ?_
  obtain ⟨h19, b20, hf⟩ := Option.bind_eq_some_iff.mp hf
  refine SX36_27 b20 dX36_init_46 rfl rfl rfl rfl ?_
  refine w_aload_n dX36_init_49 rfl rfl ?_
  refine w_sipush dX36_init_50 (v := 1001) (by decide) ?_
  obtain ⟨q21, b22, hf⟩ := Option.bind_eq_some_iff.mp hf
  refine x_newZ (g := 193) b22 dX36_init_53 q583 ?_
  obtain ⟨h23, b24, hf⟩ := Option.bind_eq_some_iff.mp hf
  refine SX36_30 b24 dX36_init_55 rfl rfl rfl rfl ?_
  refine w_aload_n dX36_init_58 rfl rfl ?_
  refine w_sipush dX36_init_59 (v := 1001) (by decide) ?_
  obtain ⟨q25, b26, hf⟩ := Option.bind_eq_some_iff.mp hf
  refine x_newZ (g := 194) b26 dX36_init_62 q583 ?_
  obtain ⟨h27, b28, hf⟩ := Option.bind_eq_some_iff.mp hf
  refine SX36_34 b28 dX36_init_64 rfl rfl rfl rfl ?_
  refine w_aload_n dX36_init_67 rfl rfl ?_
  refine w_sipush dX36_init_68 (v := 8064) (by decide) ?_
  obtain ⟨q29, b30, hf⟩ := Option.bind_eq_some_iff.mp hf
  refine x_newI (g := 195) b30 dX36_init_71 q582 ?_
  obtain ⟨h31, b32, hf⟩ := Option.bind_eq_some_iff.mp hf
  refine SX36_37 b32 dX36_init_73 rfl rfl rfl rfl ?_
  refine w_aload_n dX36_init_76 rfl rfl ?_
  refine w_sipush dX36_init_77 (v := 9100) (by decide) ?_
  obtain ⟨q33, b34, hf⟩ := Option.bind_eq_some_iff.mp hf
  refine x_newI (g := 196) b34 dX36_init_80 q582 ?_
  obtain ⟨h35, b36, hf⟩ := Option.bind_eq_some_iff.mp hf
  refine SX36_40 b36 dX36_init_82 rfl rfl rfl rfl ?_
  refine w_aload_n dX36_init_85 rfl rfl ?_
  refine w_sipush dX36_init_86 (v := 301) (by decide) ?_
  obtain ⟨q37, b38, hf⟩ := Option.bind_eq_some_iff.mp hf
  refine x_newI (g := 197) b38 dX36_init_89 q582 ?_
  obtain ⟨h39, b40, hf⟩ := Option.bind_eq_some_iff.mp hf
  refine SX36_43 b40 dX36_init_91 rfl rfl rfl rfl ?_
  refine w_aload_n dX36_init_94 rfl rfl ?_
  refine w_sipush dX36_init_95 (v := 8064) (by decide) ?_
  obtain ⟨q41, b42, hf⟩ := Option.bind_eq_some_iff.mp hf
  refine x_newI (g := 198) b42 dX36_init_98 q582 ?_
  obtain ⟨h43, b44, hf⟩ := Option.bind_eq_some_iff.mp hf
  refine SX36_46 b44 dX36_init_100 rfl rfl rfl rfl ?_
  refine w_aload_n dX36_init_103 rfl rfl ?_
  refine w_sipush dX36_init_104 (v := 8064) (by decide) ?_
  obtain ⟨q45, b46, hf⟩ := Option.bind_eq_some_iff.mp hf
  refine x_newZ (g := 199) b46 dX36_init_107 q583 ?_
  obtain ⟨h47, b48, hf⟩ := Option.bind_eq_some_iff.mp hf
  refine SX36_49 b48 dX36_init_109 rfl rfl rfl rfl ?_
  refine w_aload_n dX36_init_112 rfl rfl ?_
  refine w_ldc dX36_init_113 q4129 ?_
  obtain ⟨q49, b50, hf⟩ := Option.bind_eq_some_iff.mp hf
  refine x_newI (g := 200) b50 dX36_init_115 q582 ?_
  obtain ⟨h51, b52, hf⟩ := Option.bind_eq_some_iff.mp hf
  refine SX36_52 b52 dX36_init_117 rfl rfl rfl rfl ?_
  refine w_aload_n dX36_init_120 rfl rfl ?_
  refine w_ldc dX36_init_121 q4130 ?_
  obtain ⟨q53, b54, hf⟩ := Option.bind_eq_some_iff.mp hf
  refine x_newI (g := 201) b54 dX36_init_123 q582 ?_
  obtain ⟨h55, b56, hf⟩ := Option.bind_eq_some_iff.mp hf
  refine SX36_56 b56 dX36_init_125 rfl rfl rfl rfl ?_
  refine w_aload_n dX36_init_128 rfl rfl ?_
  refine w_ldc dX36_init_129 q4129 ?_
  obtain ⟨q57, b58, hf⟩ := Option.bind_eq_some_iff.mp hf
  refine x_newZ (g := 202) b58 dX36_init_131 q583 ?_
  obtain ⟨h59, b60, hf⟩ := Option.bind_eq_some_iff.mp hf
  refine SX36_59 b60 dX36_init_133 rfl rfl rfl rfl ?_
  refine w_aload_n dX36_init_136 rfl rfl ?_
  refine w_bipush dX36_init_137 (v := 64) (by decide) ?_
  obtain ⟨q61, b62, hf⟩ := Option.bind_eq_some_iff.mp hf
  refine x_newI (g := 203) b62 dX36_init_139 q582 ?_
  obtain ⟨h63, b64, hf⟩ := Option.bind_eq_some_iff.mp hf
  refine SX36_62 b64 dX36_init_141 rfl rfl rfl rfl ?_
  refine w_aload_n dX36_init_144 rfl rfl ?_
  refine w_bipush dX36_init_145 (v := 64) (by decide) ?_
  obtain ⟨q65, b66, hf⟩ := Option.bind_eq_some_iff.mp hf
  refine x_newI (g := 204) b66 dX36_init_147 q582 ?_
  obtain ⟨h67, b68, hf⟩ := Option.bind_eq_some_iff.mp hf
  refine SX36_65 b68 dX36_init_149 rfl rfl rfl rfl ?_
  refine w_aload_n dX36_init_152 rfl rfl ?_
  refine w_bipush dX36_init_153 (v := 64) (by decide) ?_
  obtain ⟨q69, b70, hf⟩ := Option.bind_eq_some_iff.mp hf
  refine x_newI (g := 205) b70 dX36_init_155 q582 ?_
  obtain ⟨h71, b72, hf⟩ := Option.bind_eq_some_iff.mp hf
  refine SX36_68 b72 dX36_init_157 rfl rfl rfl rfl ?_
  refine w_iconst dX36_init_160 (v := 1) (by decide) ?_
  refine w_istore_n dX36_init_161 rfl (by decide) (ls' := [some (.ref this), some (.int (1 : Int32))]) rfl ?_
  exact (pX36_init_b162 hd N _ _ _ _ hf).to ⟨rfl, rfl, trivial⟩
abbrev cX37_init : ByteArray := prog_38_method_1_code
def yX37_init : MethodName := ⟨RX37, "<init>", "()V"⟩
def YX37_init : eY := (yX37_init, cX37_init, 1, none, [])
theorem mX37_init : e_mi YX37_init 0 := ⟨q4223, rfl, rfl, q4224, by decide, by decide +kernel, (e_sig (by decide +kernel))⟩
theorem dX37_init_0 : decode cX37_init 0 = .ok (.aload_n 0, 1) := dc_42 (by decide +kernel)
theorem dX37_init_1 : decode cX37_init 1 = .ok (.invokespecial 1, 3) := dc_183 (a := 0) (b := 1) (n := 1) (by decide +kernel)
theorem dX37_init_4 : decode cX37_init 4 = .ok (.aload_n 0, 1) := dc_42 (by decide +kernel)
theorem dX37_init_5 : decode cX37_init 5 = .ok (.sipush 2010, 3) := dc_17 (a := 7) (b := 218) (v := 2010) (by decide +kernel)
theorem dX37_init_8 : decode cX37_init 8 = .ok (.newarray .int, 2) := dc_188_10 (by decide +kernel)
theorem dX37_init_10 : decode cX37_init 10 = .ok (.putfield 7, 3) := dc_181 (a := 0) (b := 7) (n := 7) (by decide +kernel)
theorem dX37_init_13 : decode cX37_init 13 = .ok (.aload_n 0, 1) := dc_42 (by decide +kernel)
theorem dX37_init_14 : decode cX37_init 14 = .ok (.sipush 2010, 3) := dc_17 (a := 7) (b := 218) (v := 2010) (by decide +kernel)
theorem dX37_init_17 : decode cX37_init 17 = .ok (.newarray .int, 2) := dc_188_10 (by decide +kernel)
theorem dX37_init_19 : decode cX37_init 19 = .ok (.putfield 13, 3) := dc_181 (a := 0) (b := 13) (n := 13) (by decide +kernel)
theorem dX37_init_22 : decode cX37_init 22 = .ok (.aload_n 0, 1) := dc_42 (by decide +kernel)
theorem dX37_init_23 : decode cX37_init 23 = .ok (.sipush 2010, 3) := dc_17 (a := 7) (b := 218) (v := 2010) (by decide +kernel)
theorem dX37_init_26 : decode cX37_init 26 = .ok (.newarray .int, 2) := dc_188_10 (by decide +kernel)
theorem dX37_init_28 : decode cX37_init 28 = .ok (.putfield 16, 3) := dc_181 (a := 0) (b := 16) (n := 16) (by decide +kernel)
theorem dX37_init_31 : decode cX37_init 31 = .ok (.aload_n 0, 1) := dc_42 (by decide +kernel)
theorem dX37_init_32 : decode cX37_init 32 = .ok (.sipush 2010, 3) := dc_17 (a := 7) (b := 218) (v := 2010) (by decide +kernel)
theorem dX37_init_35 : decode cX37_init 35 = .ok (.newarray .int, 2) := dc_188_10 (by decide +kernel)
theorem dX37_init_37 : decode cX37_init 37 = .ok (.putfield 19, 3) := dc_181 (a := 0) (b := 19) (n := 19) (by decide +kernel)
theorem dX37_init_40 : decode cX37_init 40 = .ok (.aload_n 0, 1) := dc_42 (by decide +kernel)
theorem dX37_init_41 : decode cX37_init 41 = .ok (.sipush 2010, 3) := dc_17 (a := 7) (b := 218) (v := 2010) (by decide +kernel)
theorem dX37_init_44 : decode cX37_init 44 = .ok (.newarray .int, 2) := dc_188_10 (by decide +kernel)
theorem dX37_init_46 : decode cX37_init 46 = .ok (.putfield 22, 3) := dc_181 (a := 0) (b := 22) (n := 22) (by decide +kernel)
theorem dX37_init_49 : decode cX37_init 49 = .ok (.aload_n 0, 1) := dc_42 (by decide +kernel)
theorem dX37_init_50 : decode cX37_init 50 = .ok (.sipush 2010, 3) := dc_17 (a := 7) (b := 218) (v := 2010) (by decide +kernel)
theorem dX37_init_53 : decode cX37_init 53 = .ok (.newarray .int, 2) := dc_188_10 (by decide +kernel)
theorem dX37_init_55 : decode cX37_init 55 = .ok (.putfield 25, 3) := dc_181 (a := 0) (b := 25) (n := 25) (by decide +kernel)
theorem dX37_init_58 : decode cX37_init 58 = .ok (.aload_n 0, 1) := dc_42 (by decide +kernel)
theorem dX37_init_59 : decode cX37_init 59 = .ok (.sipush 2010, 3) := dc_17 (a := 7) (b := 218) (v := 2010) (by decide +kernel)
theorem dX37_init_62 : decode cX37_init 62 = .ok (.newarray .int, 2) := dc_188_10 (by decide +kernel)
theorem dX37_init_64 : decode cX37_init 64 = .ok (.putfield 28, 3) := dc_181 (a := 0) (b := 28) (n := 28) (by decide +kernel)
theorem dX37_init_67 : decode cX37_init 67 = .ok (.aload_n 0, 1) := dc_42 (by decide +kernel)
theorem dX37_init_68 : decode cX37_init 68 = .ok (.sipush 2010, 3) := dc_17 (a := 7) (b := 218) (v := 2010) (by decide +kernel)
theorem dX37_init_71 : decode cX37_init 71 = .ok (.newarray .int, 2) := dc_188_10 (by decide +kernel)
theorem dX37_init_73 : decode cX37_init 73 = .ok (.putfield 31, 3) := dc_181 (a := 0) (b := 31) (n := 31) (by decide +kernel)
theorem dX37_init_76 : decode cX37_init 76 = .ok (.aload_n 0, 1) := dc_42 (by decide +kernel)
theorem dX37_init_77 : decode cX37_init 77 = .ok (.bipush 10, 2) := dc_16 (a := 10) (v := 10) (by decide +kernel)
theorem dX37_init_79 : decode cX37_init 79 = .ok (.newarray .int, 2) := dc_188_10 (by decide +kernel)
theorem dX37_init_81 : decode cX37_init 81 = .ok (.putfield 34, 3) := dc_181 (a := 0) (b := 34) (n := 34) (by decide +kernel)
theorem dX37_init_84 : decode cX37_init 84 = .ok (.aload_n 0, 1) := dc_42 (by decide +kernel)
theorem dX37_init_85 : decode cX37_init 85 = .ok (.iconst 3, 1) := dc_6 (by decide +kernel)
theorem dX37_init_86 : decode cX37_init 86 = .ok (.newarray .int, 2) := dc_188_10 (by decide +kernel)
theorem dX37_init_88 : decode cX37_init 88 = .ok (.putfield 37, 3) := dc_181 (a := 0) (b := 37) (n := 37) (by decide +kernel)
theorem dX37_init_91 : decode cX37_init 91 = .ok (.aload_n 0, 1) := dc_42 (by decide +kernel)
theorem dX37_init_92 : decode cX37_init 92 = .ok (.iconst 3, 1) := dc_6 (by decide +kernel)
theorem dX37_init_93 : decode cX37_init 93 = .ok (.newarray .int, 2) := dc_188_10 (by decide +kernel)
theorem dX37_init_95 : decode cX37_init 95 = .ok (.putfield 40, 3) := dc_181 (a := 0) (b := 40) (n := 40) (by decide +kernel)
theorem dX37_init_98 : decode cX37_init 98 = .ok (.aload_n 0, 1) := dc_42 (by decide +kernel)
theorem dX37_init_99 : decode cX37_init 99 = .ok (.iconst 3, 1) := dc_6 (by decide +kernel)
theorem dX37_init_100 : decode cX37_init 100 = .ok (.newarray .int, 2) := dc_188_10 (by decide +kernel)
theorem dX37_init_102 : decode cX37_init 102 = .ok (.putfield 43, 3) := dc_181 (a := 0) (b := 43) (n := 43) (by decide +kernel)
theorem dX37_init_105 : decode cX37_init 105 = .ok (.aload_n 0, 1) := dc_42 (by decide +kernel)
theorem dX37_init_106 : decode cX37_init 106 = .ok (.iconst 3, 1) := dc_6 (by decide +kernel)
theorem dX37_init_107 : decode cX37_init 107 = .ok (.newarray .int, 2) := dc_188_10 (by decide +kernel)
theorem dX37_init_109 : decode cX37_init 109 = .ok (.putfield 46, 3) := dc_181 (a := 0) (b := 46) (n := 46) (by decide +kernel)
theorem dX37_init_112 : decode cX37_init 112 = .ok (.aload_n 0, 1) := dc_42 (by decide +kernel)
theorem dX37_init_113 : decode cX37_init 113 = .ok (.sipush 8001, 3) := dc_17 (a := 31) (b := 65) (v := 8001) (by decide +kernel)
theorem dX37_init_116 : decode cX37_init 116 = .ok (.newarray .int, 2) := dc_188_10 (by decide +kernel)
theorem dX37_init_118 : decode cX37_init 118 = .ok (.putfield 49, 3) := dc_181 (a := 0) (b := 49) (n := 49) (by decide +kernel)
theorem dX37_init_121 : decode cX37_init 121 = .ok (.aload_n 0, 1) := dc_42 (by decide +kernel)
theorem dX37_init_122 : decode cX37_init 122 = .ok (.sipush 8001, 3) := dc_17 (a := 31) (b := 65) (v := 8001) (by decide +kernel)
theorem dX37_init_125 : decode cX37_init 125 = .ok (.newarray .int, 2) := dc_188_10 (by decide +kernel)
theorem dX37_init_127 : decode cX37_init 127 = .ok (.putfield 52, 3) := dc_181 (a := 0) (b := 52) (n := 52) (by decide +kernel)
theorem dX37_init_130 : decode cX37_init 130 = .ok (.aload_n 0, 1) := dc_42 (by decide +kernel)
theorem dX37_init_131 : decode cX37_init 131 = .ok (.sipush 8001, 3) := dc_17 (a := 31) (b := 65) (v := 8001) (by decide +kernel)
theorem dX37_init_134 : decode cX37_init 134 = .ok (.newarray .int, 2) := dc_188_10 (by decide +kernel)
theorem dX37_init_136 : decode cX37_init 136 = .ok (.putfield 55, 3) := dc_181 (a := 0) (b := 55) (n := 55) (by decide +kernel)
theorem dX37_init_139 : decode cX37_init 139 = .ok (.aload_n 0, 1) := dc_42 (by decide +kernel)
theorem dX37_init_140 : decode cX37_init 140 = .ok (.sipush 8001, 3) := dc_17 (a := 31) (b := 65) (v := 8001) (by decide +kernel)
theorem dX37_init_143 : decode cX37_init 143 = .ok (.newarray .long, 2) := dc_188_11 (by decide +kernel)
theorem dX37_init_145 : decode cX37_init 145 = .ok (.putfield 58, 3) := dc_181 (a := 0) (b := 58) (n := 58) (by decide +kernel)
theorem dX37_init_148 : decode cX37_init 148 = .ok (.aload_n 0, 1) := dc_42 (by decide +kernel)
theorem dX37_init_149 : decode cX37_init 149 = .ok (.sipush 8001, 3) := dc_17 (a := 31) (b := 65) (v := 8001) (by decide +kernel)
theorem dX37_init_152 : decode cX37_init 152 = .ok (.newarray .int, 2) := dc_188_10 (by decide +kernel)
theorem dX37_init_154 : decode cX37_init 154 = .ok (.putfield 62, 3) := dc_181 (a := 0) (b := 62) (n := 62) (by decide +kernel)
theorem dX37_init_157 : decode cX37_init 157 = .ok (.aload_n 0, 1) := dc_42 (by decide +kernel)
theorem dX37_init_158 : decode cX37_init 158 = .ok (.sipush 8001, 3) := dc_17 (a := 31) (b := 65) (v := 8001) (by decide +kernel)
theorem dX37_init_161 : decode cX37_init 161 = .ok (.newarray .boolean, 2) := dc_188_4 (by decide +kernel)
theorem dX37_init_163 : decode cX37_init 163 = .ok (.putfield 65, 3) := dc_181 (a := 0) (b := 65) (n := 65) (by decide +kernel)
theorem dX37_init_166 : decode cX37_init 166 = .ok (.aload_n 0, 1) := dc_42 (by decide +kernel)
theorem dX37_init_167 : decode cX37_init 167 = .ok (.iconst 4, 1) := dc_7 (by decide +kernel)
theorem dX37_init_168 : decode cX37_init 168 = .ok (.newarray .int, 2) := dc_188_10 (by decide +kernel)
theorem dX37_init_170 : decode cX37_init 170 = .ok (.putfield 69, 3) := dc_181 (a := 0) (b := 69) (n := 69) (by decide +kernel)
theorem dX37_init_173 : decode cX37_init 173 = .ok (.aload_n 0, 1) := dc_42 (by decide +kernel)
theorem dX37_init_174 : decode cX37_init 174 = .ok (.sipush 2010, 3) := dc_17 (a := 7) (b := 218) (v := 2010) (by decide +kernel)
theorem dX37_init_177 : decode cX37_init 177 = .ok (.newarray .int, 2) := dc_188_10 (by decide +kernel)
theorem dX37_init_179 : decode cX37_init 179 = .ok (.putfield 72, 3) := dc_181 (a := 0) (b := 72) (n := 72) (by decide +kernel)
theorem dX37_init_182 : decode cX37_init 182 = .ok (.aload_n 0, 1) := dc_42 (by decide +kernel)
theorem dX37_init_183 : decode cX37_init 183 = .ok (.sipush 2010, 3) := dc_17 (a := 7) (b := 218) (v := 2010) (by decide +kernel)
theorem dX37_init_186 : decode cX37_init 186 = .ok (.newarray .int, 2) := dc_188_10 (by decide +kernel)
theorem dX37_init_188 : decode cX37_init 188 = .ok (.putfield 75, 3) := dc_181 (a := 0) (b := 75) (n := 75) (by decide +kernel)
theorem dX37_init_191 : decode cX37_init 191 = .ok (.aload_n 0, 1) := dc_42 (by decide +kernel)
theorem dX37_init_192 : decode cX37_init 192 = .ok (.sipush 2010, 3) := dc_17 (a := 7) (b := 218) (v := 2010) (by decide +kernel)
theorem dX37_init_195 : decode cX37_init 195 = .ok (.newarray .int, 2) := dc_188_10 (by decide +kernel)
theorem dX37_init_197 : decode cX37_init 197 = .ok (.putfield 78, 3) := dc_181 (a := 0) (b := 78) (n := 78) (by decide +kernel)
theorem dX37_init_200 : decode cX37_init 200 = .ok (.aload_n 0, 1) := dc_42 (by decide +kernel)
theorem dX37_init_201 : decode cX37_init 201 = .ok (.sipush 2010, 3) := dc_17 (a := 7) (b := 218) (v := 2010) (by decide +kernel)
theorem dX37_init_204 : decode cX37_init 204 = .ok (.newarray .int, 2) := dc_188_10 (by decide +kernel)
theorem dX37_init_206 : decode cX37_init 206 = .ok (.putfield 81, 3) := dc_181 (a := 0) (b := 81) (n := 81) (by decide +kernel)
theorem dX37_init_209 : decode cX37_init 209 = .ok (.aload_n 0, 1) := dc_42 (by decide +kernel)
theorem dX37_init_210 : decode cX37_init 210 = .ok (.sipush 2010, 3) := dc_17 (a := 7) (b := 218) (v := 2010) (by decide +kernel)
theorem dX37_init_213 : decode cX37_init 213 = .ok (.newarray .int, 2) := dc_188_10 (by decide +kernel)
theorem dX37_init_215 : decode cX37_init 215 = .ok (.putfield 84, 3) := dc_181 (a := 0) (b := 84) (n := 84) (by decide +kernel)
theorem dX37_init_218 : decode cX37_init 218 = .ok (.aload_n 0, 1) := dc_42 (by decide +kernel)
theorem dX37_init_219 : decode cX37_init 219 = .ok (.sipush 2010, 3) := dc_17 (a := 7) (b := 218) (v := 2010) (by decide +kernel)
theorem dX37_init_222 : decode cX37_init 222 = .ok (.newarray .long, 2) := dc_188_11 (by decide +kernel)
theorem dX37_init_224 : decode cX37_init 224 = .ok (.putfield 87, 3) := dc_181 (a := 0) (b := 87) (n := 87) (by decide +kernel)
theorem dX37_init_227 : decode cX37_init 227 = .ok (.aload_n 0, 1) := dc_42 (by decide +kernel)
theorem dX37_init_228 : decode cX37_init 228 = .ok (.sipush 2011, 3) := dc_17 (a := 7) (b := 219) (v := 2011) (by decide +kernel)
theorem dX37_init_231 : decode cX37_init 231 = .ok (.newarray .int, 2) := dc_188_10 (by decide +kernel)
theorem dX37_init_233 : decode cX37_init 233 = .ok (.putfield 90, 3) := dc_181 (a := 0) (b := 90) (n := 90) (by decide +kernel)
theorem dX37_init_236 : decode cX37_init 236 = .ok (.aload_n 0, 1) := dc_42 (by decide +kernel)
theorem dX37_init_237 : decode cX37_init 237 = .ok (.sipush 8044, 3) := dc_17 (a := 31) (b := 108) (v := 8044) (by decide +kernel)
theorem dX37_init_240 : decode cX37_init 240 = .ok (.newarray .int, 2) := dc_188_10 (by decide +kernel)
theorem dX37_init_242 : decode cX37_init 242 = .ok (.putfield 93, 3) := dc_181 (a := 0) (b := 93) (n := 93) (by decide +kernel)
theorem dX37_init_245 : decode cX37_init 245 = .ok (.aload_n 0, 1) := dc_42 (by decide +kernel)
theorem dX37_init_246 : decode cX37_init 246 = .ok (.sipush 2011, 3) := dc_17 (a := 7) (b := 219) (v := 2011) (by decide +kernel)
theorem dX37_init_249 : decode cX37_init 249 = .ok (.newarray .int, 2) := dc_188_10 (by decide +kernel)
theorem dX37_init_251 : decode cX37_init 251 = .ok (.putfield 96, 3) := dc_181 (a := 0) (b := 96) (n := 96) (by decide +kernel)
theorem dX37_init_254 : decode cX37_init 254 = .ok (.return_, 1) := dc_177 (by decide +kernel)
theorem SX37_13 {w : eW} {d : Nat} {Y : eY} {pc : Nat} {ls : eL} {st : List Value} {h : eH} {Q : eO → eH → Prop} {a : Nat} {h' : eH} {v : Value} (hf : p_F 36 h a 3 v = some h') (hd : decode Y.2.1 pc = .ok (.putfield 13, 3)) (hY : Y.1.cls = RX37) (hI : Y.1.name = "<init>") (hn : narrow (tyX37 3) v = v) (hfit : fits (tyX37 3) v = true) (kk : wp w d Y (pc + 3) ls st h' Q) : wp w d Y pc ls (v :: .ref a :: st) h Q := x_pF (ci := 36) (k := 3) hf hd rfl (by decide) (by rw [hY]; exact q4231) rfl hI (by rw [hY]; rfl) (tyX37_ok 3 (by decide)) hn hfit kk
theorem SX37_16 {w : eW} {d : Nat} {Y : eY} {pc : Nat} {ls : eL} {st : List Value} {h : eH} {Q : eO → eH → Prop} {a : Nat} {h' : eH} {v : Value} (hf : p_F 36 h a 4 v = some h') (hd : decode Y.2.1 pc = .ok (.putfield 16, 3)) (hY : Y.1.cls = RX37) (hI : Y.1.name = "<init>") (hn : narrow (tyX37 4) v = v) (hfit : fits (tyX37 4) v = true) (kk : wp w d Y (pc + 3) ls st h' Q) : wp w d Y pc ls (v :: .ref a :: st) h Q := x_pF (ci := 36) (k := 4) hf hd rfl (by decide) (by rw [hY]; exact q4232) rfl hI (by rw [hY]; rfl) (tyX37_ok 4 (by decide)) hn hfit kk
theorem SX37_19 {w : eW} {d : Nat} {Y : eY} {pc : Nat} {ls : eL} {st : List Value} {h : eH} {Q : eO → eH → Prop} {a : Nat} {h' : eH} {v : Value} (hf : p_F 36 h a 5 v = some h') (hd : decode Y.2.1 pc = .ok (.putfield 19, 3)) (hY : Y.1.cls = RX37) (hI : Y.1.name = "<init>") (hn : narrow (tyX37 5) v = v) (hfit : fits (tyX37 5) v = true) (kk : wp w d Y (pc + 3) ls st h' Q) : wp w d Y pc ls (v :: .ref a :: st) h Q := x_pF (ci := 36) (k := 5) hf hd rfl (by decide) (by rw [hY]; exact q4233) rfl hI (by rw [hY]; rfl) (tyX37_ok 5 (by decide)) hn hfit kk
theorem SX37_22 {w : eW} {d : Nat} {Y : eY} {pc : Nat} {ls : eL} {st : List Value} {h : eH} {Q : eO → eH → Prop} {a : Nat} {h' : eH} {v : Value} (hf : p_F 36 h a 6 v = some h') (hd : decode Y.2.1 pc = .ok (.putfield 22, 3)) (hY : Y.1.cls = RX37) (hI : Y.1.name = "<init>") (hn : narrow (tyX37 6) v = v) (hfit : fits (tyX37 6) v = true) (kk : wp w d Y (pc + 3) ls st h' Q) : wp w d Y pc ls (v :: .ref a :: st) h Q := x_pF (ci := 36) (k := 6) hf hd rfl (by decide) (by rw [hY]; exact q4234) rfl hI (by rw [hY]; rfl) (tyX37_ok 6 (by decide)) hn hfit kk
theorem SX37_25 {w : eW} {d : Nat} {Y : eY} {pc : Nat} {ls : eL} {st : List Value} {h : eH} {Q : eO → eH → Prop} {a : Nat} {h' : eH} {v : Value} (hf : p_F 36 h a 7 v = some h') (hd : decode Y.2.1 pc = .ok (.putfield 25, 3)) (hY : Y.1.cls = RX37) (hI : Y.1.name = "<init>") (hn : narrow (tyX37 7) v = v) (hfit : fits (tyX37 7) v = true) (kk : wp w d Y (pc + 3) ls st h' Q) : wp w d Y pc ls (v :: .ref a :: st) h Q := x_pF (ci := 36) (k := 7) hf hd rfl (by decide) (by rw [hY]; exact q4235) rfl hI (by rw [hY]; rfl) (tyX37_ok 7 (by decide)) hn hfit kk
theorem SX37_28 {w : eW} {d : Nat} {Y : eY} {pc : Nat} {ls : eL} {st : List Value} {h : eH} {Q : eO → eH → Prop} {a : Nat} {h' : eH} {v : Value} (hf : p_F 36 h a 8 v = some h') (hd : decode Y.2.1 pc = .ok (.putfield 28, 3)) (hY : Y.1.cls = RX37) (hI : Y.1.name = "<init>") (hn : narrow (tyX37 8) v = v) (hfit : fits (tyX37 8) v = true) (kk : wp w d Y (pc + 3) ls st h' Q) : wp w d Y pc ls (v :: .ref a :: st) h Q := x_pF (ci := 36) (k := 8) hf hd rfl (by decide) (by rw [hY]; exact q4236) rfl hI (by rw [hY]; rfl) (tyX37_ok 8 (by decide)) hn hfit kk
theorem SX37_31 {w : eW} {d : Nat} {Y : eY} {pc : Nat} {ls : eL} {st : List Value} {h : eH} {Q : eO → eH → Prop} {a : Nat} {h' : eH} {v : Value} (hf : p_F 36 h a 9 v = some h') (hd : decode Y.2.1 pc = .ok (.putfield 31, 3)) (hY : Y.1.cls = RX37) (hI : Y.1.name = "<init>") (hn : narrow (tyX37 9) v = v) (hfit : fits (tyX37 9) v = true) (kk : wp w d Y (pc + 3) ls st h' Q) : wp w d Y pc ls (v :: .ref a :: st) h Q := x_pF (ci := 36) (k := 9) hf hd rfl (by decide) (by rw [hY]; exact q4237) rfl hI (by rw [hY]; rfl) (tyX37_ok 9 (by decide)) hn hfit kk
theorem SX37_34 {w : eW} {d : Nat} {Y : eY} {pc : Nat} {ls : eL} {st : List Value} {h : eH} {Q : eO → eH → Prop} {a : Nat} {h' : eH} {v : Value} (hf : p_F 36 h a 10 v = some h') (hd : decode Y.2.1 pc = .ok (.putfield 34, 3)) (hY : Y.1.cls = RX37) (hI : Y.1.name = "<init>") (hn : narrow (tyX37 10) v = v) (hfit : fits (tyX37 10) v = true) (kk : wp w d Y (pc + 3) ls st h' Q) : wp w d Y pc ls (v :: .ref a :: st) h Q := x_pF (ci := 36) (k := 10) hf hd rfl (by decide) (by rw [hY]; exact q4238) rfl hI (by rw [hY]; rfl) (tyX37_ok 10 (by decide)) hn hfit kk
theorem SX37_37 {w : eW} {d : Nat} {Y : eY} {pc : Nat} {ls : eL} {st : List Value} {h : eH} {Q : eO → eH → Prop} {a : Nat} {h' : eH} {v : Value} (hf : p_F 36 h a 12 v = some h') (hd : decode Y.2.1 pc = .ok (.putfield 37, 3)) (hY : Y.1.cls = RX37) (hI : Y.1.name = "<init>") (hn : narrow (tyX37 12) v = v) (hfit : fits (tyX37 12) v = true) (kk : wp w d Y (pc + 3) ls st h' Q) : wp w d Y pc ls (v :: .ref a :: st) h Q := x_pF (ci := 36) (k := 12) hf hd rfl (by decide) (by rw [hY]; exact q4242) rfl hI (by rw [hY]; rfl) (tyX37_ok 12 (by decide)) hn hfit kk
theorem SX37_40 {w : eW} {d : Nat} {Y : eY} {pc : Nat} {ls : eL} {st : List Value} {h : eH} {Q : eO → eH → Prop} {a : Nat} {h' : eH} {v : Value} (hf : p_F 36 h a 13 v = some h') (hd : decode Y.2.1 pc = .ok (.putfield 40, 3)) (hY : Y.1.cls = RX37) (hI : Y.1.name = "<init>") (hn : narrow (tyX37 13) v = v) (hfit : fits (tyX37 13) v = true) (kk : wp w d Y (pc + 3) ls st h' Q) : wp w d Y pc ls (v :: .ref a :: st) h Q := x_pF (ci := 36) (k := 13) hf hd rfl (by decide) (by rw [hY]; exact q4244) rfl hI (by rw [hY]; rfl) (tyX37_ok 13 (by decide)) hn hfit kk
theorem SX37_43 {w : eW} {d : Nat} {Y : eY} {pc : Nat} {ls : eL} {st : List Value} {h : eH} {Q : eO → eH → Prop} {a : Nat} {h' : eH} {v : Value} (hf : p_F 36 h a 14 v = some h') (hd : decode Y.2.1 pc = .ok (.putfield 43, 3)) (hY : Y.1.cls = RX37) (hI : Y.1.name = "<init>") (hn : narrow (tyX37 14) v = v) (hfit : fits (tyX37 14) v = true) (kk : wp w d Y (pc + 3) ls st h' Q) : wp w d Y pc ls (v :: .ref a :: st) h Q := x_pF (ci := 36) (k := 14) hf hd rfl (by decide) (by rw [hY]; exact q4246) rfl hI (by rw [hY]; rfl) (tyX37_ok 14 (by decide)) hn hfit kk
theorem SX37_46 {w : eW} {d : Nat} {Y : eY} {pc : Nat} {ls : eL} {st : List Value} {h : eH} {Q : eO → eH → Prop} {a : Nat} {h' : eH} {v : Value} (hf : p_F 36 h a 15 v = some h') (hd : decode Y.2.1 pc = .ok (.putfield 46, 3)) (hY : Y.1.cls = RX37) (hI : Y.1.name = "<init>") (hn : narrow (tyX37 15) v = v) (hfit : fits (tyX37 15) v = true) (kk : wp w d Y (pc + 3) ls st h' Q) : wp w d Y pc ls (v :: .ref a :: st) h Q := x_pF (ci := 36) (k := 15) hf hd rfl (by decide) (by rw [hY]; exact q4248) rfl hI (by rw [hY]; rfl) (tyX37_ok 15 (by decide)) hn hfit kk
theorem SX37_49 {w : eW} {d : Nat} {Y : eY} {pc : Nat} {ls : eL} {st : List Value} {h : eH} {Q : eO → eH → Prop} {a : Nat} {h' : eH} {v : Value} (hf : p_F 36 h a 23 v = some h') (hd : decode Y.2.1 pc = .ok (.putfield 49, 3)) (hY : Y.1.cls = RX37) (hI : Y.1.name = "<init>") (hn : narrow (tyX37 23) v = v) (hfit : fits (tyX37 23) v = true) (kk : wp w d Y (pc + 3) ls st h' Q) : wp w d Y pc ls (v :: .ref a :: st) h Q := x_pF (ci := 36) (k := 23) hf hd rfl (by decide) (by rw [hY]; exact q4258) rfl hI (by rw [hY]; rfl) (tyX37_ok 23 (by decide)) hn hfit kk
theorem SX37_52 {w : eW} {d : Nat} {Y : eY} {pc : Nat} {ls : eL} {st : List Value} {h : eH} {Q : eO → eH → Prop} {a : Nat} {h' : eH} {v : Value} (hf : p_F 36 h a 24 v = some h') (hd : decode Y.2.1 pc = .ok (.putfield 52, 3)) (hY : Y.1.cls = RX37) (hI : Y.1.name = "<init>") (hn : narrow (tyX37 24) v = v) (hfit : fits (tyX37 24) v = true) (kk : wp w d Y (pc + 3) ls st h' Q) : wp w d Y pc ls (v :: .ref a :: st) h Q := x_pF (ci := 36) (k := 24) hf hd rfl (by decide) (by rw [hY]; exact q4259) rfl hI (by rw [hY]; rfl) (tyX37_ok 24 (by decide)) hn hfit kk
theorem SX37_55 {w : eW} {d : Nat} {Y : eY} {pc : Nat} {ls : eL} {st : List Value} {h : eH} {Q : eO → eH → Prop} {a : Nat} {h' : eH} {v : Value} (hf : p_F 36 h a 25 v = some h') (hd : decode Y.2.1 pc = .ok (.putfield 55, 3)) (hY : Y.1.cls = RX37) (hI : Y.1.name = "<init>") (hn : narrow (tyX37 25) v = v) (hfit : fits (tyX37 25) v = true) (kk : wp w d Y (pc + 3) ls st h' Q) : wp w d Y pc ls (v :: .ref a :: st) h Q := x_pF (ci := 36) (k := 25) hf hd rfl (by decide) (by rw [hY]; exact q4260) rfl hI (by rw [hY]; rfl) (tyX37_ok 25 (by decide)) hn hfit kk
theorem SX37_58 {w : eW} {d : Nat} {Y : eY} {pc : Nat} {ls : eL} {st : List Value} {h : eH} {Q : eO → eH → Prop} {a : Nat} {h' : eH} {v : Value} (hf : p_F 36 h a 26 v = some h') (hd : decode Y.2.1 pc = .ok (.putfield 58, 3)) (hY : Y.1.cls = RX37) (hI : Y.1.name = "<init>") (hn : narrow (tyX37 26) v = v) (hfit : fits (tyX37 26) v = true) (kk : wp w d Y (pc + 3) ls st h' Q) : wp w d Y pc ls (v :: .ref a :: st) h Q := x_pF (ci := 36) (k := 26) hf hd rfl (by decide) (by rw [hY]; exact q4261) rfl hI (by rw [hY]; rfl) (tyX37_ok 26 (by decide)) hn hfit kk
theorem SX37_62 {w : eW} {d : Nat} {Y : eY} {pc : Nat} {ls : eL} {st : List Value} {h : eH} {Q : eO → eH → Prop} {a : Nat} {h' : eH} {v : Value} (hf : p_F 36 h a 27 v = some h') (hd : decode Y.2.1 pc = .ok (.putfield 62, 3)) (hY : Y.1.cls = RX37) (hI : Y.1.name = "<init>") (hn : narrow (tyX37 27) v = v) (hfit : fits (tyX37 27) v = true) (kk : wp w d Y (pc + 3) ls st h' Q) : wp w d Y pc ls (v :: .ref a :: st) h Q := x_pF (ci := 36) (k := 27) hf hd rfl (by decide) (by rw [hY]; exact q4262) rfl hI (by rw [hY]; rfl) (tyX37_ok 27 (by decide)) hn hfit kk
theorem SX37_65 {w : eW} {d : Nat} {Y : eY} {pc : Nat} {ls : eL} {st : List Value} {h : eH} {Q : eO → eH → Prop} {a : Nat} {h' : eH} {v : Value} (hf : p_F 36 h a 28 v = some h') (hd : decode Y.2.1 pc = .ok (.putfield 65, 3)) (hY : Y.1.cls = RX37) (hI : Y.1.name = "<init>") (hn : narrow (tyX37 28) v = v) (hfit : fits (tyX37 28) v = true) (kk : wp w d Y (pc + 3) ls st h' Q) : wp w d Y pc ls (v :: .ref a :: st) h Q := x_pF (ci := 36) (k := 28) hf hd rfl (by decide) (by rw [hY]; exact q4263) rfl hI (by rw [hY]; rfl) (tyX37_ok 28 (by decide)) hn hfit kk
theorem SX37_69 {w : eW} {d : Nat} {Y : eY} {pc : Nat} {ls : eL} {st : List Value} {h : eH} {Q : eO → eH → Prop} {a : Nat} {h' : eH} {v : Value} (hf : p_F 36 h a 31 v = some h') (hd : decode Y.2.1 pc = .ok (.putfield 69, 3)) (hY : Y.1.cls = RX37) (hI : Y.1.name = "<init>") (hn : narrow (tyX37 31) v = v) (hfit : fits (tyX37 31) v = true) (kk : wp w d Y (pc + 3) ls st h' Q) : wp w d Y pc ls (v :: .ref a :: st) h Q := x_pF (ci := 36) (k := 31) hf hd rfl (by decide) (by rw [hY]; exact q4266) rfl hI (by rw [hY]; rfl) (tyX37_ok 31 (by decide)) hn hfit kk
theorem SX37_7 {w : eW} {d : Nat} {Y : eY} {pc : Nat} {ls : eL} {st : List Value} {h : eH} {Q : eO → eH → Prop} {a : Nat} {h' : eH} {v : Value} (hf : p_F 36 h a 2 v = some h') (hd : decode Y.2.1 pc = .ok (.putfield 7, 3)) (hY : Y.1.cls = RX37) (hI : Y.1.name = "<init>") (hn : narrow (tyX37 2) v = v) (hfit : fits (tyX37 2) v = true) (kk : wp w d Y (pc + 3) ls st h' Q) : wp w d Y pc ls (v :: .ref a :: st) h Q := x_pF (ci := 36) (k := 2) hf hd rfl (by decide) (by rw [hY]; exact q4230) rfl hI (by rw [hY]; rfl) (tyX37_ok 2 (by decide)) hn hfit kk
theorem SX37_72 {w : eW} {d : Nat} {Y : eY} {pc : Nat} {ls : eL} {st : List Value} {h : eH} {Q : eO → eH → Prop} {a : Nat} {h' : eH} {v : Value} (hf : p_F 36 h a 39 v = some h') (hd : decode Y.2.1 pc = .ok (.putfield 72, 3)) (hY : Y.1.cls = RX37) (hI : Y.1.name = "<init>") (hn : narrow (tyX37 39) v = v) (hfit : fits (tyX37 39) v = true) (kk : wp w d Y (pc + 3) ls st h' Q) : wp w d Y pc ls (v :: .ref a :: st) h Q := x_pF (ci := 36) (k := 39) hf hd rfl (by decide) (by rw [hY]; exact q4274) rfl hI (by rw [hY]; rfl) (tyX37_ok 39 (by decide)) hn hfit kk
theorem SX37_75 {w : eW} {d : Nat} {Y : eY} {pc : Nat} {ls : eL} {st : List Value} {h : eH} {Q : eO → eH → Prop} {a : Nat} {h' : eH} {v : Value} (hf : p_F 36 h a 40 v = some h') (hd : decode Y.2.1 pc = .ok (.putfield 75, 3)) (hY : Y.1.cls = RX37) (hI : Y.1.name = "<init>") (hn : narrow (tyX37 40) v = v) (hfit : fits (tyX37 40) v = true) (kk : wp w d Y (pc + 3) ls st h' Q) : wp w d Y pc ls (v :: .ref a :: st) h Q := x_pF (ci := 36) (k := 40) hf hd rfl (by decide) (by rw [hY]; exact q4276) rfl hI (by rw [hY]; rfl) (tyX37_ok 40 (by decide)) hn hfit kk
theorem SX37_78 {w : eW} {d : Nat} {Y : eY} {pc : Nat} {ls : eL} {st : List Value} {h : eH} {Q : eO → eH → Prop} {a : Nat} {h' : eH} {v : Value} (hf : p_F 36 h a 41 v = some h') (hd : decode Y.2.1 pc = .ok (.putfield 78, 3)) (hY : Y.1.cls = RX37) (hI : Y.1.name = "<init>") (hn : narrow (tyX37 41) v = v) (hfit : fits (tyX37 41) v = true) (kk : wp w d Y (pc + 3) ls st h' Q) : wp w d Y pc ls (v :: .ref a :: st) h Q := x_pF (ci := 36) (k := 41) hf hd rfl (by decide) (by rw [hY]; exact q4278) rfl hI (by rw [hY]; rfl) (tyX37_ok 41 (by decide)) hn hfit kk
theorem SX37_81 {w : eW} {d : Nat} {Y : eY} {pc : Nat} {ls : eL} {st : List Value} {h : eH} {Q : eO → eH → Prop} {a : Nat} {h' : eH} {v : Value} (hf : p_F 36 h a 42 v = some h') (hd : decode Y.2.1 pc = .ok (.putfield 81, 3)) (hY : Y.1.cls = RX37) (hI : Y.1.name = "<init>") (hn : narrow (tyX37 42) v = v) (hfit : fits (tyX37 42) v = true) (kk : wp w d Y (pc + 3) ls st h' Q) : wp w d Y pc ls (v :: .ref a :: st) h Q := x_pF (ci := 36) (k := 42) hf hd rfl (by decide) (by rw [hY]; exact q4279) rfl hI (by rw [hY]; rfl) (tyX37_ok 42 (by decide)) hn hfit kk
theorem SX37_84 {w : eW} {d : Nat} {Y : eY} {pc : Nat} {ls : eL} {st : List Value} {h : eH} {Q : eO → eH → Prop} {a : Nat} {h' : eH} {v : Value} (hf : p_F 36 h a 43 v = some h') (hd : decode Y.2.1 pc = .ok (.putfield 84, 3)) (hY : Y.1.cls = RX37) (hI : Y.1.name = "<init>") (hn : narrow (tyX37 43) v = v) (hfit : fits (tyX37 43) v = true) (kk : wp w d Y (pc + 3) ls st h' Q) : wp w d Y pc ls (v :: .ref a :: st) h Q := x_pF (ci := 36) (k := 43) hf hd rfl (by decide) (by rw [hY]; exact q4280) rfl hI (by rw [hY]; rfl) (tyX37_ok 43 (by decide)) hn hfit kk
theorem SX37_87 {w : eW} {d : Nat} {Y : eY} {pc : Nat} {ls : eL} {st : List Value} {h : eH} {Q : eO → eH → Prop} {a : Nat} {h' : eH} {v : Value} (hf : p_F 36 h a 44 v = some h') (hd : decode Y.2.1 pc = .ok (.putfield 87, 3)) (hY : Y.1.cls = RX37) (hI : Y.1.name = "<init>") (hn : narrow (tyX37 44) v = v) (hfit : fits (tyX37 44) v = true) (kk : wp w d Y (pc + 3) ls st h' Q) : wp w d Y pc ls (v :: .ref a :: st) h Q := x_pF (ci := 36) (k := 44) hf hd rfl (by decide) (by rw [hY]; exact q4281) rfl hI (by rw [hY]; rfl) (tyX37_ok 44 (by decide)) hn hfit kk
theorem SX37_90 {w : eW} {d : Nat} {Y : eY} {pc : Nat} {ls : eL} {st : List Value} {h : eH} {Q : eO → eH → Prop} {a : Nat} {h' : eH} {v : Value} (hf : p_F 36 h a 45 v = some h') (hd : decode Y.2.1 pc = .ok (.putfield 90, 3)) (hY : Y.1.cls = RX37) (hI : Y.1.name = "<init>") (hn : narrow (tyX37 45) v = v) (hfit : fits (tyX37 45) v = true) (kk : wp w d Y (pc + 3) ls st h' Q) : wp w d Y pc ls (v :: .ref a :: st) h Q := x_pF (ci := 36) (k := 45) hf hd rfl (by decide) (by rw [hY]; exact q4282) rfl hI (by rw [hY]; rfl) (tyX37_ok 45 (by decide)) hn hfit kk
theorem SX37_93 {w : eW} {d : Nat} {Y : eY} {pc : Nat} {ls : eL} {st : List Value} {h : eH} {Q : eO → eH → Prop} {a : Nat} {h' : eH} {v : Value} (hf : p_F 36 h a 46 v = some h') (hd : decode Y.2.1 pc = .ok (.putfield 93, 3)) (hY : Y.1.cls = RX37) (hI : Y.1.name = "<init>") (hn : narrow (tyX37 46) v = v) (hfit : fits (tyX37 46) v = true) (kk : wp w d Y (pc + 3) ls st h' Q) : wp w d Y pc ls (v :: .ref a :: st) h Q := x_pF (ci := 36) (k := 46) hf hd rfl (by decide) (by rw [hY]; exact q4283) rfl hI (by rw [hY]; rfl) (tyX37_ok 46 (by decide)) hn hfit kk
theorem SX37_96 {w : eW} {d : Nat} {Y : eY} {pc : Nat} {ls : eL} {st : List Value} {h : eH} {Q : eO → eH → Prop} {a : Nat} {h' : eH} {v : Value} (hf : p_F 36 h a 47 v = some h') (hd : decode Y.2.1 pc = .ok (.putfield 96, 3)) (hY : Y.1.cls = RX37) (hI : Y.1.name = "<init>") (hn : narrow (tyX37 47) v = v) (hfit : fits (tyX37 47) v = true) (kk : wp w d Y (pc + 3) ls st h' Q) : wp w d Y pc ls (v :: .ref a :: st) h Q := x_pF (ci := 36) (k := 47) hf hd rfl (by decide) (by rw [hY]; exact q4284) rfl hI (by rw [hY]; rfl) (tyX37_ok 47 (by decide)) hn hfit kk
def fX37_init (this : Nat) (h : eH) : Option (Unit × eH) :=
  (n_arr 100 206 (.int 0) h (2010 : Int32)).bind fun q1 =>
  (p_F 36 q1.2 this 2 (.ref q1.1)).bind fun h3 =>
  (n_arr 100 207 (.int 0) h3 (2010 : Int32)).bind fun q5 =>
  (p_F 36 q5.2 this 3 (.ref q5.1)).bind fun h7 =>
  (n_arr 100 208 (.int 0) h7 (2010 : Int32)).bind fun q9 =>
  (p_F 36 q9.2 this 4 (.ref q9.1)).bind fun h11 =>
  (n_arr 100 209 (.int 0) h11 (2010 : Int32)).bind fun q13 =>
  (p_F 36 q13.2 this 5 (.ref q13.1)).bind fun h15 =>
  (n_arr 100 210 (.int 0) h15 (2010 : Int32)).bind fun q17 =>
  (p_F 36 q17.2 this 6 (.ref q17.1)).bind fun h19 =>
  (n_arr 100 211 (.int 0) h19 (2010 : Int32)).bind fun q21 =>
  (p_F 36 q21.2 this 7 (.ref q21.1)).bind fun h23 =>
  (n_arr 100 212 (.int 0) h23 (2010 : Int32)).bind fun q25 =>
  (p_F 36 q25.2 this 8 (.ref q25.1)).bind fun h27 =>
  (n_arr 100 213 (.int 0) h27 (2010 : Int32)).bind fun q29 =>
  (p_F 36 q29.2 this 9 (.ref q29.1)).bind fun h31 =>
  (n_arr 100 214 (.int 0) h31 (10 : Int32)).bind fun q33 =>
  (p_F 36 q33.2 this 10 (.ref q33.1)).bind fun h35 =>
  (n_arr 100 215 (.int 0) h35 (3 : Int32)).bind fun q37 =>
  (p_F 36 q37.2 this 12 (.ref q37.1)).bind fun h39 =>
  (n_arr 100 216 (.int 0) h39 (3 : Int32)).bind fun q41 =>
  (p_F 36 q41.2 this 13 (.ref q41.1)).bind fun h43 =>
  (n_arr 100 217 (.int 0) h43 (3 : Int32)).bind fun q45 =>
  (p_F 36 q45.2 this 14 (.ref q45.1)).bind fun h47 =>
  (n_arr 100 218 (.int 0) h47 (3 : Int32)).bind fun q49 =>
  (p_F 36 q49.2 this 15 (.ref q49.1)).bind fun h51 =>
  (n_arr 100 219 (.int 0) h51 (8001 : Int32)).bind fun q53 =>
  (p_F 36 q53.2 this 23 (.ref q53.1)).bind fun h55 =>
  (n_arr 100 220 (.int 0) h55 (8001 : Int32)).bind fun q57 =>
  (p_F 36 q57.2 this 24 (.ref q57.1)).bind fun h59 =>
  (n_arr 100 221 (.int 0) h59 (8001 : Int32)).bind fun q61 =>
  (p_F 36 q61.2 this 25 (.ref q61.1)).bind fun h63 =>
  (n_arr 101 222 (.long 0) h63 (8001 : Int32)).bind fun q65 =>
  (p_F 36 q65.2 this 26 (.ref q65.1)).bind fun h67 =>
  (n_arr 100 223 (.int 0) h67 (8001 : Int32)).bind fun q69 =>
  (p_F 36 q69.2 this 27 (.ref q69.1)).bind fun h71 =>
  (n_arr 103 224 (.int 0) h71 (8001 : Int32)).bind fun q73 =>
  (p_F 36 q73.2 this 28 (.ref q73.1)).bind fun h75 =>
  (n_arr 100 225 (.int 0) h75 (4 : Int32)).bind fun q77 =>
  (p_F 36 q77.2 this 31 (.ref q77.1)).bind fun h79 =>
  (n_arr 100 226 (.int 0) h79 (2010 : Int32)).bind fun q81 =>
  (p_F 36 q81.2 this 39 (.ref q81.1)).bind fun h83 =>
  (n_arr 100 227 (.int 0) h83 (2010 : Int32)).bind fun q85 =>
  (p_F 36 q85.2 this 40 (.ref q85.1)).bind fun h87 =>
  (n_arr 100 228 (.int 0) h87 (2010 : Int32)).bind fun q89 =>
  (p_F 36 q89.2 this 41 (.ref q89.1)).bind fun h91 =>
  (n_arr 100 229 (.int 0) h91 (2010 : Int32)).bind fun q93 =>
  (p_F 36 q93.2 this 42 (.ref q93.1)).bind fun h95 =>
  (n_arr 100 230 (.int 0) h95 (2010 : Int32)).bind fun q97 =>
  (p_F 36 q97.2 this 43 (.ref q97.1)).bind fun h99 =>
  (n_arr 101 231 (.long 0) h99 (2010 : Int32)).bind fun q101 =>
  (p_F 36 q101.2 this 44 (.ref q101.1)).bind fun h103 =>
  (n_arr 100 232 (.int 0) h103 (2011 : Int32)).bind fun q105 =>
  (p_F 36 q105.2 this 45 (.ref q105.1)).bind fun h107 =>
  (n_arr 100 233 (.int 0) h107 (8044 : Int32)).bind fun q109 =>
  (p_F 36 q109.2 this 46 (.ref q109.1)).bind fun h111 =>
  (n_arr 100 234 (.int 0) h111 (2011 : Int32)).bind fun q113 =>
  (p_F 36 q113.2 this 47 (.ref q113.1)).bind fun h115 =>
  some ((), h115)
theorem pX37_init {w : eW} {d : Nat} (hd : 1 ≤ d) {this : Nat} {h : eH} {q} (hf : fX37_init this h = some q) : wm w d YX37_init [.ref this] h (e_is (e_rn c_V q)) := by
  obtain ⟨d, rfl⟩ : ∃ e, d = e + 1 := ⟨d - 1, by omega⟩
  show wp w (d + 1) YX37_init 0 [some (.ref this)] [] h _
  unfold fX37_init at hf
  refine w_aload_n dX37_init_0 rfl rfl ?_
  refine w_obj dX37_init_1 q4225 q490 q491 (by decide) ?_
  refine w_aload_n dX37_init_4 rfl rfl ?_
  refine w_sipush dX37_init_5 (v := 2010) (by decide) ?_
  obtain ⟨q1, b2, hf⟩ := Option.bind_eq_some_iff.mp hf
  refine x_newI (g := 206) b2 dX37_init_8 q582 ?_
  obtain ⟨h3, b4, hf⟩ := Option.bind_eq_some_iff.mp hf
  refine SX37_7 b4 dX37_init_10 rfl rfl rfl rfl ?_
  refine w_aload_n dX37_init_13 rfl rfl ?_
  refine w_sipush dX37_init_14 (v := 2010) (by decide) ?_
  obtain ⟨q5, b6, hf⟩ := Option.bind_eq_some_iff.mp hf
  refine x_newI (g := 207) b6 dX37_init_17 q582 ?_
  obtain ⟨h7, b8, hf⟩ := Option.bind_eq_some_iff.mp hf
  refine SX37_13 b8 dX37_init_19 rfl rfl rfl rfl ?_
  refine w_aload_n dX37_init_22 rfl rfl ?_
  refine w_sipush dX37_init_23 (v := 2010) (by decide) ?_
  obtain ⟨q9, b10, hf⟩ := Option.bind_eq_some_iff.mp hf
  refine x_newI (g := 208) b10 dX37_init_26 q582 ?_
  obtain ⟨h11, b12, hf⟩ := Option.bind_eq_some_iff.mp hf
  refine SX37_16 b12 dX37_init_28 rfl rfl rfl rfl ?_
  refine w_aload_n dX37_init_31 rfl rfl ?_
  refine w_sipush dX37_init_32 (v := 2010) (by decide) ?_
  obtain ⟨q13, b14, hf⟩ := Option.bind_eq_some_iff.mp hf
  refine x_newI (g := 209) b14 dX37_init_35 q582 ?_
  obtain ⟨h15, b16, hf⟩ := Option.bind_eq_some_iff.mp hf
  refine SX37_19 b16 dX37_init_37 rfl rfl rfl rfl ?_
  refine w_aload_n dX37_init_40 rfl rfl ?_
  refine w_sipush dX37_init_41 (v := 2010) (by decide) ?_
  obtain ⟨q17, b18, hf⟩ := Option.bind_eq_some_iff.mp hf
  refine x_newI (g := 210) b18 dX37_init_44 q582 ?_
  obtain ⟨h19, b20, hf⟩ := Option.bind_eq_some_iff.mp hf
  refine SX37_22 b20 dX37_init_46 rfl rfl rfl rfl ?_
  refine w_aload_n dX37_init_49 rfl rfl ?_
  refine w_sipush dX37_init_50 (v := 2010) (by decide) ?_
  obtain ⟨q21, b22, hf⟩ := Option.bind_eq_some_iff.mp hf
  refine x_newI (g := 211) b22 dX37_init_53 q582 ?_
  obtain ⟨h23, b24, hf⟩ := Option.bind_eq_some_iff.mp hf
  refine SX37_25 b24 dX37_init_55 rfl rfl rfl rfl ?_
  refine w_aload_n dX37_init_58 rfl rfl ?_
  refine w_sipush dX37_init_59 (v := 2010) (by decide) ?_
  obtain ⟨q25, b26, hf⟩ := Option.bind_eq_some_iff.mp hf
  refine x_newI (g := 212) b26 dX37_init_62 q582 ?_
  obtain ⟨h27, b28, hf⟩ := Option.bind_eq_some_iff.mp hf
  refine SX37_28 b28 dX37_init_64 rfl rfl rfl rfl ?_
  refine w_aload_n dX37_init_67 rfl rfl ?_
  refine w_sipush dX37_init_68 (v := 2010) (by decide) ?_
  obtain ⟨q29, b30, hf⟩ := Option.bind_eq_some_iff.mp hf
  refine x_newI (g := 213) b30 dX37_init_71 q582 ?_
  obtain ⟨h31, b32, hf⟩ := Option.bind_eq_some_iff.mp hf
  refine SX37_31 b32 dX37_init_73 rfl rfl rfl rfl ?_
  refine w_aload_n dX37_init_76 rfl rfl ?_
  refine w_bipush dX37_init_77 (v := 10) (by decide) ?_
  obtain ⟨q33, b34, hf⟩ := Option.bind_eq_some_iff.mp hf
  refine x_newI (g := 214) b34 dX37_init_79 q582 ?_
  obtain ⟨h35, b36, hf⟩ := Option.bind_eq_some_iff.mp hf
  refine SX37_34 b36 dX37_init_81 rfl rfl rfl rfl ?_
  refine w_aload_n dX37_init_84 rfl rfl ?_
  refine w_iconst dX37_init_85 (v := 3) (by decide) ?_
  obtain ⟨q37, b38, hf⟩ := Option.bind_eq_some_iff.mp hf
  refine x_newI (g := 215) b38 dX37_init_86 q582 ?_
  obtain ⟨h39, b40, hf⟩ := Option.bind_eq_some_iff.mp hf
  refine SX37_37 b40 dX37_init_88 rfl rfl rfl rfl ?_
  refine w_aload_n dX37_init_91 rfl rfl ?_
  refine w_iconst dX37_init_92 (v := 3) (by decide) ?_
  obtain ⟨q41, b42, hf⟩ := Option.bind_eq_some_iff.mp hf
  refine x_newI (g := 216) b42 dX37_init_93 q582 ?_
  obtain ⟨h43, b44, hf⟩ := Option.bind_eq_some_iff.mp hf
  refine SX37_40 b44 dX37_init_95 rfl rfl rfl rfl ?_
  refine w_aload_n dX37_init_98 rfl rfl ?_
  refine w_iconst dX37_init_99 (v := 3) (by decide) ?_
  obtain ⟨q45, b46, hf⟩ := Option.bind_eq_some_iff.mp hf
  refine x_newI (g := 217) b46 dX37_init_100 q582 ?_
  obtain ⟨h47, b48, hf⟩ := Option.bind_eq_some_iff.mp hf
  refine SX37_43 b48 dX37_init_102 rfl rfl rfl rfl ?_
  refine w_aload_n dX37_init_105 rfl rfl ?_
  refine w_iconst dX37_init_106 (v := 3) (by decide) ?_
  obtain ⟨q49, b50, hf⟩ := Option.bind_eq_some_iff.mp hf
  refine x_newI (g := 218) b50 dX37_init_107 q582 ?_
  obtain ⟨h51, b52, hf⟩ := Option.bind_eq_some_iff.mp hf
  refine SX37_46 b52 dX37_init_109 rfl rfl rfl rfl ?_
  refine w_aload_n dX37_init_112 rfl rfl ?_
  refine w_sipush dX37_init_113 (v := 8001) (by decide) ?_
  obtain ⟨q53, b54, hf⟩ := Option.bind_eq_some_iff.mp hf
  refine x_newI (g := 219) b54 dX37_init_116 q582 ?_
  obtain ⟨h55, b56, hf⟩ := Option.bind_eq_some_iff.mp hf
  refine SX37_49 b56 dX37_init_118 rfl rfl rfl rfl ?_
  refine w_aload_n dX37_init_121 rfl rfl ?_
  refine w_sipush dX37_init_122 (v := 8001) (by decide) ?_
  obtain ⟨q57, b58, hf⟩ := Option.bind_eq_some_iff.mp hf
  refine x_newI (g := 220) b58 dX37_init_125 q582 ?_
  obtain ⟨h59, b60, hf⟩ := Option.bind_eq_some_iff.mp hf
  refine SX37_52 b60 dX37_init_127 rfl rfl rfl rfl ?_
  refine w_aload_n dX37_init_130 rfl rfl ?_
  refine w_sipush dX37_init_131 (v := 8001) (by decide) ?_
  obtain ⟨q61, b62, hf⟩ := Option.bind_eq_some_iff.mp hf
  refine x_newI (g := 221) b62 dX37_init_134 q582 ?_
  obtain ⟨h63, b64, hf⟩ := Option.bind_eq_some_iff.mp hf
  refine SX37_55 b64 dX37_init_136 rfl rfl rfl rfl ?_
  refine w_aload_n dX37_init_139 rfl rfl ?_
  refine w_sipush dX37_init_140 (v := 8001) (by decide) ?_
  obtain ⟨q65, b66, hf⟩ := Option.bind_eq_some_iff.mp hf
  refine x_newL (g := 222) b66 dX37_init_143 q1081 ?_
  obtain ⟨h67, b68, hf⟩ := Option.bind_eq_some_iff.mp hf
  refine SX37_58 b68 dX37_init_145 rfl rfl rfl rfl ?_
  refine w_aload_n dX37_init_148 rfl rfl ?_
  refine w_sipush dX37_init_149 (v := 8001) (by decide) ?_
  obtain ⟨q69, b70, hf⟩ := Option.bind_eq_some_iff.mp hf
  refine x_newI (g := 223) b70 dX37_init_152 q582 ?_
  obtain ⟨h71, b72, hf⟩ := Option.bind_eq_some_iff.mp hf
  refine SX37_62 b72 dX37_init_154 rfl rfl rfl rfl ?_
  refine w_aload_n dX37_init_157 rfl rfl ?_
  refine w_sipush dX37_init_158 (v := 8001) (by decide) ?_
  obtain ⟨q73, b74, hf⟩ := Option.bind_eq_some_iff.mp hf
  refine x_newZ (g := 224) b74 dX37_init_161 q583 ?_
  obtain ⟨h75, b76, hf⟩ := Option.bind_eq_some_iff.mp hf
  refine SX37_65 b76 dX37_init_163 rfl rfl rfl rfl ?_
  refine w_aload_n dX37_init_166 rfl rfl ?_
  refine w_iconst dX37_init_167 (v := 4) (by decide) ?_
  obtain ⟨q77, b78, hf⟩ := Option.bind_eq_some_iff.mp hf
  refine x_newI (g := 225) b78 dX37_init_168 q582 ?_
  obtain ⟨h79, b80, hf⟩ := Option.bind_eq_some_iff.mp hf
  refine SX37_69 b80 dX37_init_170 rfl rfl rfl rfl ?_
  refine w_aload_n dX37_init_173 rfl rfl ?_
  refine w_sipush dX37_init_174 (v := 2010) (by decide) ?_
  obtain ⟨q81, b82, hf⟩ := Option.bind_eq_some_iff.mp hf
  refine x_newI (g := 226) b82 dX37_init_177 q582 ?_
  obtain ⟨h83, b84, hf⟩ := Option.bind_eq_some_iff.mp hf
  refine SX37_72 b84 dX37_init_179 rfl rfl rfl rfl ?_
  refine w_aload_n dX37_init_182 rfl rfl ?_
  refine w_sipush dX37_init_183 (v := 2010) (by decide) ?_
  obtain ⟨q85, b86, hf⟩ := Option.bind_eq_some_iff.mp hf
  refine x_newI (g := 227) b86 dX37_init_186 q582 ?_
  obtain ⟨h87, b88, hf⟩ := Option.bind_eq_some_iff.mp hf
  refine SX37_75 b88 dX37_init_188 rfl rfl rfl rfl ?_
  refine w_aload_n dX37_init_191 rfl rfl ?_
  refine w_sipush dX37_init_192 (v := 2010) (by decide) ?_
  obtain ⟨q89, b90, hf⟩ := Option.bind_eq_some_iff.mp hf
  refine x_newI (g := 228) b90 dX37_init_195 q582 ?_
  obtain ⟨h91, b92, hf⟩ := Option.bind_eq_some_iff.mp hf
  refine SX37_78 b92 dX37_init_197 rfl rfl rfl rfl ?_
  refine w_aload_n dX37_init_200 rfl rfl ?_
  refine w_sipush dX37_init_201 (v := 2010) (by decide) ?_
  obtain ⟨q93, b94, hf⟩ := Option.bind_eq_some_iff.mp hf
  refine x_newI (g := 229) b94 dX37_init_204 q582 ?_
  obtain ⟨h95, b96, hf⟩ := Option.bind_eq_some_iff.mp hf
  refine SX37_81 b96 dX37_init_206 rfl rfl rfl rfl ?_
  refine w_aload_n dX37_init_209 rfl rfl ?_
  refine w_sipush dX37_init_210 (v := 2010) (by decide) ?_
  obtain ⟨q97, b98, hf⟩ := Option.bind_eq_some_iff.mp hf
  refine x_newI (g := 230) b98 dX37_init_213 q582 ?_
  obtain ⟨h99, b100, hf⟩ := Option.bind_eq_some_iff.mp hf
  refine SX37_84 b100 dX37_init_215 rfl rfl rfl rfl ?_
  refine w_aload_n dX37_init_218 rfl rfl ?_
  refine w_sipush dX37_init_219 (v := 2010) (by decide) ?_
  obtain ⟨q101, b102, hf⟩ := Option.bind_eq_some_iff.mp hf
  refine x_newL (g := 231) b102 dX37_init_222 q1081 ?_
  obtain ⟨h103, b104, hf⟩ := Option.bind_eq_some_iff.mp hf
  refine SX37_87 b104 dX37_init_224 rfl rfl rfl rfl ?_
  refine w_aload_n dX37_init_227 rfl rfl ?_
  refine w_sipush dX37_init_228 (v := 2011) (by decide) ?_
  obtain ⟨q105, b106, hf⟩ := Option.bind_eq_some_iff.mp hf
  refine x_newI (g := 232) b106 dX37_init_231 q582 ?_
  obtain ⟨h107, b108, hf⟩ := Option.bind_eq_some_iff.mp hf
  refine SX37_90 b108 dX37_init_233 rfl rfl rfl rfl ?_
  refine w_aload_n dX37_init_236 rfl rfl ?_
  refine w_sipush dX37_init_237 (v := 8044) (by decide) ?_
  obtain ⟨q109, b110, hf⟩ := Option.bind_eq_some_iff.mp hf
  refine x_newI (g := 233) b110 dX37_init_240 q582 ?_
  obtain ⟨h111, b112, hf⟩ := Option.bind_eq_some_iff.mp hf
  refine SX37_93 b112 dX37_init_242 rfl rfl rfl rfl ?_
  refine w_aload_n dX37_init_245 rfl rfl ?_
  refine w_sipush dX37_init_246 (v := 2011) (by decide) ?_
  obtain ⟨q113, b114, hf⟩ := Option.bind_eq_some_iff.mp hf
  refine x_newI (g := 234) b114 dX37_init_249 q582 ?_
  obtain ⟨h115, b116, hf⟩ := Option.bind_eq_some_iff.mp hf
  refine SX37_96 b116 dX37_init_251 rfl rfl rfl rfl ?_
  cases hf
  exact w_vret dX37_init_254 rfl rfl
abbrev cX38_init : ByteArray := prog_39_method_1_code
def yX38_init : MethodName := ⟨RX38, "<init>", "()V"⟩
def YX38_init : eY := (yX38_init, cX38_init, 1, none, [])
theorem mX38_init : e_mi YX38_init 0 := ⟨q4385, rfl, rfl, q4386, by decide, by decide +kernel, (e_sig (by decide +kernel))⟩
theorem dX38_init_0 : decode cX38_init 0 = .ok (.aload_n 0, 1) := dc_42 (by decide +kernel)
theorem dX38_init_1 : decode cX38_init 1 = .ok (.invokespecial 3, 3) := dc_183 (a := 0) (b := 3) (n := 3) (by decide +kernel)
theorem dX38_init_4 : decode cX38_init 4 = .ok (.aload_n 0, 1) := dc_42 (by decide +kernel)
theorem dX38_init_5 : decode cX38_init 5 = .ok (.bipush 100, 2) := dc_16 (a := 100) (v := 100) (by decide +kernel)
theorem dX38_init_7 : decode cX38_init 7 = .ok (.newarray .int, 2) := dc_188_10 (by decide +kernel)
theorem dX38_init_9 : decode cX38_init 9 = .ok (.putfield 9, 3) := dc_181 (a := 0) (b := 9) (n := 9) (by decide +kernel)
theorem dX38_init_12 : decode cX38_init 12 = .ok (.aload_n 0, 1) := dc_42 (by decide +kernel)
theorem dX38_init_13 : decode cX38_init 13 = .ok (.bipush 100, 2) := dc_16 (a := 100) (v := 100) (by decide +kernel)
theorem dX38_init_15 : decode cX38_init 15 = .ok (.newarray .int, 2) := dc_188_10 (by decide +kernel)
theorem dX38_init_17 : decode cX38_init 17 = .ok (.putfield 15, 3) := dc_181 (a := 0) (b := 15) (n := 15) (by decide +kernel)
theorem dX38_init_20 : decode cX38_init 20 = .ok (.aload_n 0, 1) := dc_42 (by decide +kernel)
theorem dX38_init_21 : decode cX38_init 21 = .ok (.bipush 100, 2) := dc_16 (a := 100) (v := 100) (by decide +kernel)
theorem dX38_init_23 : decode cX38_init 23 = .ok (.newarray .int, 2) := dc_188_10 (by decide +kernel)
theorem dX38_init_25 : decode cX38_init 25 = .ok (.putfield 18, 3) := dc_181 (a := 0) (b := 18) (n := 18) (by decide +kernel)
theorem dX38_init_28 : decode cX38_init 28 = .ok (.aload_n 0, 1) := dc_42 (by decide +kernel)
theorem dX38_init_29 : decode cX38_init 29 = .ok (.bipush 100, 2) := dc_16 (a := 100) (v := 100) (by decide +kernel)
theorem dX38_init_31 : decode cX38_init 31 = .ok (.newarray .int, 2) := dc_188_10 (by decide +kernel)
theorem dX38_init_33 : decode cX38_init 33 = .ok (.putfield 21, 3) := dc_181 (a := 0) (b := 21) (n := 21) (by decide +kernel)
theorem dX38_init_36 : decode cX38_init 36 = .ok (.aload_n 0, 1) := dc_42 (by decide +kernel)
theorem dX38_init_37 : decode cX38_init 37 = .ok (.bipush 10, 2) := dc_16 (a := 10) (v := 10) (by decide +kernel)
theorem dX38_init_39 : decode cX38_init 39 = .ok (.newarray .int, 2) := dc_188_10 (by decide +kernel)
theorem dX38_init_41 : decode cX38_init 41 = .ok (.putfield 24, 3) := dc_181 (a := 0) (b := 24) (n := 24) (by decide +kernel)
theorem dX38_init_44 : decode cX38_init 44 = .ok (.aload_n 0, 1) := dc_42 (by decide +kernel)
theorem dX38_init_45 : decode cX38_init 45 = .ok (.ldc 27, 2) := dc_18 (a := 27) (by decide +kernel)
theorem dX38_init_47 : decode cX38_init 47 = .ok (.newarray .byte, 2) := dc_188_8 (by decide +kernel)
theorem dX38_init_49 : decode cX38_init 49 = .ok (.putfield 28, 3) := dc_181 (a := 0) (b := 28) (n := 28) (by decide +kernel)
theorem dX38_init_52 : decode cX38_init 52 = .ok (.aload_n 0, 1) := dc_42 (by decide +kernel)
theorem dX38_init_53 : decode cX38_init 53 = .ok (.iconst (-1), 1) := dc_2 (by decide +kernel)
theorem dX38_init_54 : decode cX38_init 54 = .ok (.putfield 32, 3) := dc_181 (a := 0) (b := 32) (n := 32) (by decide +kernel)
theorem dX38_init_57 : decode cX38_init 57 = .ok (.aload_n 0, 1) := dc_42 (by decide +kernel)
theorem dX38_init_58 : decode cX38_init 58 = .ok (.bipush 100, 2) := dc_16 (a := 100) (v := 100) (by decide +kernel)
theorem dX38_init_60 : decode cX38_init 60 = .ok (.newarray .int, 2) := dc_188_10 (by decide +kernel)
theorem dX38_init_62 : decode cX38_init 62 = .ok (.putfield 36, 3) := dc_181 (a := 0) (b := 36) (n := 36) (by decide +kernel)
theorem dX38_init_65 : decode cX38_init 65 = .ok (.aload_n 0, 1) := dc_42 (by decide +kernel)
theorem dX38_init_66 : decode cX38_init 66 = .ok (.sipush 3000, 3) := dc_17 (a := 11) (b := 184) (v := 3000) (by decide +kernel)
theorem dX38_init_69 : decode cX38_init 69 = .ok (.newarray .int, 2) := dc_188_10 (by decide +kernel)
theorem dX38_init_71 : decode cX38_init 71 = .ok (.putfield 39, 3) := dc_181 (a := 0) (b := 39) (n := 39) (by decide +kernel)
theorem dX38_init_74 : decode cX38_init 74 = .ok (.aload_n 0, 1) := dc_42 (by decide +kernel)
theorem dX38_init_75 : decode cX38_init 75 = .ok (.sipush 3000, 3) := dc_17 (a := 11) (b := 184) (v := 3000) (by decide +kernel)
theorem dX38_init_78 : decode cX38_init 78 = .ok (.newarray .int, 2) := dc_188_10 (by decide +kernel)
theorem dX38_init_80 : decode cX38_init 80 = .ok (.putfield 42, 3) := dc_181 (a := 0) (b := 42) (n := 42) (by decide +kernel)
theorem dX38_init_83 : decode cX38_init 83 = .ok (.aload_n 0, 1) := dc_42 (by decide +kernel)
theorem dX38_init_84 : decode cX38_init 84 = .ok (.sipush 3000, 3) := dc_17 (a := 11) (b := 184) (v := 3000) (by decide +kernel)
theorem dX38_init_87 : decode cX38_init 87 = .ok (.newarray .int, 2) := dc_188_10 (by decide +kernel)
theorem dX38_init_89 : decode cX38_init 89 = .ok (.putfield 45, 3) := dc_181 (a := 0) (b := 45) (n := 45) (by decide +kernel)
theorem dX38_init_92 : decode cX38_init 92 = .ok (.aload_n 0, 1) := dc_42 (by decide +kernel)
theorem dX38_init_93 : decode cX38_init 93 = .ok (.sipush 3000, 3) := dc_17 (a := 11) (b := 184) (v := 3000) (by decide +kernel)
theorem dX38_init_96 : decode cX38_init 96 = .ok (.newarray .int, 2) := dc_188_10 (by decide +kernel)
theorem dX38_init_98 : decode cX38_init 98 = .ok (.putfield 48, 3) := dc_181 (a := 0) (b := 48) (n := 48) (by decide +kernel)
theorem dX38_init_101 : decode cX38_init 101 = .ok (.aload_n 0, 1) := dc_42 (by decide +kernel)
theorem dX38_init_102 : decode cX38_init 102 = .ok (.sipush 3000, 3) := dc_17 (a := 11) (b := 184) (v := 3000) (by decide +kernel)
theorem dX38_init_105 : decode cX38_init 105 = .ok (.newarray .int, 2) := dc_188_10 (by decide +kernel)
theorem dX38_init_107 : decode cX38_init 107 = .ok (.putfield 51, 3) := dc_181 (a := 0) (b := 51) (n := 51) (by decide +kernel)
theorem dX38_init_110 : decode cX38_init 110 = .ok (.aload_n 0, 1) := dc_42 (by decide +kernel)
theorem dX38_init_111 : decode cX38_init 111 = .ok (.sipush 3000, 3) := dc_17 (a := 11) (b := 184) (v := 3000) (by decide +kernel)
theorem dX38_init_114 : decode cX38_init 114 = .ok (.newarray .int, 2) := dc_188_10 (by decide +kernel)
theorem dX38_init_116 : decode cX38_init 116 = .ok (.putfield 54, 3) := dc_181 (a := 0) (b := 54) (n := 54) (by decide +kernel)
theorem dX38_init_119 : decode cX38_init 119 = .ok (.aload_n 0, 1) := dc_42 (by decide +kernel)
theorem dX38_init_120 : decode cX38_init 120 = .ok (.sipush 3000, 3) := dc_17 (a := 11) (b := 184) (v := 3000) (by decide +kernel)
theorem dX38_init_123 : decode cX38_init 123 = .ok (.newarray .int, 2) := dc_188_10 (by decide +kernel)
theorem dX38_init_125 : decode cX38_init 125 = .ok (.putfield 57, 3) := dc_181 (a := 0) (b := 57) (n := 57) (by decide +kernel)
theorem dX38_init_128 : decode cX38_init 128 = .ok (.aload_n 0, 1) := dc_42 (by decide +kernel)
theorem dX38_init_129 : decode cX38_init 129 = .ok (.sipush 3000, 3) := dc_17 (a := 11) (b := 184) (v := 3000) (by decide +kernel)
theorem dX38_init_132 : decode cX38_init 132 = .ok (.newarray .int, 2) := dc_188_10 (by decide +kernel)
theorem dX38_init_134 : decode cX38_init 134 = .ok (.putfield 60, 3) := dc_181 (a := 0) (b := 60) (n := 60) (by decide +kernel)
theorem dX38_init_137 : decode cX38_init 137 = .ok (.aload_n 0, 1) := dc_42 (by decide +kernel)
theorem dX38_init_138 : decode cX38_init 138 = .ok (.bipush 6, 2) := dc_16 (a := 6) (v := 6) (by decide +kernel)
theorem dX38_init_140 : decode cX38_init 140 = .ok (.newarray .int, 2) := dc_188_10 (by decide +kernel)
theorem dX38_init_142 : decode cX38_init 142 = .ok (.putfield 63, 3) := dc_181 (a := 0) (b := 63) (n := 63) (by decide +kernel)
theorem dX38_init_145 : decode cX38_init 145 = .ok (.return_, 1) := dc_177 (by decide +kernel)
theorem SX38_15 {w : eW} {d : Nat} {Y : eY} {pc : Nat} {ls : eL} {st : List Value} {h : eH} {Q : eO → eH → Prop} {a : Nat} {h' : eH} {v : Value} (hf : p_F 37 h a 1 v = some h') (hd : decode Y.2.1 pc = .ok (.putfield 15, 3)) (hY : Y.1.cls = RX38) (hI : Y.1.name = "<init>") (hn : narrow (tyX38 1) v = v) (hfit : fits (tyX38 1) v = true) (kk : wp w d Y (pc + 3) ls st h' Q) : wp w d Y pc ls (v :: .ref a :: st) h Q := x_pF (ci := 37) (k := 1) hf hd rfl (by decide) (by rw [hY]; exact q4390) rfl hI (by rw [hY]; rfl) (tyX38_ok 1 (by decide)) hn hfit kk
theorem SX38_18 {w : eW} {d : Nat} {Y : eY} {pc : Nat} {ls : eL} {st : List Value} {h : eH} {Q : eO → eH → Prop} {a : Nat} {h' : eH} {v : Value} (hf : p_F 37 h a 2 v = some h') (hd : decode Y.2.1 pc = .ok (.putfield 18, 3)) (hY : Y.1.cls = RX38) (hI : Y.1.name = "<init>") (hn : narrow (tyX38 2) v = v) (hfit : fits (tyX38 2) v = true) (kk : wp w d Y (pc + 3) ls st h' Q) : wp w d Y pc ls (v :: .ref a :: st) h Q := x_pF (ci := 37) (k := 2) hf hd rfl (by decide) (by rw [hY]; exact q4391) rfl hI (by rw [hY]; rfl) (tyX38_ok 2 (by decide)) hn hfit kk
theorem SX38_21 {w : eW} {d : Nat} {Y : eY} {pc : Nat} {ls : eL} {st : List Value} {h : eH} {Q : eO → eH → Prop} {a : Nat} {h' : eH} {v : Value} (hf : p_F 37 h a 3 v = some h') (hd : decode Y.2.1 pc = .ok (.putfield 21, 3)) (hY : Y.1.cls = RX38) (hI : Y.1.name = "<init>") (hn : narrow (tyX38 3) v = v) (hfit : fits (tyX38 3) v = true) (kk : wp w d Y (pc + 3) ls st h' Q) : wp w d Y pc ls (v :: .ref a :: st) h Q := x_pF (ci := 37) (k := 3) hf hd rfl (by decide) (by rw [hY]; exact q4392) rfl hI (by rw [hY]; rfl) (tyX38_ok 3 (by decide)) hn hfit kk
theorem SX38_24 {w : eW} {d : Nat} {Y : eY} {pc : Nat} {ls : eL} {st : List Value} {h : eH} {Q : eO → eH → Prop} {a : Nat} {h' : eH} {v : Value} (hf : p_F 37 h a 4 v = some h') (hd : decode Y.2.1 pc = .ok (.putfield 24, 3)) (hY : Y.1.cls = RX38) (hI : Y.1.name = "<init>") (hn : narrow (tyX38 4) v = v) (hfit : fits (tyX38 4) v = true) (kk : wp w d Y (pc + 3) ls st h' Q) : wp w d Y pc ls (v :: .ref a :: st) h Q := x_pF (ci := 37) (k := 4) hf hd rfl (by decide) (by rw [hY]; exact q4393) rfl hI (by rw [hY]; rfl) (tyX38_ok 4 (by decide)) hn hfit kk
theorem SX38_28 {w : eW} {d : Nat} {Y : eY} {pc : Nat} {ls : eL} {st : List Value} {h : eH} {Q : eO → eH → Prop} {a : Nat} {h' : eH} {v : Value} (hf : p_F 37 h a 6 v = some h') (hd : decode Y.2.1 pc = .ok (.putfield 28, 3)) (hY : Y.1.cls = RX38) (hI : Y.1.name = "<init>") (hn : narrow (tyX38 6) v = v) (hfit : fits (tyX38 6) v = true) (kk : wp w d Y (pc + 3) ls st h' Q) : wp w d Y pc ls (v :: .ref a :: st) h Q := x_pF (ci := 37) (k := 6) hf hd rfl (by decide) (by rw [hY]; exact q4397) rfl hI (by rw [hY]; rfl) (tyX38_ok 6 (by decide)) hn hfit kk
theorem SX38_32 {w : eW} {d : Nat} {Y : eY} {pc : Nat} {ls : eL} {st : List Value} {h : eH} {Q : eO → eH → Prop} {a : Nat} {h' : eH} {x : Int32} (hf : p_V 37 h a 8 (.int x) = some h') (hd : decode Y.2.1 pc = .ok (.putfield 32, 3)) (hY : Y.1.cls = RX38) (kk : wp w d Y (pc + 3) ls st h' Q) : wp w d Y pc ls (.int x :: .ref a :: st) h Q := x_pI (ci := 37) (k := 8) hf hd rfl (by decide) (by rw [hY]; exact q4400) rfl rfl kk
theorem SX38_36 {w : eW} {d : Nat} {Y : eY} {pc : Nat} {ls : eL} {st : List Value} {h : eH} {Q : eO → eH → Prop} {a : Nat} {h' : eH} {v : Value} (hf : p_F 37 h a 12 v = some h') (hd : decode Y.2.1 pc = .ok (.putfield 36, 3)) (hY : Y.1.cls = RX38) (hI : Y.1.name = "<init>") (hn : narrow (tyX38 12) v = v) (hfit : fits (tyX38 12) v = true) (kk : wp w d Y (pc + 3) ls st h' Q) : wp w d Y pc ls (v :: .ref a :: st) h Q := x_pF (ci := 37) (k := 12) hf hd rfl (by decide) (by rw [hY]; exact q4404) rfl hI (by rw [hY]; rfl) (tyX38_ok 12 (by decide)) hn hfit kk
theorem SX38_39 {w : eW} {d : Nat} {Y : eY} {pc : Nat} {ls : eL} {st : List Value} {h : eH} {Q : eO → eH → Prop} {a : Nat} {h' : eH} {v : Value} (hf : p_F 37 h a 14 v = some h') (hd : decode Y.2.1 pc = .ok (.putfield 39, 3)) (hY : Y.1.cls = RX38) (hI : Y.1.name = "<init>") (hn : narrow (tyX38 14) v = v) (hfit : fits (tyX38 14) v = true) (kk : wp w d Y (pc + 3) ls st h' Q) : wp w d Y pc ls (v :: .ref a :: st) h Q := x_pF (ci := 37) (k := 14) hf hd rfl (by decide) (by rw [hY]; exact q4407) rfl hI (by rw [hY]; rfl) (tyX38_ok 14 (by decide)) hn hfit kk
theorem SX38_42 {w : eW} {d : Nat} {Y : eY} {pc : Nat} {ls : eL} {st : List Value} {h : eH} {Q : eO → eH → Prop} {a : Nat} {h' : eH} {v : Value} (hf : p_F 37 h a 15 v = some h') (hd : decode Y.2.1 pc = .ok (.putfield 42, 3)) (hY : Y.1.cls = RX38) (hI : Y.1.name = "<init>") (hn : narrow (tyX38 15) v = v) (hfit : fits (tyX38 15) v = true) (kk : wp w d Y (pc + 3) ls st h' Q) : wp w d Y pc ls (v :: .ref a :: st) h Q := x_pF (ci := 37) (k := 15) hf hd rfl (by decide) (by rw [hY]; exact q4409) rfl hI (by rw [hY]; rfl) (tyX38_ok 15 (by decide)) hn hfit kk
theorem SX38_45 {w : eW} {d : Nat} {Y : eY} {pc : Nat} {ls : eL} {st : List Value} {h : eH} {Q : eO → eH → Prop} {a : Nat} {h' : eH} {v : Value} (hf : p_F 37 h a 16 v = some h') (hd : decode Y.2.1 pc = .ok (.putfield 45, 3)) (hY : Y.1.cls = RX38) (hI : Y.1.name = "<init>") (hn : narrow (tyX38 16) v = v) (hfit : fits (tyX38 16) v = true) (kk : wp w d Y (pc + 3) ls st h' Q) : wp w d Y pc ls (v :: .ref a :: st) h Q := x_pF (ci := 37) (k := 16) hf hd rfl (by decide) (by rw [hY]; exact q4411) rfl hI (by rw [hY]; rfl) (tyX38_ok 16 (by decide)) hn hfit kk
theorem SX38_48 {w : eW} {d : Nat} {Y : eY} {pc : Nat} {ls : eL} {st : List Value} {h : eH} {Q : eO → eH → Prop} {a : Nat} {h' : eH} {v : Value} (hf : p_F 37 h a 17 v = some h') (hd : decode Y.2.1 pc = .ok (.putfield 48, 3)) (hY : Y.1.cls = RX38) (hI : Y.1.name = "<init>") (hn : narrow (tyX38 17) v = v) (hfit : fits (tyX38 17) v = true) (kk : wp w d Y (pc + 3) ls st h' Q) : wp w d Y pc ls (v :: .ref a :: st) h Q := x_pF (ci := 37) (k := 17) hf hd rfl (by decide) (by rw [hY]; exact q4413) rfl hI (by rw [hY]; rfl) (tyX38_ok 17 (by decide)) hn hfit kk
theorem SX38_51 {w : eW} {d : Nat} {Y : eY} {pc : Nat} {ls : eL} {st : List Value} {h : eH} {Q : eO → eH → Prop} {a : Nat} {h' : eH} {v : Value} (hf : p_F 37 h a 18 v = some h') (hd : decode Y.2.1 pc = .ok (.putfield 51, 3)) (hY : Y.1.cls = RX38) (hI : Y.1.name = "<init>") (hn : narrow (tyX38 18) v = v) (hfit : fits (tyX38 18) v = true) (kk : wp w d Y (pc + 3) ls st h' Q) : wp w d Y pc ls (v :: .ref a :: st) h Q := x_pF (ci := 37) (k := 18) hf hd rfl (by decide) (by rw [hY]; exact q4415) rfl hI (by rw [hY]; rfl) (tyX38_ok 18 (by decide)) hn hfit kk
theorem SX38_54 {w : eW} {d : Nat} {Y : eY} {pc : Nat} {ls : eL} {st : List Value} {h : eH} {Q : eO → eH → Prop} {a : Nat} {h' : eH} {v : Value} (hf : p_F 37 h a 19 v = some h') (hd : decode Y.2.1 pc = .ok (.putfield 54, 3)) (hY : Y.1.cls = RX38) (hI : Y.1.name = "<init>") (hn : narrow (tyX38 19) v = v) (hfit : fits (tyX38 19) v = true) (kk : wp w d Y (pc + 3) ls st h' Q) : wp w d Y pc ls (v :: .ref a :: st) h Q := x_pF (ci := 37) (k := 19) hf hd rfl (by decide) (by rw [hY]; exact q4417) rfl hI (by rw [hY]; rfl) (tyX38_ok 19 (by decide)) hn hfit kk
theorem SX38_57 {w : eW} {d : Nat} {Y : eY} {pc : Nat} {ls : eL} {st : List Value} {h : eH} {Q : eO → eH → Prop} {a : Nat} {h' : eH} {v : Value} (hf : p_F 37 h a 20 v = some h') (hd : decode Y.2.1 pc = .ok (.putfield 57, 3)) (hY : Y.1.cls = RX38) (hI : Y.1.name = "<init>") (hn : narrow (tyX38 20) v = v) (hfit : fits (tyX38 20) v = true) (kk : wp w d Y (pc + 3) ls st h' Q) : wp w d Y pc ls (v :: .ref a :: st) h Q := x_pF (ci := 37) (k := 20) hf hd rfl (by decide) (by rw [hY]; exact q4419) rfl hI (by rw [hY]; rfl) (tyX38_ok 20 (by decide)) hn hfit kk
theorem SX38_60 {w : eW} {d : Nat} {Y : eY} {pc : Nat} {ls : eL} {st : List Value} {h : eH} {Q : eO → eH → Prop} {a : Nat} {h' : eH} {v : Value} (hf : p_F 37 h a 21 v = some h') (hd : decode Y.2.1 pc = .ok (.putfield 60, 3)) (hY : Y.1.cls = RX38) (hI : Y.1.name = "<init>") (hn : narrow (tyX38 21) v = v) (hfit : fits (tyX38 21) v = true) (kk : wp w d Y (pc + 3) ls st h' Q) : wp w d Y pc ls (v :: .ref a :: st) h Q := x_pF (ci := 37) (k := 21) hf hd rfl (by decide) (by rw [hY]; exact q4420) rfl hI (by rw [hY]; rfl) (tyX38_ok 21 (by decide)) hn hfit kk
theorem SX38_63 {w : eW} {d : Nat} {Y : eY} {pc : Nat} {ls : eL} {st : List Value} {h : eH} {Q : eO → eH → Prop} {a : Nat} {h' : eH} {v : Value} (hf : p_F 37 h a 22 v = some h') (hd : decode Y.2.1 pc = .ok (.putfield 63, 3)) (hY : Y.1.cls = RX38) (hI : Y.1.name = "<init>") (hn : narrow (tyX38 22) v = v) (hfit : fits (tyX38 22) v = true) (kk : wp w d Y (pc + 3) ls st h' Q) : wp w d Y pc ls (v :: .ref a :: st) h Q := x_pF (ci := 37) (k := 22) hf hd rfl (by decide) (by rw [hY]; exact q4421) rfl hI (by rw [hY]; rfl) (tyX38_ok 22 (by decide)) hn hfit kk
theorem SX38_9 {w : eW} {d : Nat} {Y : eY} {pc : Nat} {ls : eL} {st : List Value} {h : eH} {Q : eO → eH → Prop} {a : Nat} {h' : eH} {v : Value} (hf : p_F 37 h a 0 v = some h') (hd : decode Y.2.1 pc = .ok (.putfield 9, 3)) (hY : Y.1.cls = RX38) (hI : Y.1.name = "<init>") (hn : narrow (tyX38 0) v = v) (hfit : fits (tyX38 0) v = true) (kk : wp w d Y (pc + 3) ls st h' Q) : wp w d Y pc ls (v :: .ref a :: st) h Q := x_pF (ci := 37) (k := 0) hf hd rfl (by decide) (by rw [hY]; exact q4389) rfl hI (by rw [hY]; rfl) (tyX38_ok 0 (by decide)) hn hfit kk
def fX38_init (this : Nat) (h : eH) : Option (Unit × eH) :=
  (n_arr 100 235 (.int 0) h (100 : Int32)).bind fun q1 =>
  (p_F 37 q1.2 this 0 (.ref q1.1)).bind fun h3 =>
  (n_arr 100 236 (.int 0) h3 (100 : Int32)).bind fun q5 =>
  (p_F 37 q5.2 this 1 (.ref q5.1)).bind fun h7 =>
  (n_arr 100 237 (.int 0) h7 (100 : Int32)).bind fun q9 =>
  (p_F 37 q9.2 this 2 (.ref q9.1)).bind fun h11 =>
  (n_arr 100 238 (.int 0) h11 (100 : Int32)).bind fun q13 =>
  (p_F 37 q13.2 this 3 (.ref q13.1)).bind fun h15 =>
  (n_arr 100 239 (.int 0) h15 (10 : Int32)).bind fun q17 =>
  (p_F 37 q17.2 this 4 (.ref q17.1)).bind fun h19 =>
  (n_arr 102 240 (.int 0) h19 (360000 : Int32)).bind fun q21 =>
  (p_F 37 q21.2 this 6 (.ref q21.1)).bind fun h23 =>
  (p_V 37 h23 this 8 (.int (-1 : Int32))).bind fun h25 =>
  (n_arr 100 241 (.int 0) h25 (100 : Int32)).bind fun q27 =>
  (p_F 37 q27.2 this 12 (.ref q27.1)).bind fun h29 =>
  (n_arr 100 242 (.int 0) h29 (3000 : Int32)).bind fun q31 =>
  (p_F 37 q31.2 this 14 (.ref q31.1)).bind fun h33 =>
  (n_arr 100 243 (.int 0) h33 (3000 : Int32)).bind fun q35 =>
  (p_F 37 q35.2 this 15 (.ref q35.1)).bind fun h37 =>
  (n_arr 100 244 (.int 0) h37 (3000 : Int32)).bind fun q39 =>
  (p_F 37 q39.2 this 16 (.ref q39.1)).bind fun h41 =>
  (n_arr 100 245 (.int 0) h41 (3000 : Int32)).bind fun q43 =>
  (p_F 37 q43.2 this 17 (.ref q43.1)).bind fun h45 =>
  (n_arr 100 246 (.int 0) h45 (3000 : Int32)).bind fun q47 =>
  (p_F 37 q47.2 this 18 (.ref q47.1)).bind fun h49 =>
  (n_arr 100 247 (.int 0) h49 (3000 : Int32)).bind fun q51 =>
  (p_F 37 q51.2 this 19 (.ref q51.1)).bind fun h53 =>
  (n_arr 100 248 (.int 0) h53 (3000 : Int32)).bind fun q55 =>
  (p_F 37 q55.2 this 20 (.ref q55.1)).bind fun h57 =>
  (n_arr 100 249 (.int 0) h57 (3000 : Int32)).bind fun q59 =>
  (p_F 37 q59.2 this 21 (.ref q59.1)).bind fun h61 =>
  (n_arr 100 250 (.int 0) h61 (6 : Int32)).bind fun q63 =>
  (p_F 37 q63.2 this 22 (.ref q63.1)).bind fun h65 =>
  some ((), h65)
theorem pX38_init {w : eW} {d : Nat} (hd : 1 ≤ d) {this : Nat} {h : eH} {q} (hf : fX38_init this h = some q) : wm w d YX38_init [.ref this] h (e_is (e_rn c_V q)) := by
  obtain ⟨d, rfl⟩ : ∃ e, d = e + 1 := ⟨d - 1, by omega⟩
  show wp w (d + 1) YX38_init 0 [some (.ref this)] [] h _
  unfold fX38_init at hf
  refine w_aload_n dX38_init_0 rfl rfl ?_
  refine w_obj dX38_init_1 q4387 q490 q491 (by decide) ?_
  refine w_aload_n dX38_init_4 rfl rfl ?_
  refine w_bipush dX38_init_5 (v := 100) (by decide) ?_
  obtain ⟨q1, b2, hf⟩ := Option.bind_eq_some_iff.mp hf
  refine x_newI (g := 235) b2 dX38_init_7 q582 ?_
  obtain ⟨h3, b4, hf⟩ := Option.bind_eq_some_iff.mp hf
  refine SX38_9 b4 dX38_init_9 rfl rfl rfl rfl ?_
  refine w_aload_n dX38_init_12 rfl rfl ?_
  refine w_bipush dX38_init_13 (v := 100) (by decide) ?_
  obtain ⟨q5, b6, hf⟩ := Option.bind_eq_some_iff.mp hf
  refine x_newI (g := 236) b6 dX38_init_15 q582 ?_
  obtain ⟨h7, b8, hf⟩ := Option.bind_eq_some_iff.mp hf
  refine SX38_15 b8 dX38_init_17 rfl rfl rfl rfl ?_
  refine w_aload_n dX38_init_20 rfl rfl ?_
  refine w_bipush dX38_init_21 (v := 100) (by decide) ?_
  obtain ⟨q9, b10, hf⟩ := Option.bind_eq_some_iff.mp hf
  refine x_newI (g := 237) b10 dX38_init_23 q582 ?_
  obtain ⟨h11, b12, hf⟩ := Option.bind_eq_some_iff.mp hf
  refine SX38_18 b12 dX38_init_25 rfl rfl rfl rfl ?_
  refine w_aload_n dX38_init_28 rfl rfl ?_
  refine w_bipush dX38_init_29 (v := 100) (by decide) ?_
  obtain ⟨q13, b14, hf⟩ := Option.bind_eq_some_iff.mp hf
  refine x_newI (g := 238) b14 dX38_init_31 q582 ?_
  obtain ⟨h15, b16, hf⟩ := Option.bind_eq_some_iff.mp hf
  refine SX38_21 b16 dX38_init_33 rfl rfl rfl rfl ?_
  refine w_aload_n dX38_init_36 rfl rfl ?_
  refine w_bipush dX38_init_37 (v := 10) (by decide) ?_
  obtain ⟨q17, b18, hf⟩ := Option.bind_eq_some_iff.mp hf
  refine x_newI (g := 239) b18 dX38_init_39 q582 ?_
  obtain ⟨h19, b20, hf⟩ := Option.bind_eq_some_iff.mp hf
  refine SX38_24 b20 dX38_init_41 rfl rfl rfl rfl ?_
  refine w_aload_n dX38_init_44 rfl rfl ?_
  refine w_ldc dX38_init_45 q4388 ?_
  obtain ⟨q21, b22, hf⟩ := Option.bind_eq_some_iff.mp hf
  refine x_newB (g := 240) b22 dX38_init_47 q507 ?_
  obtain ⟨h23, b24, hf⟩ := Option.bind_eq_some_iff.mp hf
  refine SX38_28 b24 dX38_init_49 rfl rfl rfl rfl ?_
  refine w_aload_n dX38_init_52 rfl rfl ?_
  refine w_iconst dX38_init_53 (v := -1) (by decide) ?_
  obtain ⟨h25, b26, hf⟩ := Option.bind_eq_some_iff.mp hf
  refine SX38_32 b26 dX38_init_54 rfl ?_
  refine w_aload_n dX38_init_57 rfl rfl ?_
  refine w_bipush dX38_init_58 (v := 100) (by decide) ?_
  obtain ⟨q27, b28, hf⟩ := Option.bind_eq_some_iff.mp hf
  refine x_newI (g := 241) b28 dX38_init_60 q582 ?_
  obtain ⟨h29, b30, hf⟩ := Option.bind_eq_some_iff.mp hf
  refine SX38_36 b30 dX38_init_62 rfl rfl rfl rfl ?_
  refine w_aload_n dX38_init_65 rfl rfl ?_
  refine w_sipush dX38_init_66 (v := 3000) (by decide) ?_
  obtain ⟨q31, b32, hf⟩ := Option.bind_eq_some_iff.mp hf
  refine x_newI (g := 242) b32 dX38_init_69 q582 ?_
  obtain ⟨h33, b34, hf⟩ := Option.bind_eq_some_iff.mp hf
  refine SX38_39 b34 dX38_init_71 rfl rfl rfl rfl ?_
  refine w_aload_n dX38_init_74 rfl rfl ?_
  refine w_sipush dX38_init_75 (v := 3000) (by decide) ?_
  obtain ⟨q35, b36, hf⟩ := Option.bind_eq_some_iff.mp hf
  refine x_newI (g := 243) b36 dX38_init_78 q582 ?_
  obtain ⟨h37, b38, hf⟩ := Option.bind_eq_some_iff.mp hf
  refine SX38_42 b38 dX38_init_80 rfl rfl rfl rfl ?_
  refine w_aload_n dX38_init_83 rfl rfl ?_
  refine w_sipush dX38_init_84 (v := 3000) (by decide) ?_
  obtain ⟨q39, b40, hf⟩ := Option.bind_eq_some_iff.mp hf
  refine x_newI (g := 244) b40 dX38_init_87 q582 ?_
  obtain ⟨h41, b42, hf⟩ := Option.bind_eq_some_iff.mp hf
  refine SX38_45 b42 dX38_init_89 rfl rfl rfl rfl ?_
  refine w_aload_n dX38_init_92 rfl rfl ?_
  refine w_sipush dX38_init_93 (v := 3000) (by decide) ?_
  obtain ⟨q43, b44, hf⟩ := Option.bind_eq_some_iff.mp hf
  refine x_newI (g := 245) b44 dX38_init_96 q582 ?_
  obtain ⟨h45, b46, hf⟩ := Option.bind_eq_some_iff.mp hf
  refine SX38_48 b46 dX38_init_98 rfl rfl rfl rfl ?_
  refine w_aload_n dX38_init_101 rfl rfl ?_
  refine w_sipush dX38_init_102 (v := 3000) (by decide) ?_
  obtain ⟨q47, b48, hf⟩ := Option.bind_eq_some_iff.mp hf
  refine x_newI (g := 246) b48 dX38_init_105 q582 ?_
  obtain ⟨h49, b50, hf⟩ := Option.bind_eq_some_iff.mp hf
  refine SX38_51 b50 dX38_init_107 rfl rfl rfl rfl ?_
  refine w_aload_n dX38_init_110 rfl rfl ?_
  refine w_sipush dX38_init_111 (v := 3000) (by decide) ?_
  obtain ⟨q51, b52, hf⟩ := Option.bind_eq_some_iff.mp hf
  refine x_newI (g := 247) b52 dX38_init_114 q582 ?_
  obtain ⟨h53, b54, hf⟩ := Option.bind_eq_some_iff.mp hf
  refine SX38_54 b54 dX38_init_116 rfl rfl rfl rfl ?_
  refine w_aload_n dX38_init_119 rfl rfl ?_
  refine w_sipush dX38_init_120 (v := 3000) (by decide) ?_
  obtain ⟨q55, b56, hf⟩ := Option.bind_eq_some_iff.mp hf
  refine x_newI (g := 248) b56 dX38_init_123 q582 ?_
  obtain ⟨h57, b58, hf⟩ := Option.bind_eq_some_iff.mp hf
  refine SX38_57 b58 dX38_init_125 rfl rfl rfl rfl ?_
  refine w_aload_n dX38_init_128 rfl rfl ?_
  refine w_sipush dX38_init_129 (v := 3000) (by decide) ?_
  obtain ⟨q59, b60, hf⟩ := Option.bind_eq_some_iff.mp hf
  refine x_newI (g := 249) b60 dX38_init_132 q582 ?_
  obtain ⟨h61, b62, hf⟩ := Option.bind_eq_some_iff.mp hf
  refine SX38_60 b62 dX38_init_134 rfl rfl rfl rfl ?_
  refine w_aload_n dX38_init_137 rfl rfl ?_
  refine w_bipush dX38_init_138 (v := 6) (by decide) ?_
  obtain ⟨q63, b64, hf⟩ := Option.bind_eq_some_iff.mp hf
  refine x_newI (g := 250) b64 dX38_init_140 q582 ?_
  obtain ⟨h65, b66, hf⟩ := Option.bind_eq_some_iff.mp hf
  refine SX38_63 b66 dX38_init_142 rfl rfl rfl rfl ?_
  cases hf
  exact w_vret dX38_init_145 rfl rfl
abbrev cX35_first : ByteArray := prog_37_method_15_code
def yX35_first : MethodName := ⟨RX35, "first", "(II)V"⟩
def YX35_first : eY := (yX35_first, cX35_first, 3, none, [])
theorem mX35_first : e_mv YX35_first RX35 2 := ⟨q4482, qs217, q4483, by decide, by decide +kernel, (e_sig (by decide +kernel))⟩
theorem dX35_first_0 : decode cX35_first 0 = .ok (.aload_n 0, 1) := dc_42 (by decide +kernel)
theorem dX35_first_1 : decode cX35_first 1 = .ok (.getfield 65, 3) := dc_180 (a := 0) (b := 65) (n := 65) (by decide +kernel)
theorem dX35_first_4 : decode cX35_first 4 = .ok (.iload_n 1, 1) := dc_27 (by decide +kernel)
theorem dX35_first_5 : decode cX35_first 5 = .ok (.iload_n 2, 1) := dc_28 (by decide +kernel)
theorem dX35_first_6 : decode cX35_first 6 = .ok (.iastore, 1) := dc_79 (by decide +kernel)
theorem dX35_first_7 : decode cX35_first 7 = .ok (.return_, 1) := dc_177 (by decide +kernel)
theorem GX35_65 {w : eW} {d : Nat} {Y : eY} {pc : Nat} {ls : eL} {st : List Value} {h : eH} {Q : eO → eH → Prop} {a : Nat} {x : Nat} (hf : g_A 34 h a 22 = some x) (hd : decode Y.2.1 pc = .ok (.getfield 65, 3)) (hY : Y.1.cls = RX35) (kk : wp w d Y (pc + 3) ls (.ref x :: st) h Q) : wp w d Y pc ls (.ref a :: st) h Q := x_gA (ci := 34) (k := 22) hf hd rfl (by decide) (by rw [hY]; exact q4524) kk
def fX35_first (this : Nat) (p0 : Int32) (p1 : Int32) (h : eH) : Option (Unit × eH) :=
  (g_A 34 h this 22).bind fun a1 =>
  (q_V 100 h a1 p0 (.int p1)).bind fun h3 =>
  some ((), h3)
theorem pX35_first {w : eW} {d : Nat} (hd : 0 ≤ d) {this : Nat} {p0 : Int32} {p1 : Int32} {h : eH} {q} (hf : fX35_first this p0 p1 h = some q) : wm w d YX35_first [.ref this, .int p0, .int p1] h (e_is (e_rn c_V q)) := by
  show wp w d YX35_first 0 [some (.ref this), some (.int p0), some (.int p1)] [] h _
  unfold fX35_first at hf
  refine w_aload_n dX35_first_0 rfl rfl ?_
  obtain ⟨a1, b2, hf⟩ := Option.bind_eq_some_iff.mp hf
  refine GX35_65 b2 dX35_first_1 rfl ?_
  refine w_iload_n dX35_first_4 rfl rfl ?_
  refine w_iload_n dX35_first_5 rfl rfl ?_
  obtain ⟨h3, b4, hf⟩ := Option.bind_eq_some_iff.mp hf
  refine x_qI b4 dX35_first_6 ?_
  cases hf
  exact w_vret dX35_first_7 rfl rfl
abbrev cX35_addName : ByteArray := prog_37_method_18_code
def yX35_addName : MethodName := ⟨RX35, "addName", "()I"⟩
def YX35_addName : eY := (yX35_addName, cX35_addName, 2, (Option.some FieldType.int), [])
theorem mX35_addName : e_mv YX35_addName RX35 0 := ⟨q4499, qs219, q4500, by decide, by decide +kernel, (e_sig (by decide +kernel))⟩
theorem dX35_addName_0 : decode cX35_addName 0 = .ok (.iconst 0, 1) := dc_3 (by decide +kernel)
theorem dX35_addName_1 : decode cX35_addName 1 = .ok (.istore_n 1, 1) := dc_60 (by decide +kernel)
theorem dX35_addName_2 : decode cX35_addName 2 = .ok (.iload_n 1, 1) := dc_27 (by decide +kernel)
theorem dX35_addName_3 : decode cX35_addName 3 = .ok (.aload_n 0, 1) := dc_42 (by decide +kernel)
theorem dX35_addName_4 : decode cX35_addName 4 = .ok (.getfield 413, 3) := dc_180 (a := 1) (b := 157) (n := 413) (by decide +kernel)
theorem dX35_addName_7 : decode cX35_addName 7 = .ok (.if_icmp .ge 30, 3) := dc_162 (a := 0) (b := 30) (v := 30) (by decide +kernel)
theorem dX35_addName_10 : decode cX35_addName 10 = .ok (.aload_n 0, 1) := dc_42 (by decide +kernel)
theorem dX35_addName_11 : decode cX35_addName 11 = .ok (.getfield 52, 3) := dc_180 (a := 0) (b := 52) (n := 52) (by decide +kernel)
theorem dX35_addName_14 : decode cX35_addName 14 = .ok (.bipush 40, 2) := dc_16 (a := 40) (v := 40) (by decide +kernel)
theorem dX35_addName_16 : decode cX35_addName 16 = .ok (.aload_n 0, 1) := dc_42 (by decide +kernel)
theorem dX35_addName_17 : decode cX35_addName 17 = .ok (.getfield 360, 3) := dc_180 (a := 1) (b := 104) (n := 360) (by decide +kernel)
theorem dX35_addName_20 : decode cX35_addName 20 = .ok (.imul, 1) := dc_104 (by decide +kernel)
theorem dX35_addName_21 : decode cX35_addName 21 = .ok (.iload_n 1, 1) := dc_27 (by decide +kernel)
theorem dX35_addName_22 : decode cX35_addName 22 = .ok (.iadd, 1) := dc_96 (by decide +kernel)
theorem dX35_addName_23 : decode cX35_addName 23 = .ok (.aload_n 0, 1) := dc_42 (by decide +kernel)
theorem dX35_addName_24 : decode cX35_addName 24 = .ok (.getfield 58, 3) := dc_180 (a := 0) (b := 58) (n := 58) (by decide +kernel)
theorem dX35_addName_27 : decode cX35_addName 27 = .ok (.iload_n 1, 1) := dc_27 (by decide +kernel)
theorem dX35_addName_28 : decode cX35_addName 28 = .ok (.iaload, 1) := dc_46 (by decide +kernel)
theorem dX35_addName_29 : decode cX35_addName 29 = .ok (.i2b, 1) := dc_145 (by decide +kernel)
theorem dX35_addName_30 : decode cX35_addName 30 = .ok (.bastore, 1) := dc_84 (by decide +kernel)
theorem dX35_addName_31 : decode cX35_addName 31 = .ok (.iinc 1 1, 3) := dc_132 (a := 1) (b := 1) (v := 1) (by decide +kernel)
theorem dX35_addName_34 : decode cX35_addName 34 = .ok (.goto (-32), 3) := dc_167 (a := 255) (b := 224) (v := -32) (by decide +kernel)
theorem dX35_addName_37 : decode cX35_addName 37 = .ok (.aload_n 0, 1) := dc_42 (by decide +kernel)
theorem dX35_addName_38 : decode cX35_addName 38 = .ok (.getfield 55, 3) := dc_180 (a := 0) (b := 55) (n := 55) (by decide +kernel)
theorem dX35_addName_41 : decode cX35_addName 41 = .ok (.aload_n 0, 1) := dc_42 (by decide +kernel)
theorem dX35_addName_42 : decode cX35_addName 42 = .ok (.getfield 360, 3) := dc_180 (a := 1) (b := 104) (n := 360) (by decide +kernel)
theorem dX35_addName_45 : decode cX35_addName 45 = .ok (.aload_n 0, 1) := dc_42 (by decide +kernel)
theorem dX35_addName_46 : decode cX35_addName 46 = .ok (.getfield 413, 3) := dc_180 (a := 1) (b := 157) (n := 413) (by decide +kernel)
theorem dX35_addName_49 : decode cX35_addName 49 = .ok (.iastore, 1) := dc_79 (by decide +kernel)
theorem dX35_addName_50 : decode cX35_addName 50 = .ok (.aload_n 0, 1) := dc_42 (by decide +kernel)
theorem dX35_addName_51 : decode cX35_addName 51 = .ok (.dup, 1) := dc_89 (by decide +kernel)
theorem dX35_addName_52 : decode cX35_addName 52 = .ok (.getfield 360, 3) := dc_180 (a := 1) (b := 104) (n := 360) (by decide +kernel)
theorem dX35_addName_55 : decode cX35_addName 55 = .ok (.iconst 1, 1) := dc_4 (by decide +kernel)
theorem dX35_addName_56 : decode cX35_addName 56 = .ok (.iadd, 1) := dc_96 (by decide +kernel)
theorem dX35_addName_57 : decode cX35_addName 57 = .ok (.putfield 360, 3) := dc_181 (a := 1) (b := 104) (n := 360) (by decide +kernel)
theorem dX35_addName_60 : decode cX35_addName 60 = .ok (.aload_n 0, 1) := dc_42 (by decide +kernel)
theorem dX35_addName_61 : decode cX35_addName 61 = .ok (.getfield 360, 3) := dc_180 (a := 1) (b := 104) (n := 360) (by decide +kernel)
theorem dX35_addName_64 : decode cX35_addName 64 = .ok (.iconst 1, 1) := dc_4 (by decide +kernel)
theorem dX35_addName_65 : decode cX35_addName 65 = .ok (.isub, 1) := dc_100 (by decide +kernel)
theorem dX35_addName_66 : decode cX35_addName 66 = .ok (.ireturn, 1) := dc_172 (by decide +kernel)
theorem GX35_360 {w : eW} {d : Nat} {Y : eY} {pc : Nat} {ls : eL} {st : List Value} {h : eH} {Q : eO → eH → Prop} {a : Nat} {x : Int32} (hf : g_I 34 h a 15 = some x) (hd : decode Y.2.1 pc = .ok (.getfield 360, 3)) (hY : Y.1.cls = RX35) (kk : wp w d Y (pc + 3) ls (.int x :: st) h Q) : wp w d Y pc ls (.ref a :: st) h Q := x_gI (ci := 34) (k := 15) hf hd rfl (by decide) (by rw [hY]; exact q4517) kk
theorem GX35_413 {w : eW} {d : Nat} {Y : eY} {pc : Nat} {ls : eL} {st : List Value} {h : eH} {Q : eO → eH → Prop} {a : Nat} {x : Int32} (hf : g_I 34 h a 19 = some x) (hd : decode Y.2.1 pc = .ok (.getfield 413, 3)) (hY : Y.1.cls = RX35) (kk : wp w d Y (pc + 3) ls (.int x :: st) h Q) : wp w d Y pc ls (.ref a :: st) h Q := x_gI (ci := 34) (k := 19) hf hd rfl (by decide) (by rw [hY]; exact q4521) kk
theorem GX35_52 {w : eW} {d : Nat} {Y : eY} {pc : Nat} {ls : eL} {st : List Value} {h : eH} {Q : eO → eH → Prop} {a : Nat} {x : Nat} (hf : g_A 34 h a 16 = some x) (hd : decode Y.2.1 pc = .ok (.getfield 52, 3)) (hY : Y.1.cls = RX35) (kk : wp w d Y (pc + 3) ls (.ref x :: st) h Q) : wp w d Y pc ls (.ref a :: st) h Q := x_gA (ci := 34) (k := 16) hf hd rfl (by decide) (by rw [hY]; exact q4518) kk
theorem GX35_55 {w : eW} {d : Nat} {Y : eY} {pc : Nat} {ls : eL} {st : List Value} {h : eH} {Q : eO → eH → Prop} {a : Nat} {x : Nat} (hf : g_A 34 h a 17 = some x) (hd : decode Y.2.1 pc = .ok (.getfield 55, 3)) (hY : Y.1.cls = RX35) (kk : wp w d Y (pc + 3) ls (.ref x :: st) h Q) : wp w d Y pc ls (.ref a :: st) h Q := x_gA (ci := 34) (k := 17) hf hd rfl (by decide) (by rw [hY]; exact q4519) kk
theorem GX35_58 {w : eW} {d : Nat} {Y : eY} {pc : Nat} {ls : eL} {st : List Value} {h : eH} {Q : eO → eH → Prop} {a : Nat} {x : Nat} (hf : g_A 34 h a 18 = some x) (hd : decode Y.2.1 pc = .ok (.getfield 58, 3)) (hY : Y.1.cls = RX35) (kk : wp w d Y (pc + 3) ls (.ref x :: st) h Q) : wp w d Y pc ls (.ref a :: st) h Q := x_gA (ci := 34) (k := 18) hf hd rfl (by decide) (by rw [hY]; exact q4520) kk
theorem SX35_360 {w : eW} {d : Nat} {Y : eY} {pc : Nat} {ls : eL} {st : List Value} {h : eH} {Q : eO → eH → Prop} {a : Nat} {h' : eH} {x : Int32} (hf : p_V 34 h a 15 (.int x) = some h') (hd : decode Y.2.1 pc = .ok (.putfield 360, 3)) (hY : Y.1.cls = RX35) (kk : wp w d Y (pc + 3) ls st h' Q) : wp w d Y pc ls (.int x :: .ref a :: st) h Q := x_pI (ci := 34) (k := 15) hf hd rfl (by decide) (by rw [hY]; exact q4517) rfl rfl kk
def fX35_addName_b2 (N : Nat) : Nat → Nat → Int32 → eH → Option (Int32 × eH)
  | 0, _, _, _ => none
  | n + 1, l0, l1, h =>
    (g_I 34 h l0 19).bind fun x1 =>
    if x1 ≤ l1 then
      (g_A 34 h l0 17).bind fun a4 =>
      (g_I 34 h l0 15).bind fun x6 =>
      (g_I 34 h l0 19).bind fun x8 =>
      (q_V 100 h a4 x6 (.int x8)).bind fun h10 =>
      (g_I 34 h10 l0 15).bind fun x12 =>
      (p_V 34 h10 l0 15 (.int (x12 + (1 : Int32)))).bind fun h14 =>
      (g_I 34 h14 l0 15).bind fun x16 =>
      some ((x16 - (1 : Int32)), h14)
    else
      (g_A 34 h l0 16).bind fun a18 =>
      (g_I 34 h l0 15).bind fun x20 =>
      (g_A 34 h l0 18).bind fun a22 =>
      (r_I 100 h a22 l1).bind fun x24 =>
      (q_V 102 h a18 (((40 : Int32) * x20) + l1) (.int ((x24).toInt8.toInt32).toInt8.toInt32)).bind fun h26 =>
      fX35_addName_b2 N n l0 (l1 + (1 : Int32)) h26
theorem pX35_addName_b2 {w : eW} {d : Nat} (hd : 0 ≤ d) {N : Nat} : ∀ (n : Nat) l0 l1 h q, fX35_addName_b2 N n l0 l1 h = some q → wp w d YX35_addName 2 [some (.ref l0), some (.int l1)] [] h (e_is (e_rn c_I q)) := by
  intro n
  induction n with
  | zero => intro l0 l1 h q hf; simp [fX35_addName_b2] at hf
  | succ n ih =>
    intro l0 l1 h q hf
    rw [fX35_addName_b2] at hf
    refine w_iload_n dX35_addName_2 rfl rfl ?_
    refine w_aload_n dX35_addName_3 rfl rfl ?_
    obtain ⟨x1, b2, hf⟩ := Option.bind_eq_some_iff.mp hf
    refine GX35_413 b2 dX35_addName_4 rfl ?_
    refine w_icmp_ge 37 dX35_addName_7 (by decide) (fun c3 => ?_) (fun c3 => ?_)
    · replace hf := (if_pos (show x1 ≤ l1 from c3)).symm.trans hf
      refine w_aload_n dX35_addName_37 rfl rfl ?_
      obtain ⟨a4, b5, hf⟩ := Option.bind_eq_some_iff.mp hf
      refine GX35_55 b5 dX35_addName_38 rfl ?_
      refine w_aload_n dX35_addName_41 rfl rfl ?_
      obtain ⟨x6, b7, hf⟩ := Option.bind_eq_some_iff.mp hf
      refine GX35_360 b7 dX35_addName_42 rfl ?_
      refine w_aload_n dX35_addName_45 rfl rfl ?_
      obtain ⟨x8, b9, hf⟩ := Option.bind_eq_some_iff.mp hf
      refine GX35_413 b9 dX35_addName_46 rfl ?_
      obtain ⟨h10, b11, hf⟩ := Option.bind_eq_some_iff.mp hf
      refine x_qI b11 dX35_addName_49 ?_
      refine w_aload_n dX35_addName_50 rfl rfl ?_
      refine w_dup dX35_addName_51 rfl ?_
      obtain ⟨x12, b13, hf⟩ := Option.bind_eq_some_iff.mp hf
      refine GX35_360 b13 dX35_addName_52 rfl ?_
      refine w_iconst dX35_addName_55 (v := 1) (by decide) ?_
      refine w_iadd dX35_addName_56 ?_
      obtain ⟨h14, b15, hf⟩ := Option.bind_eq_some_iff.mp hf
      refine SX35_360 b15 dX35_addName_57 rfl ?_
      refine w_aload_n dX35_addName_60 rfl rfl ?_
      obtain ⟨x16, b17, hf⟩ := Option.bind_eq_some_iff.mp hf
      refine GX35_360 b17 dX35_addName_61 rfl ?_
      refine w_iconst dX35_addName_64 (v := 1) (by decide) ?_
      refine w_isub dX35_addName_65 ?_
      cases hf
      exact w_iret dX35_addName_66 rfl rfl rfl
    · replace hf := (if_neg (show ¬ (x1 ≤ l1) from c3)).symm.trans hf
      refine w_aload_n dX35_addName_10 rfl rfl ?_
      obtain ⟨a18, b19, hf⟩ := Option.bind_eq_some_iff.mp hf
      refine GX35_52 b19 dX35_addName_11 rfl ?_
      refine w_bipush dX35_addName_14 (v := 40) (by decide) ?_
      refine w_aload_n dX35_addName_16 rfl rfl ?_
      obtain ⟨x20, b21, hf⟩ := Option.bind_eq_some_iff.mp hf
      refine GX35_360 b21 dX35_addName_17 rfl ?_
      refine w_imul dX35_addName_20 ?_
      refine w_iload_n dX35_addName_21 rfl rfl ?_
      refine w_iadd dX35_addName_22 ?_
      refine w_aload_n dX35_addName_23 rfl rfl ?_
      obtain ⟨a22, b23, hf⟩ := Option.bind_eq_some_iff.mp hf
      refine GX35_58 b23 dX35_addName_24 rfl ?_
      refine w_iload_n dX35_addName_27 rfl rfl ?_
      obtain ⟨x24, b25, hf⟩ := Option.bind_eq_some_iff.mp hf
      refine x_rI b25 dX35_addName_28 ?_
      refine w_i2b dX35_addName_29 ?_
      obtain ⟨h26, b27, hf⟩ := Option.bind_eq_some_iff.mp hf
      refine x_qB b27 dX35_addName_30 ?_
      refine w_iinc dX35_addName_31 (v := (l1 + (1 : Int32))) rfl rfl (by decide) (ls' := [some (.ref l0), some (.int (l1 + (1 : Int32)))]) rfl ?_
      refine w_goto 2 dX35_addName_34 (by decide) ?_
      exact (ih _ _ _ _ hf).to ⟨rfl, rfl, trivial⟩
def fX35_addName (N : Nat) (this : Nat) (h : eH) : Option (Int32 × eH) :=
  fX35_addName_b2 N N this (0 : Int32) h
theorem pX35_addName {w : eW} {d : Nat} (hd : 0 ≤ d) {N : Nat} {this : Nat} {h : eH} {q} (hf : fX35_addName N this h = some q) : wm w d YX35_addName [.ref this] h (e_is (e_rn c_I q)) := by
  show wp w d YX35_addName 0 [some (.ref this), none] [] h _
  unfold fX35_addName at hf
  refine w_iconst dX35_addName_0 (v := 0) (by decide) ?_
  refine w_istore_n dX35_addName_1 rfl (by decide) (ls' := [some (.ref this), some (.int (0 : Int32))]) rfl ?_
  exact (pX35_addName_b2 hd N _ _ _ _ hf).to ⟨rfl, rfl, trivial⟩
abbrev cX35_primitives : ByteArray := prog_37_method_17_code
def yX35_primitives : MethodName := ⟨RX35, "primitives", "(Ljava/lang/String;)V"⟩
def YX35_primitives : eY := (yX35_primitives, cX35_primitives, 4, none, [])
theorem mX35_primitives : e_mv YX35_primitives RX35 1 := ⟨q4493, qs218, q4494, by decide, by decide +kernel, (e_sig (by decide +kernel))⟩
theorem dX35_primitives_0 : decode cX35_primitives 0 = .ok (.aload_n 0, 1) := dc_42 (by decide +kernel)
theorem dX35_primitives_1 : decode cX35_primitives 1 = .ok (.iconst 0, 1) := dc_3 (by decide +kernel)
theorem dX35_primitives_2 : decode cX35_primitives 2 = .ok (.putfield 413, 3) := dc_181 (a := 1) (b := 157) (n := 413) (by decide +kernel)
theorem dX35_primitives_5 : decode cX35_primitives 5 = .ok (.iconst 0, 1) := dc_3 (by decide +kernel)
theorem dX35_primitives_6 : decode cX35_primitives 6 = .ok (.istore_n 2, 1) := dc_61 (by decide +kernel)
theorem dX35_primitives_7 : decode cX35_primitives 7 = .ok (.iload_n 2, 1) := dc_28 (by decide +kernel)
theorem dX35_primitives_8 : decode cX35_primitives 8 = .ok (.aload_n 1, 1) := dc_43 (by decide +kernel)
theorem dX35_primitives_9 : decode cX35_primitives 9 = .ok (.invokevirtual 416, 3) := dc_182 (a := 1) (b := 160) (n := 416) (by decide +kernel)
theorem dX35_primitives_12 : decode cX35_primitives 12 = .ok (.if_icmp .ge 67, 3) := dc_162 (a := 0) (b := 67) (v := 67) (by decide +kernel)
theorem dX35_primitives_15 : decode cX35_primitives 15 = .ok (.aload_n 1, 1) := dc_43 (by decide +kernel)
theorem dX35_primitives_16 : decode cX35_primitives 16 = .ok (.iload_n 2, 1) := dc_28 (by decide +kernel)
theorem dX35_primitives_17 : decode cX35_primitives 17 = .ok (.invokevirtual 421, 3) := dc_182 (a := 1) (b := 165) (n := 421) (by decide +kernel)
theorem dX35_primitives_20 : decode cX35_primitives 20 = .ok (.bipush 47, 2) := dc_16 (a := 47) (v := 47) (by decide +kernel)
theorem dX35_primitives_22 : decode cX35_primitives 22 = .ok (.if_icmp .ne 27, 3) := dc_160 (a := 0) (b := 27) (v := 27) (by decide +kernel)
theorem dX35_primitives_25 : decode cX35_primitives 25 = .ok (.aload_n 0, 1) := dc_42 (by decide +kernel)
theorem dX35_primitives_26 : decode cX35_primitives 26 = .ok (.invokevirtual 425, 3) := dc_182 (a := 1) (b := 169) (n := 425) (by decide +kernel)
theorem dX35_primitives_29 : decode cX35_primitives 29 = .ok (.istore_n 3, 1) := dc_62 (by decide +kernel)
theorem dX35_primitives_30 : decode cX35_primitives 30 = .ok (.aload_n 0, 1) := dc_42 (by decide +kernel)
theorem dX35_primitives_31 : decode cX35_primitives 31 = .ok (.getfield 65, 3) := dc_180 (a := 0) (b := 65) (n := 65) (by decide +kernel)
theorem dX35_primitives_34 : decode cX35_primitives 34 = .ok (.iload_n 3, 1) := dc_29 (by decide +kernel)
theorem dX35_primitives_35 : decode cX35_primitives 35 = .ok (.sipush 1000, 3) := dc_17 (a := 3) (b := 232) (v := 1000) (by decide +kernel)
theorem dX35_primitives_38 : decode cX35_primitives 38 = .ok (.iload_n 3, 1) := dc_29 (by decide +kernel)
theorem dX35_primitives_39 : decode cX35_primitives 39 = .ok (.iadd, 1) := dc_96 (by decide +kernel)
theorem dX35_primitives_40 : decode cX35_primitives 40 = .ok (.iastore, 1) := dc_79 (by decide +kernel)
theorem dX35_primitives_41 : decode cX35_primitives 41 = .ok (.aload_n 0, 1) := dc_42 (by decide +kernel)
theorem dX35_primitives_42 : decode cX35_primitives 42 = .ok (.iconst 0, 1) := dc_3 (by decide +kernel)
theorem dX35_primitives_43 : decode cX35_primitives 43 = .ok (.putfield 413, 3) := dc_181 (a := 1) (b := 157) (n := 413) (by decide +kernel)
theorem dX35_primitives_46 : decode cX35_primitives 46 = .ok (.goto 27, 3) := dc_167 (a := 0) (b := 27) (v := 27) (by decide +kernel)
theorem dX35_primitives_49 : decode cX35_primitives 49 = .ok (.aload_n 0, 1) := dc_42 (by decide +kernel)
theorem dX35_primitives_50 : decode cX35_primitives 50 = .ok (.getfield 58, 3) := dc_180 (a := 0) (b := 58) (n := 58) (by decide +kernel)
theorem dX35_primitives_53 : decode cX35_primitives 53 = .ok (.aload_n 0, 1) := dc_42 (by decide +kernel)
theorem dX35_primitives_54 : decode cX35_primitives 54 = .ok (.getfield 413, 3) := dc_180 (a := 1) (b := 157) (n := 413) (by decide +kernel)
theorem dX35_primitives_57 : decode cX35_primitives 57 = .ok (.aload_n 1, 1) := dc_43 (by decide +kernel)
theorem dX35_primitives_58 : decode cX35_primitives 58 = .ok (.iload_n 2, 1) := dc_28 (by decide +kernel)
theorem dX35_primitives_59 : decode cX35_primitives 59 = .ok (.invokevirtual 421, 3) := dc_182 (a := 1) (b := 165) (n := 421) (by decide +kernel)
theorem dX35_primitives_62 : decode cX35_primitives 62 = .ok (.iastore, 1) := dc_79 (by decide +kernel)
theorem dX35_primitives_63 : decode cX35_primitives 63 = .ok (.aload_n 0, 1) := dc_42 (by decide +kernel)
theorem dX35_primitives_64 : decode cX35_primitives 64 = .ok (.dup, 1) := dc_89 (by decide +kernel)
theorem dX35_primitives_65 : decode cX35_primitives 65 = .ok (.getfield 413, 3) := dc_180 (a := 1) (b := 157) (n := 413) (by decide +kernel)
theorem dX35_primitives_68 : decode cX35_primitives 68 = .ok (.iconst 1, 1) := dc_4 (by decide +kernel)
theorem dX35_primitives_69 : decode cX35_primitives 69 = .ok (.iadd, 1) := dc_96 (by decide +kernel)
theorem dX35_primitives_70 : decode cX35_primitives 70 = .ok (.putfield 413, 3) := dc_181 (a := 1) (b := 157) (n := 413) (by decide +kernel)
theorem dX35_primitives_73 : decode cX35_primitives 73 = .ok (.iinc 2 1, 3) := dc_132 (a := 2) (b := 1) (v := 1) (by decide +kernel)
theorem dX35_primitives_76 : decode cX35_primitives 76 = .ok (.goto (-69), 3) := dc_167 (a := 255) (b := 187) (v := -69) (by decide +kernel)
theorem dX35_primitives_79 : decode cX35_primitives 79 = .ok (.return_, 1) := dc_177 (by decide +kernel)
theorem SX35_413 {w : eW} {d : Nat} {Y : eY} {pc : Nat} {ls : eL} {st : List Value} {h : eH} {Q : eO → eH → Prop} {a : Nat} {h' : eH} {x : Int32} (hf : p_V 34 h a 19 (.int x) = some h') (hd : decode Y.2.1 pc = .ok (.putfield 413, 3)) (hY : Y.1.cls = RX35) (kk : wp w d Y (pc + 3) ls st h' Q) : wp w d Y pc ls (.int x :: .ref a :: st) h Q := x_pI (ci := 34) (k := 19) hf hd rfl (by decide) (by rw [hY]; exact q4521) rfl rfl kk
def fX35_primitives_b73 (N : Nat) (k7 : Nat → Nat → Int32 → eH → Option (Unit × eH)) (l0 : Nat) (l1 : Nat) (l2 : Int32) (h : eH) : Option (Unit × eH) :=
  k7 l0 l1 (l2 + (1 : Int32)) h
theorem pX35_primitives_b73 {w : eW} {d : Nat} (hd : 4 ≤ d + 1) {N : Nat} {k7 : Nat → Nat → Int32 → eH → Option (Unit × eH)} (hk7 : ∀ l0 l1 l2 h q, k7 l0 l1 l2 h = some q → wp w (d + 1) YX35_primitives 7 [some (.ref l0), some (.ref l1), some (.int l2), none] [] h (e_is (e_rn c_V q))) {l0 : Nat} {l1 : Nat} {l2 : Int32} {h : eH} {q} (hf : fX35_primitives_b73 N k7 l0 l1 l2 h = some q) : wp w (d + 1) YX35_primitives 73 [some (.ref l0), some (.ref l1), some (.int l2), none] [] h (e_is (e_rn c_V q)) := by
  unfold fX35_primitives_b73 at hf
  refine w_iinc dX35_primitives_73 (v := (l2 + (1 : Int32))) rfl rfl (by decide) (ls' := [some (.ref l0), some (.ref l1), some (.int (l2 + (1 : Int32))), none]) rfl ?_
  refine w_goto 7 dX35_primitives_76 (by decide) ?_
  exact (hk7 _ _ _ _ _ hf).to ⟨rfl, rfl, rfl, trivial⟩
def fX35_primitives_b7 (N : Nat) : Nat → Nat → Nat → Int32 → eH → Option (Unit × eH)
  | 0, _, _, _, _ => none
  | n + 1, l0, l1, l2, h =>
    (s_ok l1).bind fun _ =>
    (fJ1_length l1 h).bind fun q2 =>
    if q2.1 ≤ l2 then
      some ((), q2.2)
    else
      (s_ok l1).bind fun _ =>
      (fJ1_charAt l1 l2 q2.2).bind fun q5 =>
      if ¬ q5.1 = (47 : Int32) then
        (g_A 34 q5.2 l0 18).bind fun a7 =>
        (g_I 34 q5.2 l0 19).bind fun x9 =>
        (s_ok l1).bind fun _ =>
        (fJ1_charAt l1 l2 q5.2).bind fun q12 =>
        (q_V 100 q12.2 a7 x9 (.int q12.1)).bind fun h13 =>
        (g_I 34 h13 l0 19).bind fun x15 =>
        (p_V 34 h13 l0 19 (.int (x15 + (1 : Int32)))).bind fun h17 =>
        fX35_primitives_b73 N (fX35_primitives_b7 N n) l0 l1 l2 h17
      else
        (k_ok 34 q5.2 l0).bind fun _ =>
        (fX35_addName N l0 q5.2).bind fun q20 =>
        (g_A 34 q20.2 l0 22).bind fun a21 =>
        (q_V 100 q20.2 a21 q20.1 (.int ((1000 : Int32) + q20.1))).bind fun h23 =>
        (p_V 34 h23 l0 19 (.int (0 : Int32))).bind fun h25 =>
        fX35_primitives_b73 N (fX35_primitives_b7 N n) l0 l1 l2 h25
theorem pX35_primitives_b7 {w : eW} {d : Nat} (hd : 4 ≤ d + 1) {N : Nat} : ∀ (n : Nat) l0 l1 l2 h q, fX35_primitives_b7 N n l0 l1 l2 h = some q → wp w (d + 1) YX35_primitives 7 [some (.ref l0), some (.ref l1), some (.int l2), none] [] h (e_is (e_rn c_V q)) := by
  intro n
  induction n with
  | zero => intro l0 l1 l2 h q hf; simp [fX35_primitives_b7] at hf
  | succ n ih =>
    intro l0 l1 l2 h q hf
    rw [fX35_primitives_b7] at hf
    refine w_iload_n dX35_primitives_7 rfl rfl ?_
    refine w_aload_n dX35_primitives_8 rfl rfl ?_
    obtain ⟨_, b1, hf⟩ := Option.bind_eq_some_iff.mp hf
    refine x_cnI hf (e_stVO (Yc := YJ1_length) (av := []) (st := [.int l2]) dX35_primitives_9 q4495 mJ1_length b1) mJ1_length.2.2.1 mJ1_length.2.2.2.2.1 (Nat.le_of_ble_eq_true rfl) (Nat.le_of_ble_eq_true rfl) (fun q hq => pJ1_length (by omega) hq) (fun q2 hf => ?_)
    refine w_icmp_ge 79 dX35_primitives_12 (by decide) (fun c3 => ?_) (fun c3 => ?_)
    · replace hf := (if_pos (show q2.1 ≤ l2 from c3)).symm.trans hf
      cases hf
      exact w_vret dX35_primitives_79 rfl rfl
    · replace hf := (if_neg (show ¬ (q2.1 ≤ l2) from c3)).symm.trans hf
      refine w_aload_n dX35_primitives_15 rfl rfl ?_
      refine w_iload_n dX35_primitives_16 rfl rfl ?_
      obtain ⟨_, b4, hf⟩ := Option.bind_eq_some_iff.mp hf
      refine x_cnI hf (e_stVO (Yc := YJ1_charAt) (av := [.int l2]) (st := []) dX35_primitives_17 q4496 mJ1_charAt b4) mJ1_charAt.2.2.1 mJ1_charAt.2.2.2.2.1 (Nat.le_of_ble_eq_true rfl) (Nat.le_of_ble_eq_true rfl) (fun q hq => pJ1_charAt (by omega) hq) (fun q5 hf => ?_)
      refine w_bipush dX35_primitives_20 (v := 47) (by decide) ?_
      refine w_icmp_ne 49 dX35_primitives_22 (by decide) (fun c6 => ?_) (fun c6 => ?_)
      · replace hf := (if_pos (show ¬ q5.1 = (47 : Int32) from c6)).symm.trans hf
        refine w_aload_n dX35_primitives_49 rfl rfl ?_
        obtain ⟨a7, b8, hf⟩ := Option.bind_eq_some_iff.mp hf
        refine GX35_58 b8 dX35_primitives_50 rfl ?_
        refine w_aload_n dX35_primitives_53 rfl rfl ?_
        obtain ⟨x9, b10, hf⟩ := Option.bind_eq_some_iff.mp hf
        refine GX35_413 b10 dX35_primitives_54 rfl ?_
        refine w_aload_n dX35_primitives_57 rfl rfl ?_
        refine w_iload_n dX35_primitives_58 rfl rfl ?_
        obtain ⟨_, b11, hf⟩ := Option.bind_eq_some_iff.mp hf
        refine x_cnI hf (e_stVO (Yc := YJ1_charAt) (av := [.int l2]) (st := [.int x9, .ref a7]) dX35_primitives_59 q4496 mJ1_charAt b11) mJ1_charAt.2.2.1 mJ1_charAt.2.2.2.2.1 (Nat.le_of_ble_eq_true rfl) (Nat.le_of_ble_eq_true rfl) (fun q hq => pJ1_charAt (by omega) hq) (fun q12 hf => ?_)
        obtain ⟨h13, b14, hf⟩ := Option.bind_eq_some_iff.mp hf
        refine x_qI b14 dX35_primitives_62 ?_
        refine w_aload_n dX35_primitives_63 rfl rfl ?_
        refine w_dup dX35_primitives_64 rfl ?_
        obtain ⟨x15, b16, hf⟩ := Option.bind_eq_some_iff.mp hf
        refine GX35_413 b16 dX35_primitives_65 rfl ?_
        refine w_iconst dX35_primitives_68 (v := 1) (by decide) ?_
        refine w_iadd dX35_primitives_69 ?_
        obtain ⟨h17, b18, hf⟩ := Option.bind_eq_some_iff.mp hf
        refine SX35_413 b18 dX35_primitives_70 rfl ?_
        exact (pX35_primitives_b73 hd ih hf).to ⟨rfl, rfl, rfl, trivial⟩
      · replace hf := (if_neg (show ¬ (¬ q5.1 = (47 : Int32)) from (fun z => z c6))).symm.trans hf
        refine w_aload_n dX35_primitives_25 rfl rfl ?_
        obtain ⟨_, b19, hf⟩ := Option.bind_eq_some_iff.mp hf
        refine x_cnI hf (e_stV (Yc := YX35_addName) (ci := 34) (av := []) (st := []) dX35_primitives_26 q4497 mX35_addName rfl (k_ok_some b19).1 (k_ok_some b19).2) mX35_addName.2.2.1 mX35_addName.2.2.2.2.1 (Nat.le_of_ble_eq_true rfl) (Nat.le_of_ble_eq_true rfl) (fun q hq => pX35_addName (by omega) hq) (fun q20 hf => ?_)
        refine w_istore_n dX35_primitives_29 rfl (by decide) (ls' := [some (.ref l0), some (.ref l1), some (.int l2), some (.int q20.1)]) rfl ?_
        refine w_aload_n dX35_primitives_30 rfl rfl ?_
        obtain ⟨a21, b22, hf⟩ := Option.bind_eq_some_iff.mp hf
        refine GX35_65 b22 dX35_primitives_31 rfl ?_
        refine w_iload_n dX35_primitives_34 rfl rfl ?_
        refine w_sipush dX35_primitives_35 (v := 1000) (by decide) ?_
        refine w_iload_n dX35_primitives_38 rfl rfl ?_
        refine w_iadd dX35_primitives_39 ?_
        obtain ⟨h23, b24, hf⟩ := Option.bind_eq_some_iff.mp hf
        refine x_qI b24 dX35_primitives_40 ?_
        refine w_aload_n dX35_primitives_41 rfl rfl ?_
        refine w_iconst dX35_primitives_42 (v := 0) (by decide) ?_
        obtain ⟨h25, b26, hf⟩ := Option.bind_eq_some_iff.mp hf
        refine SX35_413 b26 dX35_primitives_43 rfl ?_
        refine w_goto 73 dX35_primitives_46 (by decide) ?_
        exact (pX35_primitives_b73 hd ih hf).to ⟨rfl, rfl, rfl, trivial⟩
def fX35_primitives (N : Nat) (this : Nat) (p0 : Nat) (h : eH) : Option (Unit × eH) :=
  (p_V 34 h this 19 (.int (0 : Int32))).bind fun h1 =>
  fX35_primitives_b7 N N this p0 (0 : Int32) h1
theorem pX35_primitives {w : eW} {d : Nat} (hd : 4 ≤ d) {N : Nat} {this : Nat} {p0 : Nat} {h : eH} {q} (hf : fX35_primitives N this p0 h = some q) : wm w d YX35_primitives [.ref this, .ref p0] h (e_is (e_rn c_V q)) := by
  obtain ⟨d, rfl⟩ : ∃ e, d = e + 1 := ⟨d - 1, by omega⟩
  show wp w (d + 1) YX35_primitives 0 [some (.ref this), some (.ref p0), none, none] [] h _
  unfold fX35_primitives at hf
  refine w_aload_n dX35_primitives_0 rfl rfl ?_
  refine w_iconst dX35_primitives_1 (v := 0) (by decide) ?_
  obtain ⟨h1, b2, hf⟩ := Option.bind_eq_some_iff.mp hf
  refine SX35_413 b2 dX35_primitives_2 rfl ?_
  refine w_iconst dX35_primitives_5 (v := 0) (by decide) ?_
  refine w_istore_n dX35_primitives_6 rfl (by decide) (ls' := [some (.ref this), some (.ref p0), some (.int (0 : Int32)), none]) rfl ?_
  exact (pX35_primitives_b7 hd N _ _ _ _ _ hf).to ⟨rfl, rfl, rfl, trivial⟩
abbrev cX35_clear : ByteArray := prog_37_method_16_code
def yX35_clear : MethodName := ⟨RX35, "clear", "()V"⟩
def YX35_clear : eY := (yX35_clear, cX35_clear, 3, none, [])
theorem mX35_clear : e_mv YX35_clear RX35 0 := ⟨q4476, qs216, q4477, by decide, by decide +kernel, (e_sig (by decide +kernel))⟩
theorem dX35_clear_0 : decode cX35_clear 0 = .ok (.aload_n 0, 1) := dc_42 (by decide +kernel)
theorem dX35_clear_1 : decode cX35_clear 1 = .ok (.iconst 0, 1) := dc_3 (by decide +kernel)
theorem dX35_clear_2 : decode cX35_clear 2 = .ok (.putfield 326, 3) := dc_181 (a := 1) (b := 70) (n := 326) (by decide +kernel)
theorem dX35_clear_5 : decode cX35_clear 5 = .ok (.aload_n 0, 1) := dc_42 (by decide +kernel)
theorem dX35_clear_6 : decode cX35_clear 6 = .ok (.iconst 0, 1) := dc_3 (by decide +kernel)
theorem dX35_clear_7 : decode cX35_clear 7 = .ok (.putfield 329, 3) := dc_181 (a := 1) (b := 73) (n := 329) (by decide +kernel)
theorem dX35_clear_10 : decode cX35_clear 10 = .ok (.aload_n 0, 1) := dc_42 (by decide +kernel)
theorem dX35_clear_11 : decode cX35_clear 11 = .ok (.iconst 0, 1) := dc_3 (by decide +kernel)
theorem dX35_clear_12 : decode cX35_clear 12 = .ok (.putfield 332, 3) := dc_181 (a := 1) (b := 76) (n := 332) (by decide +kernel)
theorem dX35_clear_15 : decode cX35_clear 15 = .ok (.aload_n 0, 1) := dc_42 (by decide +kernel)
theorem dX35_clear_16 : decode cX35_clear 16 = .ok (.iconst 0, 1) := dc_3 (by decide +kernel)
theorem dX35_clear_17 : decode cX35_clear 17 = .ok (.putfield 335, 3) := dc_181 (a := 1) (b := 79) (n := 335) (by decide +kernel)
theorem dX35_clear_20 : decode cX35_clear 20 = .ok (.aload_n 0, 1) := dc_42 (by decide +kernel)
theorem dX35_clear_21 : decode cX35_clear 21 = .ok (.iconst 0, 1) := dc_3 (by decide +kernel)
theorem dX35_clear_22 : decode cX35_clear 22 = .ok (.putfield 338, 3) := dc_181 (a := 1) (b := 82) (n := 338) (by decide +kernel)
theorem dX35_clear_25 : decode cX35_clear 25 = .ok (.aload_n 0, 1) := dc_42 (by decide +kernel)
theorem dX35_clear_26 : decode cX35_clear 26 = .ok (.iconst 0, 1) := dc_3 (by decide +kernel)
theorem dX35_clear_27 : decode cX35_clear 27 = .ok (.putfield 323, 3) := dc_181 (a := 1) (b := 67) (n := 323) (by decide +kernel)
theorem dX35_clear_30 : decode cX35_clear 30 = .ok (.aload_n 0, 1) := dc_42 (by decide +kernel)
theorem dX35_clear_31 : decode cX35_clear 31 = .ok (.iconst 0, 1) := dc_3 (by decide +kernel)
theorem dX35_clear_32 : decode cX35_clear 32 = .ok (.putfield 341, 3) := dc_181 (a := 1) (b := 85) (n := 341) (by decide +kernel)
theorem dX35_clear_35 : decode cX35_clear 35 = .ok (.aload_n 0, 1) := dc_42 (by decide +kernel)
theorem dX35_clear_36 : decode cX35_clear 36 = .ok (.iconst 0, 1) := dc_3 (by decide +kernel)
theorem dX35_clear_37 : decode cX35_clear 37 = .ok (.putfield 344, 3) := dc_181 (a := 1) (b := 88) (n := 344) (by decide +kernel)
theorem dX35_clear_40 : decode cX35_clear 40 = .ok (.aload_n 0, 1) := dc_42 (by decide +kernel)
theorem dX35_clear_41 : decode cX35_clear 41 = .ok (.iconst 0, 1) := dc_3 (by decide +kernel)
theorem dX35_clear_42 : decode cX35_clear 42 = .ok (.putfield 347, 3) := dc_181 (a := 1) (b := 91) (n := 347) (by decide +kernel)
theorem dX35_clear_45 : decode cX35_clear 45 = .ok (.aload_n 0, 1) := dc_42 (by decide +kernel)
theorem dX35_clear_46 : decode cX35_clear 46 = .ok (.iconst 0, 1) := dc_3 (by decide +kernel)
theorem dX35_clear_47 : decode cX35_clear 47 = .ok (.putfield 350, 3) := dc_181 (a := 1) (b := 94) (n := 350) (by decide +kernel)
theorem dX35_clear_50 : decode cX35_clear 50 = .ok (.aload_n 0, 1) := dc_42 (by decide +kernel)
theorem dX35_clear_51 : decode cX35_clear 51 = .ok (.iconst 0, 1) := dc_3 (by decide +kernel)
theorem dX35_clear_52 : decode cX35_clear 52 = .ok (.putfield 300, 3) := dc_181 (a := 1) (b := 44) (n := 300) (by decide +kernel)
theorem dX35_clear_55 : decode cX35_clear 55 = .ok (.aload_n 0, 1) := dc_42 (by decide +kernel)
theorem dX35_clear_56 : decode cX35_clear 56 = .ok (.iconst 0, 1) := dc_3 (by decide +kernel)
theorem dX35_clear_57 : decode cX35_clear 57 = .ok (.putfield 353, 3) := dc_181 (a := 1) (b := 97) (n := 353) (by decide +kernel)
theorem dX35_clear_60 : decode cX35_clear 60 = .ok (.aload_n 0, 1) := dc_42 (by decide +kernel)
theorem dX35_clear_61 : decode cX35_clear 61 = .ok (.iconst 0, 1) := dc_3 (by decide +kernel)
theorem dX35_clear_62 : decode cX35_clear 62 = .ok (.putfield 321, 3) := dc_181 (a := 1) (b := 65) (n := 321) (by decide +kernel)
theorem dX35_clear_65 : decode cX35_clear 65 = .ok (.aload_n 0, 1) := dc_42 (by decide +kernel)
theorem dX35_clear_66 : decode cX35_clear 66 = .ok (.iconst 0, 1) := dc_3 (by decide +kernel)
theorem dX35_clear_67 : decode cX35_clear 67 = .ok (.putfield 356, 3) := dc_181 (a := 1) (b := 100) (n := 356) (by decide +kernel)
theorem dX35_clear_70 : decode cX35_clear 70 = .ok (.aload_n 0, 1) := dc_42 (by decide +kernel)
theorem dX35_clear_71 : decode cX35_clear 71 = .ok (.iconst 0, 1) := dc_3 (by decide +kernel)
theorem dX35_clear_72 : decode cX35_clear 72 = .ok (.putfield 360, 3) := dc_181 (a := 1) (b := 104) (n := 360) (by decide +kernel)
theorem dX35_clear_75 : decode cX35_clear 75 = .ok (.aload_n 0, 1) := dc_42 (by decide +kernel)
theorem dX35_clear_76 : decode cX35_clear 76 = .ok (.iconst 0, 1) := dc_3 (by decide +kernel)
theorem dX35_clear_77 : decode cX35_clear 77 = .ok (.putfield 363, 3) := dc_181 (a := 1) (b := 107) (n := 363) (by decide +kernel)
theorem dX35_clear_80 : decode cX35_clear 80 = .ok (.aload_n 0, 1) := dc_42 (by decide +kernel)
theorem dX35_clear_81 : decode cX35_clear 81 = .ok (.iconst 1, 1) := dc_4 (by decide +kernel)
theorem dX35_clear_82 : decode cX35_clear 82 = .ok (.putfield 366, 3) := dc_181 (a := 1) (b := 110) (n := 366) (by decide +kernel)
theorem dX35_clear_85 : decode cX35_clear 85 = .ok (.aload_n 0, 1) := dc_42 (by decide +kernel)
theorem dX35_clear_86 : decode cX35_clear 86 = .ok (.getfield 127, 3) := dc_180 (a := 0) (b := 127) (n := 127) (by decide +kernel)
theorem dX35_clear_89 : decode cX35_clear 89 = .ok (.iconst 0, 1) := dc_3 (by decide +kernel)
theorem dX35_clear_90 : decode cX35_clear 90 = .ok (.iconst 0, 1) := dc_3 (by decide +kernel)
theorem dX35_clear_91 : decode cX35_clear 91 = .ok (.iastore, 1) := dc_79 (by decide +kernel)
theorem dX35_clear_92 : decode cX35_clear 92 = .ok (.aload_n 0, 1) := dc_42 (by decide +kernel)
theorem dX35_clear_93 : decode cX35_clear 93 = .ok (.getfield 130, 3) := dc_180 (a := 0) (b := 130) (n := 130) (by decide +kernel)
theorem dX35_clear_96 : decode cX35_clear 96 = .ok (.iconst 0, 1) := dc_3 (by decide +kernel)
theorem dX35_clear_97 : decode cX35_clear 97 = .ok (.iconst 0, 1) := dc_3 (by decide +kernel)
theorem dX35_clear_98 : decode cX35_clear 98 = .ok (.iastore, 1) := dc_79 (by decide +kernel)
theorem dX35_clear_99 : decode cX35_clear 99 = .ok (.aload_n 0, 1) := dc_42 (by decide +kernel)
theorem dX35_clear_100 : decode cX35_clear 100 = .ok (.getfield 133, 3) := dc_180 (a := 0) (b := 133) (n := 133) (by decide +kernel)
theorem dX35_clear_103 : decode cX35_clear 103 = .ok (.iconst 0, 1) := dc_3 (by decide +kernel)
theorem dX35_clear_104 : decode cX35_clear 104 = .ok (.ldc_w 369, 3) := dc_19 (a := 1) (b := 113) (n := 369) (by decide +kernel)
theorem dX35_clear_107 : decode cX35_clear 107 = .ok (.iastore, 1) := dc_79 (by decide +kernel)
theorem dX35_clear_108 : decode cX35_clear 108 = .ok (.aload_n 0, 1) := dc_42 (by decide +kernel)
theorem dX35_clear_109 : decode cX35_clear 109 = .ok (.iconst 0, 1) := dc_3 (by decide +kernel)
theorem dX35_clear_110 : decode cX35_clear 110 = .ok (.putfield 370, 3) := dc_181 (a := 1) (b := 114) (n := 370) (by decide +kernel)
theorem dX35_clear_113 : decode cX35_clear 113 = .ok (.aload_n 0, 1) := dc_42 (by decide +kernel)
theorem dX35_clear_114 : decode cX35_clear 114 = .ok (.iconst 0, 1) := dc_3 (by decide +kernel)
theorem dX35_clear_115 : decode cX35_clear 115 = .ok (.putfield 373, 3) := dc_181 (a := 1) (b := 117) (n := 373) (by decide +kernel)
theorem dX35_clear_118 : decode cX35_clear 118 = .ok (.aload_n 0, 1) := dc_42 (by decide +kernel)
theorem dX35_clear_119 : decode cX35_clear 119 = .ok (.iconst 0, 1) := dc_3 (by decide +kernel)
theorem dX35_clear_120 : decode cX35_clear 120 = .ok (.putfield 306, 3) := dc_181 (a := 1) (b := 50) (n := 306) (by decide +kernel)
theorem dX35_clear_123 : decode cX35_clear 123 = .ok (.aload_n 0, 1) := dc_42 (by decide +kernel)
theorem dX35_clear_124 : decode cX35_clear 124 = .ok (.iconst 0, 1) := dc_3 (by decide +kernel)
theorem dX35_clear_125 : decode cX35_clear 125 = .ok (.putfield 376, 3) := dc_181 (a := 1) (b := 120) (n := 376) (by decide +kernel)
theorem dX35_clear_128 : decode cX35_clear 128 = .ok (.aload_n 0, 1) := dc_42 (by decide +kernel)
theorem dX35_clear_129 : decode cX35_clear 129 = .ok (.iconst 0, 1) := dc_3 (by decide +kernel)
theorem dX35_clear_130 : decode cX35_clear 130 = .ok (.putfield 379, 3) := dc_181 (a := 1) (b := 123) (n := 379) (by decide +kernel)
theorem dX35_clear_133 : decode cX35_clear 133 = .ok (.aload_n 0, 1) := dc_42 (by decide +kernel)
theorem dX35_clear_134 : decode cX35_clear 134 = .ok (.iconst 0, 1) := dc_3 (by decide +kernel)
theorem dX35_clear_135 : decode cX35_clear 135 = .ok (.putfield 382, 3) := dc_181 (a := 1) (b := 126) (n := 382) (by decide +kernel)
theorem dX35_clear_138 : decode cX35_clear 138 = .ok (.aload_n 0, 1) := dc_42 (by decide +kernel)
theorem dX35_clear_139 : decode cX35_clear 139 = .ok (.iconst (-1), 1) := dc_2 (by decide +kernel)
theorem dX35_clear_140 : decode cX35_clear 140 = .ok (.putfield 385, 3) := dc_181 (a := 1) (b := 129) (n := 385) (by decide +kernel)
theorem dX35_clear_143 : decode cX35_clear 143 = .ok (.aload_n 0, 1) := dc_42 (by decide +kernel)
theorem dX35_clear_144 : decode cX35_clear 144 = .ok (.ldc_w 388, 3) := dc_19 (a := 1) (b := 132) (n := 388) (by decide +kernel)
theorem dX35_clear_147 : decode cX35_clear 147 = .ok (.putfield 389, 3) := dc_181 (a := 1) (b := 133) (n := 389) (by decide +kernel)
theorem dX35_clear_150 : decode cX35_clear 150 = .ok (.aload_n 0, 1) := dc_42 (by decide +kernel)
theorem dX35_clear_151 : decode cX35_clear 151 = .ok (.iconst 0, 1) := dc_3 (by decide +kernel)
theorem dX35_clear_152 : decode cX35_clear 152 = .ok (.putfield 303, 3) := dc_181 (a := 1) (b := 47) (n := 303) (by decide +kernel)
theorem dX35_clear_155 : decode cX35_clear 155 = .ok (.aload_n 0, 1) := dc_42 (by decide +kernel)
theorem dX35_clear_156 : decode cX35_clear 156 = .ok (.iconst 0, 1) := dc_3 (by decide +kernel)
theorem dX35_clear_157 : decode cX35_clear 157 = .ok (.putfield 312, 3) := dc_181 (a := 1) (b := 56) (n := 312) (by decide +kernel)
theorem dX35_clear_160 : decode cX35_clear 160 = .ok (.aload_n 0, 1) := dc_42 (by decide +kernel)
theorem dX35_clear_161 : decode cX35_clear 161 = .ok (.iconst 0, 1) := dc_3 (by decide +kernel)
theorem dX35_clear_162 : decode cX35_clear 162 = .ok (.putfield 309, 3) := dc_181 (a := 1) (b := 53) (n := 309) (by decide +kernel)
theorem dX35_clear_165 : decode cX35_clear 165 = .ok (.aload_n 0, 1) := dc_42 (by decide +kernel)
theorem dX35_clear_166 : decode cX35_clear 166 = .ok (.iconst 0, 1) := dc_3 (by decide +kernel)
theorem dX35_clear_167 : decode cX35_clear 167 = .ok (.putfield 315, 3) := dc_181 (a := 1) (b := 59) (n := 315) (by decide +kernel)
theorem dX35_clear_170 : decode cX35_clear 170 = .ok (.aload_n 0, 1) := dc_42 (by decide +kernel)
theorem dX35_clear_171 : decode cX35_clear 171 = .ok (.iconst 0, 1) := dc_3 (by decide +kernel)
theorem dX35_clear_172 : decode cX35_clear 172 = .ok (.putfield 318, 3) := dc_181 (a := 1) (b := 62) (n := 318) (by decide +kernel)
theorem dX35_clear_175 : decode cX35_clear 175 = .ok (.aload_n 0, 1) := dc_42 (by decide +kernel)
theorem dX35_clear_176 : decode cX35_clear 176 = .ok (.getfield 35, 3) := dc_180 (a := 0) (b := 35) (n := 35) (by decide +kernel)
theorem dX35_clear_179 : decode cX35_clear 179 = .ok (.iconst 0, 1) := dc_3 (by decide +kernel)
theorem dX35_clear_180 : decode cX35_clear 180 = .ok (.putfield 392, 3) := dc_181 (a := 1) (b := 136) (n := 392) (by decide +kernel)
theorem dX35_clear_183 : decode cX35_clear 183 = .ok (.iconst 0, 1) := dc_3 (by decide +kernel)
theorem dX35_clear_184 : decode cX35_clear 184 = .ok (.istore_n 1, 1) := dc_60 (by decide +kernel)
theorem dX35_clear_185 : decode cX35_clear 185 = .ok (.iload_n 1, 1) := dc_27 (by decide +kernel)
theorem dX35_clear_186 : decode cX35_clear 186 = .ok (.sipush 3812, 3) := dc_17 (a := 14) (b := 228) (v := 3812) (by decide +kernel)
theorem dX35_clear_189 : decode cX35_clear 189 = .ok (.if_icmp .ge 16, 3) := dc_162 (a := 0) (b := 16) (v := 16) (by decide +kernel)
theorem dX35_clear_192 : decode cX35_clear 192 = .ok (.aload_n 0, 1) := dc_42 (by decide +kernel)
theorem dX35_clear_193 : decode cX35_clear 193 = .ok (.getfield 65, 3) := dc_180 (a := 0) (b := 65) (n := 65) (by decide +kernel)
theorem dX35_clear_196 : decode cX35_clear 196 = .ok (.iload_n 1, 1) := dc_27 (by decide +kernel)
theorem dX35_clear_197 : decode cX35_clear 197 = .ok (.iconst 0, 1) := dc_3 (by decide +kernel)
theorem dX35_clear_198 : decode cX35_clear 198 = .ok (.iastore, 1) := dc_79 (by decide +kernel)
theorem dX35_clear_199 : decode cX35_clear 199 = .ok (.iinc 1 1, 3) := dc_132 (a := 1) (b := 1) (v := 1) (by decide +kernel)
theorem dX35_clear_202 : decode cX35_clear 202 = .ok (.goto (-17), 3) := dc_167 (a := 255) (b := 239) (v := -17) (by decide +kernel)
theorem dX35_clear_205 : decode cX35_clear 205 = .ok (.iconst 0, 1) := dc_3 (by decide +kernel)
theorem dX35_clear_206 : decode cX35_clear 206 = .ok (.istore_n 1, 1) := dc_60 (by decide +kernel)
theorem dX35_clear_207 : decode cX35_clear 207 = .ok (.iload_n 1, 1) := dc_27 (by decide +kernel)
theorem dX35_clear_208 : decode cX35_clear 208 = .ok (.sipush 256, 3) := dc_17 (a := 1) (b := 0) (v := 256) (by decide +kernel)
theorem dX35_clear_211 : decode cX35_clear 211 = .ok (.if_icmp .ge 71, 3) := dc_162 (a := 0) (b := 71) (v := 71) (by decide +kernel)
theorem dX35_clear_214 : decode cX35_clear 214 = .ok (.aload_n 0, 1) := dc_42 (by decide +kernel)
theorem dX35_clear_215 : decode cX35_clear 215 = .ok (.getfield 65, 3) := dc_180 (a := 0) (b := 65) (n := 65) (by decide +kernel)
theorem dX35_clear_218 : decode cX35_clear 218 = .ok (.sipush 3299, 3) := dc_17 (a := 12) (b := 227) (v := 3299) (by decide +kernel)
theorem dX35_clear_221 : decode cX35_clear 221 = .ok (.iload_n 1, 1) := dc_27 (by decide +kernel)
theorem dX35_clear_222 : decode cX35_clear 222 = .ok (.iadd, 1) := dc_96 (by decide +kernel)
theorem dX35_clear_223 : decode cX35_clear 223 = .ok (.iconst (-1), 1) := dc_2 (by decide +kernel)
theorem dX35_clear_224 : decode cX35_clear 224 = .ok (.iastore, 1) := dc_79 (by decide +kernel)
theorem dX35_clear_225 : decode cX35_clear 225 = .ok (.iload_n 1, 1) := dc_27 (by decide +kernel)
theorem dX35_clear_226 : decode cX35_clear 226 = .ok (.bipush 97, 2) := dc_16 (a := 97) (v := 97) (by decide +kernel)
theorem dX35_clear_228 : decode cX35_clear 228 = .ok (.if_icmp .lt 9, 3) := dc_161 (a := 0) (b := 9) (v := 9) (by decide +kernel)
theorem dX35_clear_231 : decode cX35_clear 231 = .ok (.iload_n 1, 1) := dc_27 (by decide +kernel)
theorem dX35_clear_232 : decode cX35_clear 232 = .ok (.bipush 122, 2) := dc_16 (a := 122) (v := 122) (by decide +kernel)
theorem dX35_clear_234 : decode cX35_clear 234 = .ok (.if_icmp .le 15, 3) := dc_164 (a := 0) (b := 15) (v := 15) (by decide +kernel)
theorem dX35_clear_237 : decode cX35_clear 237 = .ok (.iload_n 1, 1) := dc_27 (by decide +kernel)
theorem dX35_clear_238 : decode cX35_clear 238 = .ok (.bipush 65, 2) := dc_16 (a := 65) (v := 65) (by decide +kernel)
theorem dX35_clear_240 : decode cX35_clear 240 = .ok (.if_icmp .lt 13, 3) := dc_161 (a := 0) (b := 13) (v := 13) (by decide +kernel)
theorem dX35_clear_243 : decode cX35_clear 243 = .ok (.iload_n 1, 1) := dc_27 (by decide +kernel)
theorem dX35_clear_244 : decode cX35_clear 244 = .ok (.bipush 90, 2) := dc_16 (a := 90) (v := 90) (by decide +kernel)
theorem dX35_clear_246 : decode cX35_clear 246 = .ok (.if_icmp .gt 7, 3) := dc_163 (a := 0) (b := 7) (v := 7) (by decide +kernel)
theorem dX35_clear_249 : decode cX35_clear 249 = .ok (.iconst 1, 1) := dc_4 (by decide +kernel)
theorem dX35_clear_250 : decode cX35_clear 250 = .ok (.goto 4, 3) := dc_167 (a := 0) (b := 4) (v := 4) (by decide +kernel)
theorem dX35_clear_253 : decode cX35_clear 253 = .ok (.iconst 0, 1) := dc_3 (by decide +kernel)
theorem dX35_clear_254 : decode cX35_clear 254 = .ok (.istore_n 2, 1) := dc_61 (by decide +kernel)
theorem dX35_clear_255 : decode cX35_clear 255 = .ok (.aload_n 0, 1) := dc_42 (by decide +kernel)
theorem dX35_clear_256 : decode cX35_clear 256 = .ok (.getfield 65, 3) := dc_180 (a := 0) (b := 65) (n := 65) (by decide +kernel)
theorem dX35_clear_259 : decode cX35_clear 259 = .ok (.sipush 1460, 3) := dc_17 (a := 5) (b := 180) (v := 1460) (by decide +kernel)
theorem dX35_clear_262 : decode cX35_clear 262 = .ok (.iload_n 1, 1) := dc_27 (by decide +kernel)
theorem dX35_clear_263 : decode cX35_clear 263 = .ok (.iadd, 1) := dc_96 (by decide +kernel)
theorem dX35_clear_264 : decode cX35_clear 264 = .ok (.iload_n 2, 1) := dc_28 (by decide +kernel)
theorem dX35_clear_265 : decode cX35_clear 265 = .ok (.ifCond .eq 8, 3) := dc_153 (a := 0) (b := 8) (v := 8) (by decide +kernel)
theorem dX35_clear_268 : decode cX35_clear 268 = .ok (.bipush 11, 2) := dc_16 (a := 11) (v := 11) (by decide +kernel)
theorem dX35_clear_270 : decode cX35_clear 270 = .ok (.goto 5, 3) := dc_167 (a := 0) (b := 5) (v := 5) (by decide +kernel)
theorem dX35_clear_273 : decode cX35_clear 273 = .ok (.bipush 12, 2) := dc_16 (a := 12) (v := 12) (by decide +kernel)
theorem dX35_clear_275 : decode cX35_clear 275 = .ok (.iastore, 1) := dc_79 (by decide +kernel)
theorem dX35_clear_276 : decode cX35_clear 276 = .ok (.iinc 1 1, 3) := dc_132 (a := 1) (b := 1) (v := 1) (by decide +kernel)
theorem dX35_clear_279 : decode cX35_clear 279 = .ok (.goto (-72), 3) := dc_167 (a := 255) (b := 184) (v := -72) (by decide +kernel)
theorem dX35_clear_282 : decode cX35_clear 282 = .ok (.aload_n 0, 1) := dc_42 (by decide +kernel)
theorem dX35_clear_283 : decode cX35_clear 283 = .ok (.getfield 65, 3) := dc_180 (a := 0) (b := 65) (n := 65) (by decide +kernel)
theorem dX35_clear_286 : decode cX35_clear 286 = .ok (.sipush 3811, 3) := dc_17 (a := 14) (b := 227) (v := 3811) (by decide +kernel)
theorem dX35_clear_289 : decode cX35_clear 289 = .ok (.iconst (-1), 1) := dc_2 (by decide +kernel)
theorem dX35_clear_290 : decode cX35_clear 290 = .ok (.iastore, 1) := dc_79 (by decide +kernel)
theorem dX35_clear_291 : decode cX35_clear 291 = .ok (.aload_n 0, 1) := dc_42 (by decide +kernel)
theorem dX35_clear_292 : decode cX35_clear 292 = .ok (.sipush 1552, 3) := dc_17 (a := 6) (b := 16) (v := 1552) (by decide +kernel)
theorem dX35_clear_295 : decode cX35_clear 295 = .ok (.iconst 0, 1) := dc_3 (by decide +kernel)
theorem dX35_clear_296 : decode cX35_clear 296 = .ok (.invokevirtual 395, 3) := dc_182 (a := 1) (b := 139) (n := 395) (by decide +kernel)
theorem dX35_clear_299 : decode cX35_clear 299 = .ok (.aload_n 0, 1) := dc_42 (by decide +kernel)
theorem dX35_clear_300 : decode cX35_clear 300 = .ok (.sipush 1583, 3) := dc_17 (a := 6) (b := 47) (v := 1583) (by decide +kernel)
theorem dX35_clear_303 : decode cX35_clear 303 = .ok (.iconst 1, 1) := dc_4 (by decide +kernel)
theorem dX35_clear_304 : decode cX35_clear 304 = .ok (.invokevirtual 395, 3) := dc_182 (a := 1) (b := 139) (n := 395) (by decide +kernel)
theorem dX35_clear_307 : decode cX35_clear 307 = .ok (.aload_n 0, 1) := dc_42 (by decide +kernel)
theorem dX35_clear_308 : decode cX35_clear 308 = .ok (.sipush 1585, 3) := dc_17 (a := 6) (b := 49) (v := 1585) (by decide +kernel)
theorem dX35_clear_311 : decode cX35_clear 311 = .ok (.iconst 2, 1) := dc_5 (by decide +kernel)
theorem dX35_clear_312 : decode cX35_clear 312 = .ok (.invokevirtual 395, 3) := dc_182 (a := 1) (b := 139) (n := 395) (by decide +kernel)
theorem dX35_clear_315 : decode cX35_clear 315 = .ok (.aload_n 0, 1) := dc_42 (by decide +kernel)
theorem dX35_clear_316 : decode cX35_clear 316 = .ok (.sipush 1496, 3) := dc_17 (a := 5) (b := 216) (v := 1496) (by decide +kernel)
theorem dX35_clear_319 : decode cX35_clear 319 = .ok (.iconst 3, 1) := dc_6 (by decide +kernel)
theorem dX35_clear_320 : decode cX35_clear 320 = .ok (.invokevirtual 395, 3) := dc_182 (a := 1) (b := 139) (n := 395) (by decide +kernel)
theorem dX35_clear_323 : decode cX35_clear 323 = .ok (.aload_n 0, 1) := dc_42 (by decide +kernel)
theorem dX35_clear_324 : decode cX35_clear 324 = .ok (.sipush 1498, 3) := dc_17 (a := 5) (b := 218) (v := 1498) (by decide +kernel)
theorem dX35_clear_327 : decode cX35_clear 327 = .ok (.iconst 4, 1) := dc_7 (by decide +kernel)
theorem dX35_clear_328 : decode cX35_clear 328 = .ok (.invokevirtual 395, 3) := dc_182 (a := 1) (b := 139) (n := 395) (by decide +kernel)
theorem dX35_clear_331 : decode cX35_clear 331 = .ok (.aload_n 0, 1) := dc_42 (by decide +kernel)
theorem dX35_clear_332 : decode cX35_clear 332 = .ok (.sipush 1473, 3) := dc_17 (a := 5) (b := 193) (v := 1473) (by decide +kernel)
theorem dX35_clear_335 : decode cX35_clear 335 = .ok (.iconst 5, 1) := dc_8 (by decide +kernel)
theorem dX35_clear_336 : decode cX35_clear 336 = .ok (.invokevirtual 395, 3) := dc_182 (a := 1) (b := 139) (n := 395) (by decide +kernel)
theorem dX35_clear_339 : decode cX35_clear 339 = .ok (.aload_n 0, 1) := dc_42 (by decide +kernel)
theorem dX35_clear_340 : decode cX35_clear 340 = .ok (.sipush 1495, 3) := dc_17 (a := 5) (b := 215) (v := 1495) (by decide +kernel)
theorem dX35_clear_343 : decode cX35_clear 343 = .ok (.bipush 6, 2) := dc_16 (a := 6) (v := 6) (by decide +kernel)
theorem dX35_clear_345 : decode cX35_clear 345 = .ok (.invokevirtual 395, 3) := dc_182 (a := 1) (b := 139) (n := 395) (by decide +kernel)
theorem dX35_clear_348 : decode cX35_clear 348 = .ok (.aload_n 0, 1) := dc_42 (by decide +kernel)
theorem dX35_clear_349 : decode cX35_clear 349 = .ok (.sipush 1554, 3) := dc_17 (a := 6) (b := 18) (v := 1554) (by decide +kernel)
theorem dX35_clear_352 : decode cX35_clear 352 = .ok (.bipush 7, 2) := dc_16 (a := 7) (v := 7) (by decide +kernel)
theorem dX35_clear_354 : decode cX35_clear 354 = .ok (.invokevirtual 395, 3) := dc_182 (a := 1) (b := 139) (n := 395) (by decide +kernel)
theorem dX35_clear_357 : decode cX35_clear 357 = .ok (.aload_n 0, 1) := dc_42 (by decide +kernel)
theorem dX35_clear_358 : decode cX35_clear 358 = .ok (.sipush 1555, 3) := dc_17 (a := 6) (b := 19) (v := 1555) (by decide +kernel)
theorem dX35_clear_361 : decode cX35_clear 361 = .ok (.bipush 8, 2) := dc_16 (a := 8) (v := 8) (by decide +kernel)
theorem dX35_clear_363 : decode cX35_clear 363 = .ok (.invokevirtual 395, 3) := dc_182 (a := 1) (b := 139) (n := 395) (by decide +kernel)
theorem dX35_clear_366 : decode cX35_clear 366 = .ok (.aload_n 0, 1) := dc_42 (by decide +kernel)
theorem dX35_clear_367 : decode cX35_clear 367 = .ok (.sipush 1460, 3) := dc_17 (a := 5) (b := 180) (v := 1460) (by decide +kernel)
theorem dX35_clear_370 : decode cX35_clear 370 = .ok (.bipush 9, 2) := dc_16 (a := 9) (v := 9) (by decide +kernel)
theorem dX35_clear_372 : decode cX35_clear 372 = .ok (.invokevirtual 395, 3) := dc_182 (a := 1) (b := 139) (n := 395) (by decide +kernel)
theorem dX35_clear_375 : decode cX35_clear 375 = .ok (.aload_n 0, 1) := dc_42 (by decide +kernel)
theorem dX35_clear_376 : decode cX35_clear 376 = .ok (.sipush 1492, 3) := dc_17 (a := 5) (b := 212) (v := 1492) (by decide +kernel)
theorem dX35_clear_379 : decode cX35_clear 379 = .ok (.bipush 10, 2) := dc_16 (a := 10) (v := 10) (by decide +kernel)
theorem dX35_clear_381 : decode cX35_clear 381 = .ok (.invokevirtual 395, 3) := dc_182 (a := 1) (b := 139) (n := 395) (by decide +kernel)
theorem dX35_clear_384 : decode cX35_clear 384 = .ok (.aload_n 0, 1) := dc_42 (by decide +kernel)
theorem dX35_clear_385 : decode cX35_clear 385 = .ok (.sipush 1469, 3) := dc_17 (a := 5) (b := 189) (v := 1469) (by decide +kernel)
theorem dX35_clear_388 : decode cX35_clear 388 = .ok (.bipush 10, 2) := dc_16 (a := 10) (v := 10) (by decide +kernel)
theorem dX35_clear_390 : decode cX35_clear 390 = .ok (.invokevirtual 395, 3) := dc_182 (a := 1) (b := 139) (n := 395) (by decide +kernel)
theorem dX35_clear_393 : decode cX35_clear 393 = .ok (.aload_n 0, 1) := dc_42 (by decide +kernel)
theorem dX35_clear_394 : decode cX35_clear 394 = .ok (.sipush 1586, 3) := dc_17 (a := 6) (b := 50) (v := 1586) (by decide +kernel)
theorem dX35_clear_397 : decode cX35_clear 397 = .ok (.bipush 13, 2) := dc_16 (a := 13) (v := 13) (by decide +kernel)
theorem dX35_clear_399 : decode cX35_clear 399 = .ok (.invokevirtual 395, 3) := dc_182 (a := 1) (b := 139) (n := 395) (by decide +kernel)
theorem dX35_clear_402 : decode cX35_clear 402 = .ok (.aload_n 0, 1) := dc_42 (by decide +kernel)
theorem dX35_clear_403 : decode cX35_clear 403 = .ok (.sipush 1497, 3) := dc_17 (a := 5) (b := 217) (v := 1497) (by decide +kernel)
theorem dX35_clear_406 : decode cX35_clear 406 = .ok (.bipush 14, 2) := dc_16 (a := 14) (v := 14) (by decide +kernel)
theorem dX35_clear_408 : decode cX35_clear 408 = .ok (.invokevirtual 395, 3) := dc_182 (a := 1) (b := 139) (n := 395) (by decide +kernel)
theorem dX35_clear_411 : decode cX35_clear 411 = .ok (.aload_n 0, 1) := dc_42 (by decide +kernel)
theorem dX35_clear_412 : decode cX35_clear 412 = .ok (.sipush 1587, 3) := dc_17 (a := 6) (b := 51) (v := 1587) (by decide +kernel)
theorem dX35_clear_415 : decode cX35_clear 415 = .ok (.bipush 15, 2) := dc_16 (a := 15) (v := 15) (by decide +kernel)
theorem dX35_clear_417 : decode cX35_clear 417 = .ok (.invokevirtual 395, 3) := dc_182 (a := 1) (b := 139) (n := 395) (by decide +kernel)
theorem dX35_clear_420 : decode cX35_clear 420 = .ok (.aload_n 0, 1) := dc_42 (by decide +kernel)
theorem dX35_clear_421 : decode cX35_clear 421 = .ok (.sipush 1972, 3) := dc_17 (a := 7) (b := 180) (v := 1972) (by decide +kernel)
theorem dX35_clear_424 : decode cX35_clear 424 = .ok (.bipush 100, 2) := dc_16 (a := 100) (v := 100) (by decide +kernel)
theorem dX35_clear_426 : decode cX35_clear 426 = .ok (.invokevirtual 395, 3) := dc_182 (a := 1) (b := 139) (n := 395) (by decide +kernel)
theorem dX35_clear_429 : decode cX35_clear 429 = .ok (.aload_n 0, 1) := dc_42 (by decide +kernel)
theorem dX35_clear_430 : decode cX35_clear 430 = .ok (.sipush 1973, 3) := dc_17 (a := 7) (b := 181) (v := 1973) (by decide +kernel)
theorem dX35_clear_433 : decode cX35_clear 433 = .ok (.sipush 200, 3) := dc_17 (a := 0) (b := 200) (v := 200) (by decide +kernel)
theorem dX35_clear_436 : decode cX35_clear 436 = .ok (.invokevirtual 395, 3) := dc_182 (a := 1) (b := 139) (n := 395) (by decide +kernel)
theorem dX35_clear_439 : decode cX35_clear 439 = .ok (.aload_n 0, 1) := dc_42 (by decide +kernel)
theorem dX35_clear_440 : decode cX35_clear 440 = .ok (.sipush 1974, 3) := dc_17 (a := 7) (b := 182) (v := 1974) (by decide +kernel)
theorem dX35_clear_443 : decode cX35_clear 443 = .ok (.bipush 10, 2) := dc_16 (a := 10) (v := 10) (by decide +kernel)
theorem dX35_clear_445 : decode cX35_clear 445 = .ok (.invokevirtual 395, 3) := dc_182 (a := 1) (b := 139) (n := 395) (by decide +kernel)
theorem dX35_clear_448 : decode cX35_clear 448 = .ok (.aload_n 0, 1) := dc_42 (by decide +kernel)
theorem dX35_clear_449 : decode cX35_clear 449 = .ok (.sipush 1975, 3) := dc_17 (a := 7) (b := 183) (v := 1975) (by decide +kernel)
theorem dX35_clear_452 : decode cX35_clear 452 = .ok (.bipush 50, 2) := dc_16 (a := 50) (v := 50) (by decide +kernel)
theorem dX35_clear_454 : decode cX35_clear 454 = .ok (.invokevirtual 395, 3) := dc_182 (a := 1) (b := 139) (n := 395) (by decide +kernel)
theorem dX35_clear_457 : decode cX35_clear 457 = .ok (.aload_n 0, 1) := dc_42 (by decide +kernel)
theorem dX35_clear_458 : decode cX35_clear 458 = .ok (.sipush 1976, 3) := dc_17 (a := 7) (b := 184) (v := 1976) (by decide +kernel)
theorem dX35_clear_461 : decode cX35_clear 461 = .ok (.bipush 50, 2) := dc_16 (a := 50) (v := 50) (by decide +kernel)
theorem dX35_clear_463 : decode cX35_clear 463 = .ok (.invokevirtual 395, 3) := dc_182 (a := 1) (b := 139) (n := 395) (by decide +kernel)
theorem dX35_clear_466 : decode cX35_clear 466 = .ok (.aload_n 0, 1) := dc_42 (by decide +kernel)
theorem dX35_clear_467 : decode cX35_clear 467 = .ok (.sipush 1977, 3) := dc_17 (a := 7) (b := 185) (v := 1977) (by decide +kernel)
theorem dX35_clear_470 : decode cX35_clear 470 = .ok (.sipush 150, 3) := dc_17 (a := 0) (b := 150) (v := 150) (by decide +kernel)
theorem dX35_clear_473 : decode cX35_clear 473 = .ok (.invokevirtual 395, 3) := dc_182 (a := 1) (b := 139) (n := 395) (by decide +kernel)
theorem dX35_clear_476 : decode cX35_clear 476 = .ok (.aload_n 0, 1) := dc_42 (by decide +kernel)
theorem dX35_clear_477 : decode cX35_clear 477 = .ok (.sipush 1978, 3) := dc_17 (a := 7) (b := 186) (v := 1978) (by decide +kernel)
theorem dX35_clear_480 : decode cX35_clear 480 = .ok (.sipush 150, 3) := dc_17 (a := 0) (b := 150) (v := 150) (by decide +kernel)
theorem dX35_clear_483 : decode cX35_clear 483 = .ok (.invokevirtual 395, 3) := dc_182 (a := 1) (b := 139) (n := 395) (by decide +kernel)
theorem dX35_clear_486 : decode cX35_clear 486 = .ok (.aload_n 0, 1) := dc_42 (by decide +kernel)
theorem dX35_clear_487 : decode cX35_clear 487 = .ok (.sipush 1979, 3) := dc_17 (a := 7) (b := 187) (v := 1979) (by decide +kernel)
theorem dX35_clear_490 : decode cX35_clear 490 = .ok (.bipush 100, 2) := dc_16 (a := 100) (v := 100) (by decide +kernel)
theorem dX35_clear_492 : decode cX35_clear 492 = .ok (.invokevirtual 395, 3) := dc_182 (a := 1) (b := 139) (n := 395) (by decide +kernel)
theorem dX35_clear_495 : decode cX35_clear 495 = .ok (.aload_n 0, 1) := dc_42 (by decide +kernel)
theorem dX35_clear_496 : decode cX35_clear 496 = .ok (.sipush 1981, 3) := dc_17 (a := 7) (b := 189) (v := 1981) (by decide +kernel)
theorem dX35_clear_499 : decode cX35_clear 499 = .ok (.sipush 10000, 3) := dc_17 (a := 39) (b := 16) (v := 10000) (by decide +kernel)
theorem dX35_clear_502 : decode cX35_clear 502 = .ok (.invokevirtual 395, 3) := dc_182 (a := 1) (b := 139) (n := 395) (by decide +kernel)
theorem dX35_clear_505 : decode cX35_clear 505 = .ok (.aload_n 0, 1) := dc_42 (by decide +kernel)
theorem dX35_clear_506 : decode cX35_clear 506 = .ok (.sipush 1982, 3) := dc_17 (a := 7) (b := 190) (v := 1982) (by decide +kernel)
theorem dX35_clear_509 : decode cX35_clear 509 = .ok (.sipush 10000, 3) := dc_17 (a := 39) (b := 16) (v := 10000) (by decide +kernel)
theorem dX35_clear_512 : decode cX35_clear 512 = .ok (.invokevirtual 395, 3) := dc_182 (a := 1) (b := 139) (n := 395) (by decide +kernel)
theorem dX35_clear_515 : decode cX35_clear 515 = .ok (.aload_n 0, 1) := dc_42 (by decide +kernel)
theorem dX35_clear_516 : decode cX35_clear 516 = .ok (.sipush 1983, 3) := dc_17 (a := 7) (b := 191) (v := 1983) (by decide +kernel)
theorem dX35_clear_519 : decode cX35_clear 519 = .ok (.sipush 5000, 3) := dc_17 (a := 19) (b := 136) (v := 5000) (by decide +kernel)
theorem dX35_clear_522 : decode cX35_clear 522 = .ok (.invokevirtual 395, 3) := dc_182 (a := 1) (b := 139) (n := 395) (by decide +kernel)
theorem dX35_clear_525 : decode cX35_clear 525 = .ok (.aload_n 0, 1) := dc_42 (by decide +kernel)
theorem dX35_clear_526 : decode cX35_clear 526 = .ok (.sipush 2241, 3) := dc_17 (a := 8) (b := 193) (v := 2241) (by decide +kernel)
theorem dX35_clear_529 : decode cX35_clear 529 = .ok (.ldc_w 399, 3) := dc_19 (a := 1) (b := 143) (n := 399) (by decide +kernel)
theorem dX35_clear_532 : decode cX35_clear 532 = .ok (.invokevirtual 395, 3) := dc_182 (a := 1) (b := 139) (n := 395) (by decide +kernel)
theorem dX35_clear_535 : decode cX35_clear 535 = .ok (.aload_n 0, 1) := dc_42 (by decide +kernel)
theorem dX35_clear_536 : decode cX35_clear 536 = .ok (.sipush 2242, 3) := dc_17 (a := 8) (b := 194) (v := 2242) (by decide +kernel)
theorem dX35_clear_539 : decode cX35_clear 539 = .ok (.ldc_w 400, 3) := dc_19 (a := 1) (b := 144) (n := 400) (by decide +kernel)
theorem dX35_clear_542 : decode cX35_clear 542 = .ok (.invokevirtual 395, 3) := dc_182 (a := 1) (b := 139) (n := 395) (by decide +kernel)
theorem dX35_clear_545 : decode cX35_clear 545 = .ok (.aload_n 0, 1) := dc_42 (by decide +kernel)
theorem dX35_clear_546 : decode cX35_clear 546 = .ok (.sipush 2243, 3) := dc_17 (a := 8) (b := 195) (v := 2243) (by decide +kernel)
theorem dX35_clear_549 : decode cX35_clear 549 = .ok (.ldc_w 401, 3) := dc_19 (a := 1) (b := 145) (n := 401) (by decide +kernel)
theorem dX35_clear_552 : decode cX35_clear 552 = .ok (.invokevirtual 395, 3) := dc_182 (a := 1) (b := 139) (n := 395) (by decide +kernel)
theorem dX35_clear_555 : decode cX35_clear 555 = .ok (.aload_n 0, 1) := dc_42 (by decide +kernel)
theorem dX35_clear_556 : decode cX35_clear 556 = .ok (.sipush 2245, 3) := dc_17 (a := 8) (b := 197) (v := 2245) (by decide +kernel)
theorem dX35_clear_559 : decode cX35_clear 559 = .ok (.ldc_w 402, 3) := dc_19 (a := 1) (b := 146) (n := 402) (by decide +kernel)
theorem dX35_clear_562 : decode cX35_clear 562 = .ok (.invokevirtual 395, 3) := dc_182 (a := 1) (b := 139) (n := 395) (by decide +kernel)
theorem dX35_clear_565 : decode cX35_clear 565 = .ok (.aload_n 0, 1) := dc_42 (by decide +kernel)
theorem dX35_clear_566 : decode cX35_clear 566 = .ok (.sipush 3272, 3) := dc_17 (a := 12) (b := 200) (v := 3272) (by decide +kernel)
theorem dX35_clear_569 : decode cX35_clear 569 = .ok (.ldc 7, 2) := dc_18 (a := 7) (by decide +kernel)
theorem dX35_clear_571 : decode cX35_clear 571 = .ok (.invokevirtual 395, 3) := dc_182 (a := 1) (b := 139) (n := 395) (by decide +kernel)
theorem dX35_clear_574 : decode cX35_clear 574 = .ok (.aload_n 0, 1) := dc_42 (by decide +kernel)
theorem dX35_clear_575 : decode cX35_clear 575 = .ok (.sipush 3275, 3) := dc_17 (a := 12) (b := 203) (v := 3275) (by decide +kernel)
theorem dX35_clear_578 : decode cX35_clear 578 = .ok (.ldc_w 403, 3) := dc_19 (a := 1) (b := 147) (n := 403) (by decide +kernel)
theorem dX35_clear_581 : decode cX35_clear 581 = .ok (.invokevirtual 395, 3) := dc_182 (a := 1) (b := 139) (n := 395) (by decide +kernel)
theorem dX35_clear_584 : decode cX35_clear 584 = .ok (.aload_n 0, 1) := dc_42 (by decide +kernel)
theorem dX35_clear_585 : decode cX35_clear 585 = .ok (.sipush 3279, 3) := dc_17 (a := 12) (b := 207) (v := 3279) (by decide +kernel)
theorem dX35_clear_588 : decode cX35_clear 588 = .ok (.ldc 7, 2) := dc_18 (a := 7) (by decide +kernel)
theorem dX35_clear_590 : decode cX35_clear 590 = .ok (.invokevirtual 395, 3) := dc_182 (a := 1) (b := 139) (n := 395) (by decide +kernel)
theorem dX35_clear_593 : decode cX35_clear 593 = .ok (.aload_n 0, 1) := dc_42 (by decide +kernel)
theorem dX35_clear_594 : decode cX35_clear 594 = .ok (.sipush 3283, 3) := dc_17 (a := 12) (b := 211) (v := 3283) (by decide +kernel)
theorem dX35_clear_597 : decode cX35_clear 597 = .ok (.ldc_w 404, 3) := dc_19 (a := 1) (b := 148) (n := 404) (by decide +kernel)
theorem dX35_clear_600 : decode cX35_clear 600 = .ok (.invokevirtual 395, 3) := dc_182 (a := 1) (b := 139) (n := 395) (by decide +kernel)
theorem dX35_clear_603 : decode cX35_clear 603 = .ok (.aload_n 0, 1) := dc_42 (by decide +kernel)
theorem dX35_clear_604 : decode cX35_clear 604 = .ok (.sipush 3296, 3) := dc_17 (a := 12) (b := 224) (v := 3296) (by decide +kernel)
theorem dX35_clear_607 : decode cX35_clear 607 = .ok (.ldc 7, 2) := dc_18 (a := 7) (by decide +kernel)
theorem dX35_clear_609 : decode cX35_clear 609 = .ok (.invokevirtual 395, 3) := dc_182 (a := 1) (b := 139) (n := 395) (by decide +kernel)
theorem dX35_clear_612 : decode cX35_clear 612 = .ok (.aload_n 0, 1) := dc_42 (by decide +kernel)
theorem dX35_clear_613 : decode cX35_clear 613 = .ok (.sipush 3297, 3) := dc_17 (a := 12) (b := 225) (v := 3297) (by decide +kernel)
theorem dX35_clear_616 : decode cX35_clear 616 = .ok (.iconst 1, 1) := dc_4 (by decide +kernel)
theorem dX35_clear_617 : decode cX35_clear 617 = .ok (.invokevirtual 395, 3) := dc_182 (a := 1) (b := 139) (n := 395) (by decide +kernel)
theorem dX35_clear_620 : decode cX35_clear 620 = .ok (.aload_n 0, 1) := dc_42 (by decide +kernel)
theorem dX35_clear_621 : decode cX35_clear 621 = .ok (.ldc_w 405, 3) := dc_19 (a := 1) (b := 149) (n := 405) (by decide +kernel)
theorem dX35_clear_624 : decode cX35_clear 624 = .ok (.invokevirtual 407, 3) := dc_182 (a := 1) (b := 151) (n := 407) (by decide +kernel)
theorem dX35_clear_627 : decode cX35_clear 627 = .ok (.aload_n 0, 1) := dc_42 (by decide +kernel)
theorem dX35_clear_628 : decode cX35_clear 628 = .ok (.ldc_w 411, 3) := dc_19 (a := 1) (b := 155) (n := 411) (by decide +kernel)
theorem dX35_clear_631 : decode cX35_clear 631 = .ok (.invokevirtual 407, 3) := dc_182 (a := 1) (b := 151) (n := 407) (by decide +kernel)
theorem dX35_clear_634 : decode cX35_clear 634 = .ok (.return_, 1) := dc_177 (by decide +kernel)
theorem GX35_127 {w : eW} {d : Nat} {Y : eY} {pc : Nat} {ls : eL} {st : List Value} {h : eH} {Q : eO → eH → Prop} {a : Nat} {x : Nat} (hf : g_A 34 h a 52 = some x) (hd : decode Y.2.1 pc = .ok (.getfield 127, 3)) (hY : Y.1.cls = RX35) (kk : wp w d Y (pc + 3) ls (.ref x :: st) h Q) : wp w d Y pc ls (.ref a :: st) h Q := x_gA (ci := 34) (k := 52) hf hd rfl (by decide) (by rw [hY]; exact q4554) kk
theorem GX35_130 {w : eW} {d : Nat} {Y : eY} {pc : Nat} {ls : eL} {st : List Value} {h : eH} {Q : eO → eH → Prop} {a : Nat} {x : Nat} (hf : g_A 34 h a 53 = some x) (hd : decode Y.2.1 pc = .ok (.getfield 130, 3)) (hY : Y.1.cls = RX35) (kk : wp w d Y (pc + 3) ls (.ref x :: st) h Q) : wp w d Y pc ls (.ref a :: st) h Q := x_gA (ci := 34) (k := 53) hf hd rfl (by decide) (by rw [hY]; exact q4555) kk
theorem GX35_133 {w : eW} {d : Nat} {Y : eY} {pc : Nat} {ls : eL} {st : List Value} {h : eH} {Q : eO → eH → Prop} {a : Nat} {x : Nat} (hf : g_A 34 h a 54 = some x) (hd : decode Y.2.1 pc = .ok (.getfield 133, 3)) (hY : Y.1.cls = RX35) (kk : wp w d Y (pc + 3) ls (.ref x :: st) h Q) : wp w d Y pc ls (.ref a :: st) h Q := x_gA (ci := 34) (k := 54) hf hd rfl (by decide) (by rw [hY]; exact q4556) kk
theorem GX35_35 {w : eW} {d : Nat} {Y : eY} {pc : Nat} {ls : eL} {st : List Value} {h : eH} {Q : eO → eH → Prop} {a : Nat} {x : Nat} (hf : g_A 34 h a 6 = some x) (hd : decode Y.2.1 pc = .ok (.getfield 35, 3)) (hY : Y.1.cls = RX35) (kk : wp w d Y (pc + 3) ls (.ref x :: st) h Q) : wp w d Y pc ls (.ref a :: st) h Q := x_gA (ci := 34) (k := 6) hf hd rfl (by decide) (by rw [hY]; exact q4508) kk
theorem SX35_300 {w : eW} {d : Nat} {Y : eY} {pc : Nat} {ls : eL} {st : List Value} {h : eH} {Q : eO → eH → Prop} {a : Nat} {h' : eH} {x : Int32} (hf : p_V 34 h a 44 (.int x) = some h') (hd : decode Y.2.1 pc = .ok (.putfield 300, 3)) (hY : Y.1.cls = RX35) (kk : wp w d Y (pc + 3) ls st h' Q) : wp w d Y pc ls (.int x :: .ref a :: st) h Q := x_pI (ci := 34) (k := 44) hf hd rfl (by decide) (by rw [hY]; exact q4546) rfl rfl kk
theorem SX35_303 {w : eW} {d : Nat} {Y : eY} {pc : Nat} {ls : eL} {st : List Value} {h : eH} {Q : eO → eH → Prop} {a : Nat} {h' : eH} {x : Int32} (hf : p_V 34 h a 101 (.int x) = some h') (hd : decode Y.2.1 pc = .ok (.putfield 303, 3)) (hY : Y.1.cls = RX35) (kk : wp w d Y (pc + 3) ls st h' Q) : wp w d Y pc ls (.int x :: .ref a :: st) h Q := x_pI (ci := 34) (k := 101) hf hd rfl (by decide) (by rw [hY]; exact q4602) rfl rfl kk
theorem SX35_306 {w : eW} {d : Nat} {Y : eY} {pc : Nat} {ls : eL} {st : List Value} {h : eH} {Q : eO → eH → Prop} {a : Nat} {h' : eH} {x : Int32} (hf : p_V 34 h a 65 (.int x) = some h') (hd : decode Y.2.1 pc = .ok (.putfield 306, 3)) (hY : Y.1.cls = RX35) (kk : wp w d Y (pc + 3) ls st h' Q) : wp w d Y pc ls (.int x :: .ref a :: st) h Q := x_pI (ci := 34) (k := 65) hf hd rfl (by decide) (by rw [hY]; exact q4566) rfl rfl kk
theorem SX35_309 {w : eW} {d : Nat} {Y : eY} {pc : Nat} {ls : eL} {st : List Value} {h : eH} {Q : eO → eH → Prop} {a : Nat} {h' : eH} {x : Int32} (hf : p_V 34 h a 111 (.int x) = some h') (hd : decode Y.2.1 pc = .ok (.putfield 309, 3)) (hY : Y.1.cls = RX35) (kk : wp w d Y (pc + 3) ls st h' Q) : wp w d Y pc ls (.int x :: .ref a :: st) h Q := x_pI (ci := 34) (k := 111) hf hd rfl (by decide) (by rw [hY]; exact q4612) rfl rfl kk
theorem SX35_312 {w : eW} {d : Nat} {Y : eY} {pc : Nat} {ls : eL} {st : List Value} {h : eH} {Q : eO → eH → Prop} {a : Nat} {h' : eH} {x : Int32} (hf : p_V 34 h a 110 (.int x) = some h') (hd : decode Y.2.1 pc = .ok (.putfield 312, 3)) (hY : Y.1.cls = RX35) (kk : wp w d Y (pc + 3) ls st h' Q) : wp w d Y pc ls (.int x :: .ref a :: st) h Q := x_pI (ci := 34) (k := 110) hf hd rfl (by decide) (by rw [hY]; exact q4611) rfl rfl kk
theorem SX35_315 {w : eW} {d : Nat} {Y : eY} {pc : Nat} {ls : eL} {st : List Value} {h : eH} {Q : eO → eH → Prop} {a : Nat} {h' : eH} {x : Int32} (hf : p_V 34 h a 112 (.int x) = some h') (hd : decode Y.2.1 pc = .ok (.putfield 315, 3)) (hY : Y.1.cls = RX35) (kk : wp w d Y (pc + 3) ls st h' Q) : wp w d Y pc ls (.int x :: .ref a :: st) h Q := x_pI (ci := 34) (k := 112) hf hd rfl (by decide) (by rw [hY]; exact q4613) rfl rfl kk
theorem SX35_318 {w : eW} {d : Nat} {Y : eY} {pc : Nat} {ls : eL} {st : List Value} {h : eH} {Q : eO → eH → Prop} {a : Nat} {h' : eH} {x : Int32} (hf : p_V 34 h a 113 (.int x) = some h') (hd : decode Y.2.1 pc = .ok (.putfield 318, 3)) (hY : Y.1.cls = RX35) (kk : wp w d Y (pc + 3) ls st h' Q) : wp w d Y pc ls (.int x :: .ref a :: st) h Q := x_pI (ci := 34) (k := 113) hf hd rfl (by decide) (by rw [hY]; exact q4614) rfl rfl kk
theorem SX35_321 {w : eW} {d : Nat} {Y : eY} {pc : Nat} {ls : eL} {st : List Value} {h : eH} {Q : eO → eH → Prop} {a : Nat} {h' : eH} {x : Int32} (hf : p_V 34 h a 46 (.int x) = some h') (hd : decode Y.2.1 pc = .ok (.putfield 321, 3)) (hY : Y.1.cls = RX35) (kk : wp w d Y (pc + 3) ls st h' Q) : wp w d Y pc ls (.int x :: .ref a :: st) h Q := x_pI (ci := 34) (k := 46) hf hd rfl (by decide) (by rw [hY]; exact q4548) rfl rfl kk
theorem SX35_323 {w : eW} {d : Nat} {Y : eY} {pc : Nat} {ls : eL} {st : List Value} {h : eH} {Q : eO → eH → Prop} {a : Nat} {h' : eH} {x : Int32} (hf : p_V 34 h a 21 (.int x) = some h') (hd : decode Y.2.1 pc = .ok (.putfield 323, 3)) (hY : Y.1.cls = RX35) (kk : wp w d Y (pc + 3) ls st h' Q) : wp w d Y pc ls (.int x :: .ref a :: st) h Q := x_pI (ci := 34) (k := 21) hf hd rfl (by decide) (by rw [hY]; exact q4523) rfl rfl kk
theorem SX35_326 {w : eW} {d : Nat} {Y : eY} {pc : Nat} {ls : eL} {st : List Value} {h : eH} {Q : eO → eH → Prop} {a : Nat} {h' : eH} {x : Int32} (hf : p_V 34 h a 9 (.int x) = some h') (hd : decode Y.2.1 pc = .ok (.putfield 326, 3)) (hY : Y.1.cls = RX35) (kk : wp w d Y (pc + 3) ls st h' Q) : wp w d Y pc ls (.int x :: .ref a :: st) h Q := x_pI (ci := 34) (k := 9) hf hd rfl (by decide) (by rw [hY]; exact q4511) rfl rfl kk
theorem SX35_329 {w : eW} {d : Nat} {Y : eY} {pc : Nat} {ls : eL} {st : List Value} {h : eH} {Q : eO → eH → Prop} {a : Nat} {h' : eH} {x : Int32} (hf : p_V 34 h a 10 (.int x) = some h') (hd : decode Y.2.1 pc = .ok (.putfield 329, 3)) (hY : Y.1.cls = RX35) (kk : wp w d Y (pc + 3) ls st h' Q) : wp w d Y pc ls (.int x :: .ref a :: st) h Q := x_pI (ci := 34) (k := 10) hf hd rfl (by decide) (by rw [hY]; exact q4512) rfl rfl kk
theorem SX35_332 {w : eW} {d : Nat} {Y : eY} {pc : Nat} {ls : eL} {st : List Value} {h : eH} {Q : eO → eH → Prop} {a : Nat} {h' : eH} {x : Int32} (hf : p_V 34 h a 12 (.int x) = some h') (hd : decode Y.2.1 pc = .ok (.putfield 332, 3)) (hY : Y.1.cls = RX35) (kk : wp w d Y (pc + 3) ls st h' Q) : wp w d Y pc ls (.int x :: .ref a :: st) h Q := x_pI (ci := 34) (k := 12) hf hd rfl (by decide) (by rw [hY]; exact q4514) rfl rfl kk
theorem SX35_335 {w : eW} {d : Nat} {Y : eY} {pc : Nat} {ls : eL} {st : List Value} {h : eH} {Q : eO → eH → Prop} {a : Nat} {h' : eH} {x : Int32} (hf : p_V 34 h a 13 (.int x) = some h') (hd : decode Y.2.1 pc = .ok (.putfield 335, 3)) (hY : Y.1.cls = RX35) (kk : wp w d Y (pc + 3) ls st h' Q) : wp w d Y pc ls (.int x :: .ref a :: st) h Q := x_pI (ci := 34) (k := 13) hf hd rfl (by decide) (by rw [hY]; exact q4515) rfl rfl kk
theorem SX35_338 {w : eW} {d : Nat} {Y : eY} {pc : Nat} {ls : eL} {st : List Value} {h : eH} {Q : eO → eH → Prop} {a : Nat} {h' : eH} {x : Int32} (hf : p_V 34 h a 14 (.int x) = some h') (hd : decode Y.2.1 pc = .ok (.putfield 338, 3)) (hY : Y.1.cls = RX35) (kk : wp w d Y (pc + 3) ls st h' Q) : wp w d Y pc ls (.int x :: .ref a :: st) h Q := x_pI (ci := 34) (k := 14) hf hd rfl (by decide) (by rw [hY]; exact q4516) rfl rfl kk
theorem SX35_341 {w : eW} {d : Nat} {Y : eY} {pc : Nat} {ls : eL} {st : List Value} {h : eH} {Q : eO → eH → Prop} {a : Nat} {h' : eH} {x : Int32} (hf : p_V 34 h a 30 (.int x) = some h') (hd : decode Y.2.1 pc = .ok (.putfield 341, 3)) (hY : Y.1.cls = RX35) (kk : wp w d Y (pc + 3) ls st h' Q) : wp w d Y pc ls (.int x :: .ref a :: st) h Q := x_pI (ci := 34) (k := 30) hf hd rfl (by decide) (by rw [hY]; exact q4532) rfl rfl kk
theorem SX35_344 {w : eW} {d : Nat} {Y : eY} {pc : Nat} {ls : eL} {st : List Value} {h : eH} {Q : eO → eH → Prop} {a : Nat} {h' : eH} {x : Int32} (hf : p_V 34 h a 35 (.int x) = some h') (hd : decode Y.2.1 pc = .ok (.putfield 344, 3)) (hY : Y.1.cls = RX35) (kk : wp w d Y (pc + 3) ls st h' Q) : wp w d Y pc ls (.int x :: .ref a :: st) h Q := x_pI (ci := 34) (k := 35) hf hd rfl (by decide) (by rw [hY]; exact q4537) rfl rfl kk
theorem SX35_347 {w : eW} {d : Nat} {Y : eY} {pc : Nat} {ls : eL} {st : List Value} {h : eH} {Q : eO → eH → Prop} {a : Nat} {h' : eH} {x : Int32} (hf : p_V 34 h a 37 (.int x) = some h') (hd : decode Y.2.1 pc = .ok (.putfield 347, 3)) (hY : Y.1.cls = RX35) (kk : wp w d Y (pc + 3) ls st h' Q) : wp w d Y pc ls (.int x :: .ref a :: st) h Q := x_pI (ci := 34) (k := 37) hf hd rfl (by decide) (by rw [hY]; exact q4539) rfl rfl kk
theorem SX35_350 {w : eW} {d : Nat} {Y : eY} {pc : Nat} {ls : eL} {st : List Value} {h : eH} {Q : eO → eH → Prop} {a : Nat} {h' : eH} {x : Int32} (hf : p_V 34 h a 41 (.int x) = some h') (hd : decode Y.2.1 pc = .ok (.putfield 350, 3)) (hY : Y.1.cls = RX35) (kk : wp w d Y (pc + 3) ls st h' Q) : wp w d Y pc ls (.int x :: .ref a :: st) h Q := x_pI (ci := 34) (k := 41) hf hd rfl (by decide) (by rw [hY]; exact q4543) rfl rfl kk
theorem SX35_353 {w : eW} {d : Nat} {Y : eY} {pc : Nat} {ls : eL} {st : List Value} {h : eH} {Q : eO → eH → Prop} {a : Nat} {h' : eH} {x : Int32} (hf : p_V 34 h a 45 (.int x) = some h') (hd : decode Y.2.1 pc = .ok (.putfield 353, 3)) (hY : Y.1.cls = RX35) (kk : wp w d Y (pc + 3) ls st h' Q) : wp w d Y pc ls (.int x :: .ref a :: st) h Q := x_pI (ci := 34) (k := 45) hf hd rfl (by decide) (by rw [hY]; exact q4547) rfl rfl kk
theorem SX35_356 {w : eW} {d : Nat} {Y : eY} {pc : Nat} {ls : eL} {st : List Value} {h : eH} {Q : eO → eH → Prop} {a : Nat} {h' : eH} {x : Int32} (hf : p_Z 34 h a 47 x = some h') (hd : decode Y.2.1 pc = .ok (.putfield 356, 3)) (hY : Y.1.cls = RX35) (kk : wp w d Y (pc + 3) ls st h' Q) : wp w d Y pc ls (.int x :: .ref a :: st) h Q := x_pZ (ci := 34) (k := 47) hf hd rfl (by decide) (by rw [hY]; exact q4549) rfl rfl kk
theorem SX35_363 {w : eW} {d : Nat} {Y : eY} {pc : Nat} {ls : eL} {st : List Value} {h : eH} {Q : eO → eH → Prop} {a : Nat} {h' : eH} {x : Int32} (hf : p_V 34 h a 48 (.int x) = some h') (hd : decode Y.2.1 pc = .ok (.putfield 363, 3)) (hY : Y.1.cls = RX35) (kk : wp w d Y (pc + 3) ls st h' Q) : wp w d Y pc ls (.int x :: .ref a :: st) h Q := x_pI (ci := 34) (k := 48) hf hd rfl (by decide) (by rw [hY]; exact q4550) rfl rfl kk
theorem SX35_366 {w : eW} {d : Nat} {Y : eY} {pc : Nat} {ls : eL} {st : List Value} {h : eH} {Q : eO → eH → Prop} {a : Nat} {h' : eH} {x : Int32} (hf : p_V 34 h a 51 (.int x) = some h') (hd : decode Y.2.1 pc = .ok (.putfield 366, 3)) (hY : Y.1.cls = RX35) (kk : wp w d Y (pc + 3) ls st h' Q) : wp w d Y pc ls (.int x :: .ref a :: st) h Q := x_pI (ci := 34) (k := 51) hf hd rfl (by decide) (by rw [hY]; exact q4553) rfl rfl kk
theorem SX35_370 {w : eW} {d : Nat} {Y : eY} {pc : Nat} {ls : eL} {st : List Value} {h : eH} {Q : eO → eH → Prop} {a : Nat} {h' : eH} {x : Int32} (hf : p_V 34 h a 56 (.int x) = some h') (hd : decode Y.2.1 pc = .ok (.putfield 370, 3)) (hY : Y.1.cls = RX35) (kk : wp w d Y (pc + 3) ls st h' Q) : wp w d Y pc ls (.int x :: .ref a :: st) h Q := x_pI (ci := 34) (k := 56) hf hd rfl (by decide) (by rw [hY]; exact q4558) rfl rfl kk
theorem SX35_373 {w : eW} {d : Nat} {Y : eY} {pc : Nat} {ls : eL} {st : List Value} {h : eH} {Q : eO → eH → Prop} {a : Nat} {h' : eH} {x : Int32} (hf : p_V 34 h a 58 (.int x) = some h') (hd : decode Y.2.1 pc = .ok (.putfield 373, 3)) (hY : Y.1.cls = RX35) (kk : wp w d Y (pc + 3) ls st h' Q) : wp w d Y pc ls (.int x :: .ref a :: st) h Q := x_pI (ci := 34) (k := 58) hf hd rfl (by decide) (by rw [hY]; exact q4560) rfl rfl kk
theorem SX35_376 {w : eW} {d : Nat} {Y : eY} {pc : Nat} {ls : eL} {st : List Value} {h : eH} {Q : eO → eH → Prop} {a : Nat} {h' : eH} {x : Int32} (hf : p_V 34 h a 86 (.int x) = some h') (hd : decode Y.2.1 pc = .ok (.putfield 376, 3)) (hY : Y.1.cls = RX35) (kk : wp w d Y (pc + 3) ls st h' Q) : wp w d Y pc ls (.int x :: .ref a :: st) h Q := x_pI (ci := 34) (k := 86) hf hd rfl (by decide) (by rw [hY]; exact q4587) rfl rfl kk
theorem SX35_379 {w : eW} {d : Nat} {Y : eY} {pc : Nat} {ls : eL} {st : List Value} {h : eH} {Q : eO → eH → Prop} {a : Nat} {h' : eH} {x : Int32} (hf : p_Z 34 h a 94 x = some h') (hd : decode Y.2.1 pc = .ok (.putfield 379, 3)) (hY : Y.1.cls = RX35) (kk : wp w d Y (pc + 3) ls st h' Q) : wp w d Y pc ls (.int x :: .ref a :: st) h Q := x_pZ (ci := 34) (k := 94) hf hd rfl (by decide) (by rw [hY]; exact q4595) rfl rfl kk
theorem SX35_382 {w : eW} {d : Nat} {Y : eY} {pc : Nat} {ls : eL} {st : List Value} {h : eH} {Q : eO → eH → Prop} {a : Nat} {h' : eH} {x : Int32} (hf : p_V 34 h a 95 (.int x) = some h') (hd : decode Y.2.1 pc = .ok (.putfield 382, 3)) (hY : Y.1.cls = RX35) (kk : wp w d Y (pc + 3) ls st h' Q) : wp w d Y pc ls (.int x :: .ref a :: st) h Q := x_pI (ci := 34) (k := 95) hf hd rfl (by decide) (by rw [hY]; exact q4596) rfl rfl kk
theorem SX35_385 {w : eW} {d : Nat} {Y : eY} {pc : Nat} {ls : eL} {st : List Value} {h : eH} {Q : eO → eH → Prop} {a : Nat} {h' : eH} {x : Int32} (hf : p_V 34 h a 96 (.int x) = some h') (hd : decode Y.2.1 pc = .ok (.putfield 385, 3)) (hY : Y.1.cls = RX35) (kk : wp w d Y (pc + 3) ls st h' Q) : wp w d Y pc ls (.int x :: .ref a :: st) h Q := x_pI (ci := 34) (k := 96) hf hd rfl (by decide) (by rw [hY]; exact q4597) rfl rfl kk
theorem SX35_389 {w : eW} {d : Nat} {Y : eY} {pc : Nat} {ls : eL} {st : List Value} {h : eH} {Q : eO → eH → Prop} {a : Nat} {h' : eH} {x : Int32} (hf : p_V 34 h a 97 (.int x) = some h') (hd : decode Y.2.1 pc = .ok (.putfield 389, 3)) (hY : Y.1.cls = RX35) (kk : wp w d Y (pc + 3) ls st h' Q) : wp w d Y pc ls (.int x :: .ref a :: st) h Q := x_pI (ci := 34) (k := 97) hf hd rfl (by decide) (by rw [hY]; exact q4598) rfl rfl kk
theorem SX35_392 {w : eW} {d : Nat} {Y : eY} {pc : Nat} {ls : eL} {st : List Value} {h : eH} {Q : eO → eH → Prop} {a : Nat} {h' : eH} {x : Int32} (hf : p_V 36 h a 21 (.int x) = some h') (hd : decode Y.2.1 pc = .ok (.putfield 392, 3)) (hY : Y.1.cls = RX35) (kk : wp w d Y (pc + 3) ls st h' Q) : wp w d Y pc ls (.int x :: .ref a :: st) h Q := x_pIN (ci := 36) (k := 21) hf hd rfl (by decide) (by rw [hY]; exact q4255) rfl rfl kk
def fX35_clear_b275 (N : Nat) (k207 : Nat → Int32 → eH → Option (Unit × eH)) (l0 : Nat) (l1 : Int32) (s0 : Nat) (s1 : Int32) (s2 : Int32) (h : eH) : Option (Unit × eH) :=
  (q_V 100 h s0 s1 (.int s2)).bind fun h1 =>
  k207 l0 (l1 + (1 : Int32)) h1
theorem pX35_clear_b275 {w : eW} {d : Nat} (hd : 5 ≤ d + 1) {N : Nat} {k207 : Nat → Int32 → eH → Option (Unit × eH)} (hk207 : ∀ l0 l1 h q, k207 l0 l1 h = some q → wp w (d + 1) YX35_clear 207 [some (.ref l0), some (.int l1), none] [] h (e_is (e_rn c_V q))) {l0 : Nat} {l1 : Int32} {s0 : Nat} {s1 : Int32} {s2 : Int32} {h : eH} {q} (hf : fX35_clear_b275 N k207 l0 l1 s0 s1 s2 h = some q) : wp w (d + 1) YX35_clear 275 [some (.ref l0), some (.int l1), none] [.int s2, .int s1, .ref s0] h (e_is (e_rn c_V q)) := by
  unfold fX35_clear_b275 at hf
  obtain ⟨h1, b2, hf⟩ := Option.bind_eq_some_iff.mp hf
  refine x_qI b2 dX35_clear_275 ?_
  refine w_iinc dX35_clear_276 (v := (l1 + (1 : Int32))) rfl rfl (by decide) (ls' := [some (.ref l0), some (.int (l1 + (1 : Int32))), none]) rfl ?_
  refine w_goto 207 dX35_clear_279 (by decide) ?_
  exact (hk207 _ _ _ _ hf).to ⟨rfl, rfl, trivial⟩
def fX35_clear_b254 (N : Nat) (k207 : Nat → Int32 → eH → Option (Unit × eH)) (l0 : Nat) (l1 : Int32) (s0 : Int32) (h : eH) : Option (Unit × eH) :=
  (g_A 34 h l0 22).bind fun a1 =>
  if s0 = 0 then
    fX35_clear_b275 N k207 l0 l1 a1 ((1460 : Int32) + l1) (12 : Int32) h
  else
    fX35_clear_b275 N k207 l0 l1 a1 ((1460 : Int32) + l1) (11 : Int32) h
theorem pX35_clear_b254 {w : eW} {d : Nat} (hd : 5 ≤ d + 1) {N : Nat} {k207 : Nat → Int32 → eH → Option (Unit × eH)} (hk207 : ∀ l0 l1 h q, k207 l0 l1 h = some q → wp w (d + 1) YX35_clear 207 [some (.ref l0), some (.int l1), none] [] h (e_is (e_rn c_V q))) {l0 : Nat} {l1 : Int32} {s0 : Int32} {h : eH} {q} (hf : fX35_clear_b254 N k207 l0 l1 s0 h = some q) : wp w (d + 1) YX35_clear 254 [some (.ref l0), some (.int l1), none] [.int s0] h (e_is (e_rn c_V q)) := by
  unfold fX35_clear_b254 at hf
  refine w_istore_n dX35_clear_254 rfl (by decide) (ls' := [some (.ref l0), some (.int l1), some (.int s0)]) rfl ?_
  refine w_aload_n dX35_clear_255 rfl rfl ?_
  obtain ⟨a1, b2, hf⟩ := Option.bind_eq_some_iff.mp hf
  refine GX35_65 b2 dX35_clear_256 rfl ?_
  refine w_sipush dX35_clear_259 (v := 1460) (by decide) ?_
  refine w_iload_n dX35_clear_262 rfl rfl ?_
  refine w_iadd dX35_clear_263 ?_
  refine w_iload_n dX35_clear_264 rfl rfl ?_
  refine w_if_eq 273 dX35_clear_265 (by decide) (fun c3 => ?_) (fun c3 => ?_)
  · replace hf := (if_pos (show s0 = 0 from c3)).symm.trans hf
    refine w_bipush dX35_clear_273 (v := 12) (by decide) ?_
    exact (pX35_clear_b275 hd hk207 hf).to ⟨rfl, rfl, trivial⟩
  · replace hf := (if_neg (show ¬ (s0 = 0) from c3)).symm.trans hf
    refine w_bipush dX35_clear_268 (v := 11) (by decide) ?_
    refine w_goto 275 dX35_clear_270 (by decide) ?_
    exact (pX35_clear_b275 hd hk207 hf).to ⟨rfl, rfl, trivial⟩
def fX35_clear_b249 (N : Nat) (k207 : Nat → Int32 → eH → Option (Unit × eH)) (l0 : Nat) (l1 : Int32) (h : eH) : Option (Unit × eH) :=
  fX35_clear_b254 N k207 l0 l1 (1 : Int32) h
theorem pX35_clear_b249 {w : eW} {d : Nat} (hd : 5 ≤ d + 1) {N : Nat} {k207 : Nat → Int32 → eH → Option (Unit × eH)} (hk207 : ∀ l0 l1 h q, k207 l0 l1 h = some q → wp w (d + 1) YX35_clear 207 [some (.ref l0), some (.int l1), none] [] h (e_is (e_rn c_V q))) {l0 : Nat} {l1 : Int32} {h : eH} {q} (hf : fX35_clear_b249 N k207 l0 l1 h = some q) : wp w (d + 1) YX35_clear 249 [some (.ref l0), some (.int l1), none] [] h (e_is (e_rn c_V q)) := by
  unfold fX35_clear_b249 at hf
  refine w_iconst dX35_clear_249 (v := 1) (by decide) ?_
  refine w_goto 254 dX35_clear_250 (by decide) ?_
  exact (pX35_clear_b254 hd hk207 hf).to ⟨rfl, rfl, trivial⟩
def fX35_clear_b253 (N : Nat) (k207 : Nat → Int32 → eH → Option (Unit × eH)) (l0 : Nat) (l1 : Int32) (h : eH) : Option (Unit × eH) :=
  fX35_clear_b254 N k207 l0 l1 (0 : Int32) h
theorem pX35_clear_b253 {w : eW} {d : Nat} (hd : 5 ≤ d + 1) {N : Nat} {k207 : Nat → Int32 → eH → Option (Unit × eH)} (hk207 : ∀ l0 l1 h q, k207 l0 l1 h = some q → wp w (d + 1) YX35_clear 207 [some (.ref l0), some (.int l1), none] [] h (e_is (e_rn c_V q))) {l0 : Nat} {l1 : Int32} {h : eH} {q} (hf : fX35_clear_b253 N k207 l0 l1 h = some q) : wp w (d + 1) YX35_clear 253 [some (.ref l0), some (.int l1), none] [] h (e_is (e_rn c_V q)) := by
  unfold fX35_clear_b253 at hf
  refine w_iconst dX35_clear_253 (v := 0) (by decide) ?_
  exact (pX35_clear_b254 hd hk207 hf).to ⟨rfl, rfl, trivial⟩
def fX35_clear_b237 (N : Nat) (k207 : Nat → Int32 → eH → Option (Unit × eH)) (l0 : Nat) (l1 : Int32) (h : eH) : Option (Unit × eH) :=
  if l1 < (65 : Int32) then
    fX35_clear_b253 N k207 l0 l1 h
  else
    if (90 : Int32) < l1 then
      fX35_clear_b253 N k207 l0 l1 h
    else
      fX35_clear_b249 N k207 l0 l1 h
theorem pX35_clear_b237 {w : eW} {d : Nat} (hd : 5 ≤ d + 1) {N : Nat} {k207 : Nat → Int32 → eH → Option (Unit × eH)} (hk207 : ∀ l0 l1 h q, k207 l0 l1 h = some q → wp w (d + 1) YX35_clear 207 [some (.ref l0), some (.int l1), none] [] h (e_is (e_rn c_V q))) {l0 : Nat} {l1 : Int32} {h : eH} {q} (hf : fX35_clear_b237 N k207 l0 l1 h = some q) : wp w (d + 1) YX35_clear 237 [some (.ref l0), some (.int l1), none] [] h (e_is (e_rn c_V q)) := by
  unfold fX35_clear_b237 at hf
  refine w_iload_n dX35_clear_237 rfl rfl ?_
  refine w_bipush dX35_clear_238 (v := 65) (by decide) ?_
  refine w_icmp_lt 253 dX35_clear_240 (by decide) (fun c1 => ?_) (fun c1 => ?_)
  · replace hf := (if_pos (show l1 < (65 : Int32) from c1)).symm.trans hf
    exact (pX35_clear_b253 hd hk207 hf).to ⟨rfl, rfl, trivial⟩
  · replace hf := (if_neg (show ¬ (l1 < (65 : Int32)) from c1)).symm.trans hf
    refine w_iload_n dX35_clear_243 rfl rfl ?_
    refine w_bipush dX35_clear_244 (v := 90) (by decide) ?_
    refine w_icmp_gt 253 dX35_clear_246 (by decide) (fun c2 => ?_) (fun c2 => ?_)
    · replace hf := (if_pos (show (90 : Int32) < l1 from c2)).symm.trans hf
      exact (pX35_clear_b253 hd hk207 hf).to ⟨rfl, rfl, trivial⟩
    · replace hf := (if_neg (show ¬ ((90 : Int32) < l1) from c2)).symm.trans hf
      exact (pX35_clear_b249 hd hk207 hf).to ⟨rfl, rfl, trivial⟩
def fX35_clear_b207 (N : Nat) : Nat → Nat → Int32 → eH → Option (Unit × eH)
  | 0, _, _, _ => none
  | n + 1, l0, l1, h =>
    if (256 : Int32) ≤ l1 then
      (g_A 34 h l0 22).bind fun a2 =>
      (q_V 100 h a2 (3811 : Int32) (.int (-1 : Int32))).bind fun h4 =>
      (k_ok 34 h4 l0).bind fun _ =>
      (fX35_first l0 (1552 : Int32) (0 : Int32) h4).bind fun q7 =>
      (k_ok 34 q7.2 l0).bind fun _ =>
      (fX35_first l0 (1583 : Int32) (1 : Int32) q7.2).bind fun q9 =>
      (k_ok 34 q9.2 l0).bind fun _ =>
      (fX35_first l0 (1585 : Int32) (2 : Int32) q9.2).bind fun q11 =>
      (k_ok 34 q11.2 l0).bind fun _ =>
      (fX35_first l0 (1496 : Int32) (3 : Int32) q11.2).bind fun q13 =>
      (k_ok 34 q13.2 l0).bind fun _ =>
      (fX35_first l0 (1498 : Int32) (4 : Int32) q13.2).bind fun q15 =>
      (k_ok 34 q15.2 l0).bind fun _ =>
      (fX35_first l0 (1473 : Int32) (5 : Int32) q15.2).bind fun q17 =>
      (k_ok 34 q17.2 l0).bind fun _ =>
      (fX35_first l0 (1495 : Int32) (6 : Int32) q17.2).bind fun q19 =>
      (k_ok 34 q19.2 l0).bind fun _ =>
      (fX35_first l0 (1554 : Int32) (7 : Int32) q19.2).bind fun q21 =>
      (k_ok 34 q21.2 l0).bind fun _ =>
      (fX35_first l0 (1555 : Int32) (8 : Int32) q21.2).bind fun q23 =>
      (k_ok 34 q23.2 l0).bind fun _ =>
      (fX35_first l0 (1460 : Int32) (9 : Int32) q23.2).bind fun q25 =>
      (k_ok 34 q25.2 l0).bind fun _ =>
      (fX35_first l0 (1492 : Int32) (10 : Int32) q25.2).bind fun q27 =>
      (k_ok 34 q27.2 l0).bind fun _ =>
      (fX35_first l0 (1469 : Int32) (10 : Int32) q27.2).bind fun q29 =>
      (k_ok 34 q29.2 l0).bind fun _ =>
      (fX35_first l0 (1586 : Int32) (13 : Int32) q29.2).bind fun q31 =>
      (k_ok 34 q31.2 l0).bind fun _ =>
      (fX35_first l0 (1497 : Int32) (14 : Int32) q31.2).bind fun q33 =>
      (k_ok 34 q33.2 l0).bind fun _ =>
      (fX35_first l0 (1587 : Int32) (15 : Int32) q33.2).bind fun q35 =>
      (k_ok 34 q35.2 l0).bind fun _ =>
      (fX35_first l0 (1972 : Int32) (100 : Int32) q35.2).bind fun q37 =>
      (k_ok 34 q37.2 l0).bind fun _ =>
      (fX35_first l0 (1973 : Int32) (200 : Int32) q37.2).bind fun q39 =>
      (k_ok 34 q39.2 l0).bind fun _ =>
      (fX35_first l0 (1974 : Int32) (10 : Int32) q39.2).bind fun q41 =>
      (k_ok 34 q41.2 l0).bind fun _ =>
      (fX35_first l0 (1975 : Int32) (50 : Int32) q41.2).bind fun q43 =>
      (k_ok 34 q43.2 l0).bind fun _ =>
      (fX35_first l0 (1976 : Int32) (50 : Int32) q43.2).bind fun q45 =>
      (k_ok 34 q45.2 l0).bind fun _ =>
      (fX35_first l0 (1977 : Int32) (150 : Int32) q45.2).bind fun q47 =>
      (k_ok 34 q47.2 l0).bind fun _ =>
      (fX35_first l0 (1978 : Int32) (150 : Int32) q47.2).bind fun q49 =>
      (k_ok 34 q49.2 l0).bind fun _ =>
      (fX35_first l0 (1979 : Int32) (100 : Int32) q49.2).bind fun q51 =>
      (k_ok 34 q51.2 l0).bind fun _ =>
      (fX35_first l0 (1981 : Int32) (10000 : Int32) q51.2).bind fun q53 =>
      (k_ok 34 q53.2 l0).bind fun _ =>
      (fX35_first l0 (1982 : Int32) (10000 : Int32) q53.2).bind fun q55 =>
      (k_ok 34 q55.2 l0).bind fun _ =>
      (fX35_first l0 (1983 : Int32) (5000 : Int32) q55.2).bind fun q57 =>
      (k_ok 34 q57.2 l0).bind fun _ =>
      (fX35_first l0 (2241 : Int32) (26214400 : Int32) q57.2).bind fun q59 =>
      (k_ok 34 q59.2 l0).bind fun _ =>
      (fX35_first l0 (2242 : Int32) (39321600 : Int32) q59.2).bind fun q61 =>
      (k_ok 34 q61.2 l0).bind fun _ =>
      (fX35_first l0 (2243 : Int32) (1310720 : Int32) q61.2).bind fun q63 =>
      (k_ok 34 q63.2 l0).bind fun _ =>
      (fX35_first l0 (2245 : Int32) (262144 : Int32) q63.2).bind fun q65 =>
      (k_ok 34 q65.2 l0).bind fun _ =>
      (fX35_first l0 (3272 : Int32) (65536 : Int32) q65.2).bind fun q67 =>
      (k_ok 34 q67.2 l0).bind fun _ =>
      (fX35_first l0 (3275 : Int32) (786432 : Int32) q67.2).bind fun q69 =>
      (k_ok 34 q69.2 l0).bind fun _ =>
      (fX35_first l0 (3279 : Int32) (65536 : Int32) q69.2).bind fun q71 =>
      (k_ok 34 q71.2 l0).bind fun _ =>
      (fX35_first l0 (3283 : Int32) (655360 : Int32) q71.2).bind fun q73 =>
      (k_ok 34 q73.2 l0).bind fun _ =>
      (fX35_first l0 (3296 : Int32) (65536 : Int32) q73.2).bind fun q75 =>
      (k_ok 34 q75.2 l0).bind fun _ =>
      (fX35_first l0 (3297 : Int32) (1 : Int32) q75.2).bind fun q77 =>
      (k_ok 34 q77.2 l0).bind fun _ =>
      (fX35_primitives N l0 1000000122 q77.2).bind fun q79 =>
      (k_ok 34 q79.2 l0).bind fun _ =>
      (fX35_primitives N l0 1000000123 q79.2).bind fun q81 =>
      some ((), q81.2)
    else
      (g_A 34 h l0 22).bind fun a82 =>
      (q_V 100 h a82 ((3299 : Int32) + l1) (.int (-1 : Int32))).bind fun h84 =>
      if l1 < (97 : Int32) then
        fX35_clear_b237 N (fX35_clear_b207 N n) l0 l1 h84
      else
        if l1 ≤ (122 : Int32) then
          fX35_clear_b249 N (fX35_clear_b207 N n) l0 l1 h84
        else
          fX35_clear_b237 N (fX35_clear_b207 N n) l0 l1 h84
theorem pX35_clear_b207 {w : eW} {d : Nat} (hd : 5 ≤ d + 1) {N : Nat} : ∀ (n : Nat) l0 l1 h q, fX35_clear_b207 N n l0 l1 h = some q → wp w (d + 1) YX35_clear 207 [some (.ref l0), some (.int l1), none] [] h (e_is (e_rn c_V q)) := by
  intro n
  induction n with
  | zero => intro l0 l1 h q hf; simp [fX35_clear_b207] at hf
  | succ n ih =>
    intro l0 l1 h q hf
    rw [fX35_clear_b207] at hf
    refine w_iload_n dX35_clear_207 rfl rfl ?_
    refine w_sipush dX35_clear_208 (v := 256) (by decide) ?_
    refine w_icmp_ge 282 dX35_clear_211 (by decide) (fun c1 => ?_) (fun c1 => ?_)
    · replace hf := (if_pos (show (256 : Int32) ≤ l1 from c1)).symm.trans hf
      refine w_aload_n dX35_clear_282 rfl rfl ?_
      obtain ⟨a2, b3, hf⟩ := Option.bind_eq_some_iff.mp hf
      refine GX35_65 b3 dX35_clear_283 rfl ?_
      refine w_sipush dX35_clear_286 (v := 3811) (by decide) ?_
      refine w_iconst dX35_clear_289 (v := -1) (by decide) ?_
      obtain ⟨h4, b5, hf⟩ := Option.bind_eq_some_iff.mp hf
      refine x_qI b5 dX35_clear_290 ?_
      refine w_aload_n dX35_clear_291 rfl rfl ?_
      refine w_sipush dX35_clear_292 (v := 1552) (by decide) ?_
      refine w_iconst dX35_clear_295 (v := 0) (by decide) ?_
      obtain ⟨_, b6, hf⟩ := Option.bind_eq_some_iff.mp hf
      refine x_cnV hf (e_stV (Yc := YX35_first) (ci := 34) (av := [.int (1552 : Int32), .int (0 : Int32)]) (st := []) dX35_clear_296 q4480 mX35_first rfl (k_ok_some b6).1 (k_ok_some b6).2) mX35_first.2.2.1 mX35_first.2.2.2.2.1 (Nat.le_of_ble_eq_true rfl) (Nat.le_of_ble_eq_true rfl) (fun q hq => pX35_first (by omega) hq) (fun q7 hf => ?_)
      refine w_aload_n dX35_clear_299 rfl rfl ?_
      refine w_sipush dX35_clear_300 (v := 1583) (by decide) ?_
      refine w_iconst dX35_clear_303 (v := 1) (by decide) ?_
      obtain ⟨_, b8, hf⟩ := Option.bind_eq_some_iff.mp hf
      refine x_cnV hf (e_stV (Yc := YX35_first) (ci := 34) (av := [.int (1583 : Int32), .int (1 : Int32)]) (st := []) dX35_clear_304 q4480 mX35_first rfl (k_ok_some b8).1 (k_ok_some b8).2) mX35_first.2.2.1 mX35_first.2.2.2.2.1 (Nat.le_of_ble_eq_true rfl) (Nat.le_of_ble_eq_true rfl) (fun q hq => pX35_first (by omega) hq) (fun q9 hf => ?_)
      refine w_aload_n dX35_clear_307 rfl rfl ?_
      refine w_sipush dX35_clear_308 (v := 1585) (by decide) ?_
      refine w_iconst dX35_clear_311 (v := 2) (by decide) ?_
      obtain ⟨_, b10, hf⟩ := Option.bind_eq_some_iff.mp hf
      refine x_cnV hf (e_stV (Yc := YX35_first) (ci := 34) (av := [.int (1585 : Int32), .int (2 : Int32)]) (st := []) dX35_clear_312 q4480 mX35_first rfl (k_ok_some b10).1 (k_ok_some b10).2) mX35_first.2.2.1 mX35_first.2.2.2.2.1 (Nat.le_of_ble_eq_true rfl) (Nat.le_of_ble_eq_true rfl) (fun q hq => pX35_first (by omega) hq) (fun q11 hf => ?_)
      refine w_aload_n dX35_clear_315 rfl rfl ?_
      refine w_sipush dX35_clear_316 (v := 1496) (by decide) ?_
      refine w_iconst dX35_clear_319 (v := 3) (by decide) ?_
      obtain ⟨_, b12, hf⟩ := Option.bind_eq_some_iff.mp hf
      refine x_cnV hf (e_stV (Yc := YX35_first) (ci := 34) (av := [.int (1496 : Int32), .int (3 : Int32)]) (st := []) dX35_clear_320 q4480 mX35_first rfl (k_ok_some b12).1 (k_ok_some b12).2) mX35_first.2.2.1 mX35_first.2.2.2.2.1 (Nat.le_of_ble_eq_true rfl) (Nat.le_of_ble_eq_true rfl) (fun q hq => pX35_first (by omega) hq) (fun q13 hf => ?_)
      refine w_aload_n dX35_clear_323 rfl rfl ?_
      refine w_sipush dX35_clear_324 (v := 1498) (by decide) ?_
      refine w_iconst dX35_clear_327 (v := 4) (by decide) ?_
      obtain ⟨_, b14, hf⟩ := Option.bind_eq_some_iff.mp hf
      refine x_cnV hf (e_stV (Yc := YX35_first) (ci := 34) (av := [.int (1498 : Int32), .int (4 : Int32)]) (st := []) dX35_clear_328 q4480 mX35_first rfl (k_ok_some b14).1 (k_ok_some b14).2) mX35_first.2.2.1 mX35_first.2.2.2.2.1 (Nat.le_of_ble_eq_true rfl) (Nat.le_of_ble_eq_true rfl) (fun q hq => pX35_first (by omega) hq) (fun q15 hf => ?_)
      refine w_aload_n dX35_clear_331 rfl rfl ?_
      refine w_sipush dX35_clear_332 (v := 1473) (by decide) ?_
      refine w_iconst dX35_clear_335 (v := 5) (by decide) ?_
      obtain ⟨_, b16, hf⟩ := Option.bind_eq_some_iff.mp hf
      refine x_cnV hf (e_stV (Yc := YX35_first) (ci := 34) (av := [.int (1473 : Int32), .int (5 : Int32)]) (st := []) dX35_clear_336 q4480 mX35_first rfl (k_ok_some b16).1 (k_ok_some b16).2) mX35_first.2.2.1 mX35_first.2.2.2.2.1 (Nat.le_of_ble_eq_true rfl) (Nat.le_of_ble_eq_true rfl) (fun q hq => pX35_first (by omega) hq) (fun q17 hf => ?_)
      refine w_aload_n dX35_clear_339 rfl rfl ?_
      refine w_sipush dX35_clear_340 (v := 1495) (by decide) ?_
      refine w_bipush dX35_clear_343 (v := 6) (by decide) ?_
      obtain ⟨_, b18, hf⟩ := Option.bind_eq_some_iff.mp hf
      refine x_cnV hf (e_stV (Yc := YX35_first) (ci := 34) (av := [.int (1495 : Int32), .int (6 : Int32)]) (st := []) dX35_clear_345 q4480 mX35_first rfl (k_ok_some b18).1 (k_ok_some b18).2) mX35_first.2.2.1 mX35_first.2.2.2.2.1 (Nat.le_of_ble_eq_true rfl) (Nat.le_of_ble_eq_true rfl) (fun q hq => pX35_first (by omega) hq) (fun q19 hf => ?_)
      refine w_aload_n dX35_clear_348 rfl rfl ?_
      refine w_sipush dX35_clear_349 (v := 1554) (by decide) ?_
      refine w_bipush dX35_clear_352 (v := 7) (by decide) ?_
      obtain ⟨_, b20, hf⟩ := Option.bind_eq_some_iff.mp hf
      refine x_cnV hf (e_stV (Yc := YX35_first) (ci := 34) (av := [.int (1554 : Int32), .int (7 : Int32)]) (st := []) dX35_clear_354 q4480 mX35_first rfl (k_ok_some b20).1 (k_ok_some b20).2) mX35_first.2.2.1 mX35_first.2.2.2.2.1 (Nat.le_of_ble_eq_true rfl) (Nat.le_of_ble_eq_true rfl) (fun q hq => pX35_first (by omega) hq) (fun q21 hf => ?_)
      refine w_aload_n dX35_clear_357 rfl rfl ?_
      refine w_sipush dX35_clear_358 (v := 1555) (by decide) ?_
      refine w_bipush dX35_clear_361 (v := 8) (by decide) ?_
      obtain ⟨_, b22, hf⟩ := Option.bind_eq_some_iff.mp hf
      refine x_cnV hf (e_stV (Yc := YX35_first) (ci := 34) (av := [.int (1555 : Int32), .int (8 : Int32)]) (st := []) dX35_clear_363 q4480 mX35_first rfl (k_ok_some b22).1 (k_ok_some b22).2) mX35_first.2.2.1 mX35_first.2.2.2.2.1 (Nat.le_of_ble_eq_true rfl) (Nat.le_of_ble_eq_true rfl) (fun q hq => pX35_first (by omega) hq) (fun q23 hf => ?_)
      refine w_aload_n dX35_clear_366 rfl rfl ?_
      refine w_sipush dX35_clear_367 (v := 1460) (by decide) ?_
      refine w_bipush dX35_clear_370 (v := 9) (by decide) ?_
      obtain ⟨_, b24, hf⟩ := Option.bind_eq_some_iff.mp hf
      refine x_cnV hf (e_stV (Yc := YX35_first) (ci := 34) (av := [.int (1460 : Int32), .int (9 : Int32)]) (st := []) dX35_clear_372 q4480 mX35_first rfl (k_ok_some b24).1 (k_ok_some b24).2) mX35_first.2.2.1 mX35_first.2.2.2.2.1 (Nat.le_of_ble_eq_true rfl) (Nat.le_of_ble_eq_true rfl) (fun q hq => pX35_first (by omega) hq) (fun q25 hf => ?_)
      refine w_aload_n dX35_clear_375 rfl rfl ?_
      refine w_sipush dX35_clear_376 (v := 1492) (by decide) ?_
      refine w_bipush dX35_clear_379 (v := 10) (by decide) ?_
      obtain ⟨_, b26, hf⟩ := Option.bind_eq_some_iff.mp hf
      refine x_cnV hf (e_stV (Yc := YX35_first) (ci := 34) (av := [.int (1492 : Int32), .int (10 : Int32)]) (st := []) dX35_clear_381 q4480 mX35_first rfl (k_ok_some b26).1 (k_ok_some b26).2) mX35_first.2.2.1 mX35_first.2.2.2.2.1 (Nat.le_of_ble_eq_true rfl) (Nat.le_of_ble_eq_true rfl) (fun q hq => pX35_first (by omega) hq) (fun q27 hf => ?_)
      refine w_aload_n dX35_clear_384 rfl rfl ?_
      refine w_sipush dX35_clear_385 (v := 1469) (by decide) ?_
      refine w_bipush dX35_clear_388 (v := 10) (by decide) ?_
      obtain ⟨_, b28, hf⟩ := Option.bind_eq_some_iff.mp hf
      refine x_cnV hf (e_stV (Yc := YX35_first) (ci := 34) (av := [.int (1469 : Int32), .int (10 : Int32)]) (st := []) dX35_clear_390 q4480 mX35_first rfl (k_ok_some b28).1 (k_ok_some b28).2) mX35_first.2.2.1 mX35_first.2.2.2.2.1 (Nat.le_of_ble_eq_true rfl) (Nat.le_of_ble_eq_true rfl) (fun q hq => pX35_first (by omega) hq) (fun q29 hf => ?_)
      refine w_aload_n dX35_clear_393 rfl rfl ?_
      refine w_sipush dX35_clear_394 (v := 1586) (by decide) ?_
      refine w_bipush dX35_clear_397 (v := 13) (by decide) ?_
      obtain ⟨_, b30, hf⟩ := Option.bind_eq_some_iff.mp hf
      refine x_cnV hf (e_stV (Yc := YX35_first) (ci := 34) (av := [.int (1586 : Int32), .int (13 : Int32)]) (st := []) dX35_clear_399 q4480 mX35_first rfl (k_ok_some b30).1 (k_ok_some b30).2) mX35_first.2.2.1 mX35_first.2.2.2.2.1 (Nat.le_of_ble_eq_true rfl) (Nat.le_of_ble_eq_true rfl) (fun q hq => pX35_first (by omega) hq) (fun q31 hf => ?_)
      refine w_aload_n dX35_clear_402 rfl rfl ?_
      refine w_sipush dX35_clear_403 (v := 1497) (by decide) ?_
      refine w_bipush dX35_clear_406 (v := 14) (by decide) ?_
      obtain ⟨_, b32, hf⟩ := Option.bind_eq_some_iff.mp hf
      refine x_cnV hf (e_stV (Yc := YX35_first) (ci := 34) (av := [.int (1497 : Int32), .int (14 : Int32)]) (st := []) dX35_clear_408 q4480 mX35_first rfl (k_ok_some b32).1 (k_ok_some b32).2) mX35_first.2.2.1 mX35_first.2.2.2.2.1 (Nat.le_of_ble_eq_true rfl) (Nat.le_of_ble_eq_true rfl) (fun q hq => pX35_first (by omega) hq) (fun q33 hf => ?_)
      refine w_aload_n dX35_clear_411 rfl rfl ?_
      refine w_sipush dX35_clear_412 (v := 1587) (by decide) ?_
      refine w_bipush dX35_clear_415 (v := 15) (by decide) ?_
      obtain ⟨_, b34, hf⟩ := Option.bind_eq_some_iff.mp hf
      refine x_cnV hf (e_stV (Yc := YX35_first) (ci := 34) (av := [.int (1587 : Int32), .int (15 : Int32)]) (st := []) dX35_clear_417 q4480 mX35_first rfl (k_ok_some b34).1 (k_ok_some b34).2) mX35_first.2.2.1 mX35_first.2.2.2.2.1 (Nat.le_of_ble_eq_true rfl) (Nat.le_of_ble_eq_true rfl) (fun q hq => pX35_first (by omega) hq) (fun q35 hf => ?_)
      refine w_aload_n dX35_clear_420 rfl rfl ?_
      refine w_sipush dX35_clear_421 (v := 1972) (by decide) ?_
      refine w_bipush dX35_clear_424 (v := 100) (by decide) ?_
      obtain ⟨_, b36, hf⟩ := Option.bind_eq_some_iff.mp hf
      refine x_cnV hf (e_stV (Yc := YX35_first) (ci := 34) (av := [.int (1972 : Int32), .int (100 : Int32)]) (st := []) dX35_clear_426 q4480 mX35_first rfl (k_ok_some b36).1 (k_ok_some b36).2) mX35_first.2.2.1 mX35_first.2.2.2.2.1 (Nat.le_of_ble_eq_true rfl) (Nat.le_of_ble_eq_true rfl) (fun q hq => pX35_first (by omega) hq) (fun q37 hf => ?_)
      refine w_aload_n dX35_clear_429 rfl rfl ?_
      refine w_sipush dX35_clear_430 (v := 1973) (by decide) ?_
      refine w_sipush dX35_clear_433 (v := 200) (by decide) ?_
      obtain ⟨_, b38, hf⟩ := Option.bind_eq_some_iff.mp hf
      refine x_cnV hf (e_stV (Yc := YX35_first) (ci := 34) (av := [.int (1973 : Int32), .int (200 : Int32)]) (st := []) dX35_clear_436 q4480 mX35_first rfl (k_ok_some b38).1 (k_ok_some b38).2) mX35_first.2.2.1 mX35_first.2.2.2.2.1 (Nat.le_of_ble_eq_true rfl) (Nat.le_of_ble_eq_true rfl) (fun q hq => pX35_first (by omega) hq) (fun q39 hf => ?_)
      refine w_aload_n dX35_clear_439 rfl rfl ?_
      refine w_sipush dX35_clear_440 (v := 1974) (by decide) ?_
      refine w_bipush dX35_clear_443 (v := 10) (by decide) ?_
      obtain ⟨_, b40, hf⟩ := Option.bind_eq_some_iff.mp hf
      refine x_cnV hf (e_stV (Yc := YX35_first) (ci := 34) (av := [.int (1974 : Int32), .int (10 : Int32)]) (st := []) dX35_clear_445 q4480 mX35_first rfl (k_ok_some b40).1 (k_ok_some b40).2) mX35_first.2.2.1 mX35_first.2.2.2.2.1 (Nat.le_of_ble_eq_true rfl) (Nat.le_of_ble_eq_true rfl) (fun q hq => pX35_first (by omega) hq) (fun q41 hf => ?_)
      refine w_aload_n dX35_clear_448 rfl rfl ?_
      refine w_sipush dX35_clear_449 (v := 1975) (by decide) ?_
      refine w_bipush dX35_clear_452 (v := 50) (by decide) ?_
      obtain ⟨_, b42, hf⟩ := Option.bind_eq_some_iff.mp hf
      refine x_cnV hf (e_stV (Yc := YX35_first) (ci := 34) (av := [.int (1975 : Int32), .int (50 : Int32)]) (st := []) dX35_clear_454 q4480 mX35_first rfl (k_ok_some b42).1 (k_ok_some b42).2) mX35_first.2.2.1 mX35_first.2.2.2.2.1 (Nat.le_of_ble_eq_true rfl) (Nat.le_of_ble_eq_true rfl) (fun q hq => pX35_first (by omega) hq) (fun q43 hf => ?_)
      refine w_aload_n dX35_clear_457 rfl rfl ?_
      refine w_sipush dX35_clear_458 (v := 1976) (by decide) ?_
      refine w_bipush dX35_clear_461 (v := 50) (by decide) ?_
      obtain ⟨_, b44, hf⟩ := Option.bind_eq_some_iff.mp hf
      refine x_cnV hf (e_stV (Yc := YX35_first) (ci := 34) (av := [.int (1976 : Int32), .int (50 : Int32)]) (st := []) dX35_clear_463 q4480 mX35_first rfl (k_ok_some b44).1 (k_ok_some b44).2) mX35_first.2.2.1 mX35_first.2.2.2.2.1 (Nat.le_of_ble_eq_true rfl) (Nat.le_of_ble_eq_true rfl) (fun q hq => pX35_first (by omega) hq) (fun q45 hf => ?_)
      refine w_aload_n dX35_clear_466 rfl rfl ?_
      refine w_sipush dX35_clear_467 (v := 1977) (by decide) ?_
      refine w_sipush dX35_clear_470 (v := 150) (by decide) ?_
      obtain ⟨_, b46, hf⟩ := Option.bind_eq_some_iff.mp hf
      refine x_cnV hf (e_stV (Yc := YX35_first) (ci := 34) (av := [.int (1977 : Int32), .int (150 : Int32)]) (st := []) dX35_clear_473 q4480 mX35_first rfl (k_ok_some b46).1 (k_ok_some b46).2) mX35_first.2.2.1 mX35_first.2.2.2.2.1 (Nat.le_of_ble_eq_true rfl) (Nat.le_of_ble_eq_true rfl) (fun q hq => pX35_first (by omega) hq) (fun q47 hf => ?_)
      refine w_aload_n dX35_clear_476 rfl rfl ?_
      refine w_sipush dX35_clear_477 (v := 1978) (by decide) ?_
      refine w_sipush dX35_clear_480 (v := 150) (by decide) ?_
      obtain ⟨_, b48, hf⟩ := Option.bind_eq_some_iff.mp hf
      refine x_cnV hf (e_stV (Yc := YX35_first) (ci := 34) (av := [.int (1978 : Int32), .int (150 : Int32)]) (st := []) dX35_clear_483 q4480 mX35_first rfl (k_ok_some b48).1 (k_ok_some b48).2) mX35_first.2.2.1 mX35_first.2.2.2.2.1 (Nat.le_of_ble_eq_true rfl) (Nat.le_of_ble_eq_true rfl) (fun q hq => pX35_first (by omega) hq) (fun q49 hf => ?_)
      refine w_aload_n dX35_clear_486 rfl rfl ?_
      refine w_sipush dX35_clear_487 (v := 1979) (by decide) ?_
      refine w_bipush dX35_clear_490 (v := 100) (by decide) ?_
      obtain ⟨_, b50, hf⟩ := Option.bind_eq_some_iff.mp hf
      refine x_cnV hf (e_stV (Yc := YX35_first) (ci := 34) (av := [.int (1979 : Int32), .int (100 : Int32)]) (st := []) dX35_clear_492 q4480 mX35_first rfl (k_ok_some b50).1 (k_ok_some b50).2) mX35_first.2.2.1 mX35_first.2.2.2.2.1 (Nat.le_of_ble_eq_true rfl) (Nat.le_of_ble_eq_true rfl) (fun q hq => pX35_first (by omega) hq) (fun q51 hf => ?_)
      refine w_aload_n dX35_clear_495 rfl rfl ?_
      refine w_sipush dX35_clear_496 (v := 1981) (by decide) ?_
      refine w_sipush dX35_clear_499 (v := 10000) (by decide) ?_
      obtain ⟨_, b52, hf⟩ := Option.bind_eq_some_iff.mp hf
      refine x_cnV hf (e_stV (Yc := YX35_first) (ci := 34) (av := [.int (1981 : Int32), .int (10000 : Int32)]) (st := []) dX35_clear_502 q4480 mX35_first rfl (k_ok_some b52).1 (k_ok_some b52).2) mX35_first.2.2.1 mX35_first.2.2.2.2.1 (Nat.le_of_ble_eq_true rfl) (Nat.le_of_ble_eq_true rfl) (fun q hq => pX35_first (by omega) hq) (fun q53 hf => ?_)
      refine w_aload_n dX35_clear_505 rfl rfl ?_
      refine w_sipush dX35_clear_506 (v := 1982) (by decide) ?_
      refine w_sipush dX35_clear_509 (v := 10000) (by decide) ?_
      obtain ⟨_, b54, hf⟩ := Option.bind_eq_some_iff.mp hf
      refine x_cnV hf (e_stV (Yc := YX35_first) (ci := 34) (av := [.int (1982 : Int32), .int (10000 : Int32)]) (st := []) dX35_clear_512 q4480 mX35_first rfl (k_ok_some b54).1 (k_ok_some b54).2) mX35_first.2.2.1 mX35_first.2.2.2.2.1 (Nat.le_of_ble_eq_true rfl) (Nat.le_of_ble_eq_true rfl) (fun q hq => pX35_first (by omega) hq) (fun q55 hf => ?_)
      refine w_aload_n dX35_clear_515 rfl rfl ?_
      refine w_sipush dX35_clear_516 (v := 1983) (by decide) ?_
      refine w_sipush dX35_clear_519 (v := 5000) (by decide) ?_
      obtain ⟨_, b56, hf⟩ := Option.bind_eq_some_iff.mp hf
      refine x_cnV hf (e_stV (Yc := YX35_first) (ci := 34) (av := [.int (1983 : Int32), .int (5000 : Int32)]) (st := []) dX35_clear_522 q4480 mX35_first rfl (k_ok_some b56).1 (k_ok_some b56).2) mX35_first.2.2.1 mX35_first.2.2.2.2.1 (Nat.le_of_ble_eq_true rfl) (Nat.le_of_ble_eq_true rfl) (fun q hq => pX35_first (by omega) hq) (fun q57 hf => ?_)
      refine w_aload_n dX35_clear_525 rfl rfl ?_
      refine w_sipush dX35_clear_526 (v := 2241) (by decide) ?_
      refine w_ldc_w dX35_clear_529 q4484 ?_
      obtain ⟨_, b58, hf⟩ := Option.bind_eq_some_iff.mp hf
      refine x_cnV hf (e_stV (Yc := YX35_first) (ci := 34) (av := [.int (2241 : Int32), .int (26214400 : Int32)]) (st := []) dX35_clear_532 q4480 mX35_first rfl (k_ok_some b58).1 (k_ok_some b58).2) mX35_first.2.2.1 mX35_first.2.2.2.2.1 (Nat.le_of_ble_eq_true rfl) (Nat.le_of_ble_eq_true rfl) (fun q hq => pX35_first (by omega) hq) (fun q59 hf => ?_)
      refine w_aload_n dX35_clear_535 rfl rfl ?_
      refine w_sipush dX35_clear_536 (v := 2242) (by decide) ?_
      refine w_ldc_w dX35_clear_539 q4485 ?_
      obtain ⟨_, b60, hf⟩ := Option.bind_eq_some_iff.mp hf
      refine x_cnV hf (e_stV (Yc := YX35_first) (ci := 34) (av := [.int (2242 : Int32), .int (39321600 : Int32)]) (st := []) dX35_clear_542 q4480 mX35_first rfl (k_ok_some b60).1 (k_ok_some b60).2) mX35_first.2.2.1 mX35_first.2.2.2.2.1 (Nat.le_of_ble_eq_true rfl) (Nat.le_of_ble_eq_true rfl) (fun q hq => pX35_first (by omega) hq) (fun q61 hf => ?_)
      refine w_aload_n dX35_clear_545 rfl rfl ?_
      refine w_sipush dX35_clear_546 (v := 2243) (by decide) ?_
      refine w_ldc_w dX35_clear_549 q4486 ?_
      obtain ⟨_, b62, hf⟩ := Option.bind_eq_some_iff.mp hf
      refine x_cnV hf (e_stV (Yc := YX35_first) (ci := 34) (av := [.int (2243 : Int32), .int (1310720 : Int32)]) (st := []) dX35_clear_552 q4480 mX35_first rfl (k_ok_some b62).1 (k_ok_some b62).2) mX35_first.2.2.1 mX35_first.2.2.2.2.1 (Nat.le_of_ble_eq_true rfl) (Nat.le_of_ble_eq_true rfl) (fun q hq => pX35_first (by omega) hq) (fun q63 hf => ?_)
      refine w_aload_n dX35_clear_555 rfl rfl ?_
      refine w_sipush dX35_clear_556 (v := 2245) (by decide) ?_
      refine w_ldc_w dX35_clear_559 q4487 ?_
      obtain ⟨_, b64, hf⟩ := Option.bind_eq_some_iff.mp hf
      refine x_cnV hf (e_stV (Yc := YX35_first) (ci := 34) (av := [.int (2245 : Int32), .int (262144 : Int32)]) (st := []) dX35_clear_562 q4480 mX35_first rfl (k_ok_some b64).1 (k_ok_some b64).2) mX35_first.2.2.1 mX35_first.2.2.2.2.1 (Nat.le_of_ble_eq_true rfl) (Nat.le_of_ble_eq_true rfl) (fun q hq => pX35_first (by omega) hq) (fun q65 hf => ?_)
      refine w_aload_n dX35_clear_565 rfl rfl ?_
      refine w_sipush dX35_clear_566 (v := 3272) (by decide) ?_
      refine w_ldc dX35_clear_569 q4119 ?_
      obtain ⟨_, b66, hf⟩ := Option.bind_eq_some_iff.mp hf
      refine x_cnV hf (e_stV (Yc := YX35_first) (ci := 34) (av := [.int (3272 : Int32), .int (65536 : Int32)]) (st := []) dX35_clear_571 q4480 mX35_first rfl (k_ok_some b66).1 (k_ok_some b66).2) mX35_first.2.2.1 mX35_first.2.2.2.2.1 (Nat.le_of_ble_eq_true rfl) (Nat.le_of_ble_eq_true rfl) (fun q hq => pX35_first (by omega) hq) (fun q67 hf => ?_)
      refine w_aload_n dX35_clear_574 rfl rfl ?_
      refine w_sipush dX35_clear_575 (v := 3275) (by decide) ?_
      refine w_ldc_w dX35_clear_578 q4488 ?_
      obtain ⟨_, b68, hf⟩ := Option.bind_eq_some_iff.mp hf
      refine x_cnV hf (e_stV (Yc := YX35_first) (ci := 34) (av := [.int (3275 : Int32), .int (786432 : Int32)]) (st := []) dX35_clear_581 q4480 mX35_first rfl (k_ok_some b68).1 (k_ok_some b68).2) mX35_first.2.2.1 mX35_first.2.2.2.2.1 (Nat.le_of_ble_eq_true rfl) (Nat.le_of_ble_eq_true rfl) (fun q hq => pX35_first (by omega) hq) (fun q69 hf => ?_)
      refine w_aload_n dX35_clear_584 rfl rfl ?_
      refine w_sipush dX35_clear_585 (v := 3279) (by decide) ?_
      refine w_ldc dX35_clear_588 q4119 ?_
      obtain ⟨_, b70, hf⟩ := Option.bind_eq_some_iff.mp hf
      refine x_cnV hf (e_stV (Yc := YX35_first) (ci := 34) (av := [.int (3279 : Int32), .int (65536 : Int32)]) (st := []) dX35_clear_590 q4480 mX35_first rfl (k_ok_some b70).1 (k_ok_some b70).2) mX35_first.2.2.1 mX35_first.2.2.2.2.1 (Nat.le_of_ble_eq_true rfl) (Nat.le_of_ble_eq_true rfl) (fun q hq => pX35_first (by omega) hq) (fun q71 hf => ?_)
      refine w_aload_n dX35_clear_593 rfl rfl ?_
      refine w_sipush dX35_clear_594 (v := 3283) (by decide) ?_
      refine w_ldc_w dX35_clear_597 q4489 ?_
      obtain ⟨_, b72, hf⟩ := Option.bind_eq_some_iff.mp hf
      refine x_cnV hf (e_stV (Yc := YX35_first) (ci := 34) (av := [.int (3283 : Int32), .int (655360 : Int32)]) (st := []) dX35_clear_600 q4480 mX35_first rfl (k_ok_some b72).1 (k_ok_some b72).2) mX35_first.2.2.1 mX35_first.2.2.2.2.1 (Nat.le_of_ble_eq_true rfl) (Nat.le_of_ble_eq_true rfl) (fun q hq => pX35_first (by omega) hq) (fun q73 hf => ?_)
      refine w_aload_n dX35_clear_603 rfl rfl ?_
      refine w_sipush dX35_clear_604 (v := 3296) (by decide) ?_
      refine w_ldc dX35_clear_607 q4119 ?_
      obtain ⟨_, b74, hf⟩ := Option.bind_eq_some_iff.mp hf
      refine x_cnV hf (e_stV (Yc := YX35_first) (ci := 34) (av := [.int (3296 : Int32), .int (65536 : Int32)]) (st := []) dX35_clear_609 q4480 mX35_first rfl (k_ok_some b74).1 (k_ok_some b74).2) mX35_first.2.2.1 mX35_first.2.2.2.2.1 (Nat.le_of_ble_eq_true rfl) (Nat.le_of_ble_eq_true rfl) (fun q hq => pX35_first (by omega) hq) (fun q75 hf => ?_)
      refine w_aload_n dX35_clear_612 rfl rfl ?_
      refine w_sipush dX35_clear_613 (v := 3297) (by decide) ?_
      refine w_iconst dX35_clear_616 (v := 1) (by decide) ?_
      obtain ⟨_, b76, hf⟩ := Option.bind_eq_some_iff.mp hf
      refine x_cnV hf (e_stV (Yc := YX35_first) (ci := 34) (av := [.int (3297 : Int32), .int (1 : Int32)]) (st := []) dX35_clear_617 q4480 mX35_first rfl (k_ok_some b76).1 (k_ok_some b76).2) mX35_first.2.2.1 mX35_first.2.2.2.2.1 (Nat.le_of_ble_eq_true rfl) (Nat.le_of_ble_eq_true rfl) (fun q hq => pX35_first (by omega) hq) (fun q77 hf => ?_)
      refine w_aload_n dX35_clear_620 rfl rfl ?_
      refine x_ldcSw (k := 22) dX35_clear_621 rfl ?_
      obtain ⟨_, b78, hf⟩ := Option.bind_eq_some_iff.mp hf
      refine x_cnV hf (e_stV (Yc := YX35_primitives) (ci := 34) (av := [.ref 1000000122]) (st := []) dX35_clear_624 q4491 mX35_primitives rfl (k_ok_some b78).1 (k_ok_some b78).2) mX35_primitives.2.2.1 mX35_primitives.2.2.2.2.1 (Nat.le_of_ble_eq_true rfl) (Nat.le_of_ble_eq_true rfl) (fun q hq => pX35_primitives (by omega) hq) (fun q79 hf => ?_)
      refine w_aload_n dX35_clear_627 rfl rfl ?_
      refine x_ldcSw (k := 23) dX35_clear_628 rfl ?_
      obtain ⟨_, b80, hf⟩ := Option.bind_eq_some_iff.mp hf
      refine x_cnV hf (e_stV (Yc := YX35_primitives) (ci := 34) (av := [.ref 1000000123]) (st := []) dX35_clear_631 q4491 mX35_primitives rfl (k_ok_some b80).1 (k_ok_some b80).2) mX35_primitives.2.2.1 mX35_primitives.2.2.2.2.1 (Nat.le_of_ble_eq_true rfl) (Nat.le_of_ble_eq_true rfl) (fun q hq => pX35_primitives (by omega) hq) (fun q81 hf => ?_)
      cases hf
      exact w_vret dX35_clear_634 rfl rfl
    · replace hf := (if_neg (show ¬ ((256 : Int32) ≤ l1) from c1)).symm.trans hf
      refine w_aload_n dX35_clear_214 rfl rfl ?_
      obtain ⟨a82, b83, hf⟩ := Option.bind_eq_some_iff.mp hf
      refine GX35_65 b83 dX35_clear_215 rfl ?_
      refine w_sipush dX35_clear_218 (v := 3299) (by decide) ?_
      refine w_iload_n dX35_clear_221 rfl rfl ?_
      refine w_iadd dX35_clear_222 ?_
      refine w_iconst dX35_clear_223 (v := -1) (by decide) ?_
      obtain ⟨h84, b85, hf⟩ := Option.bind_eq_some_iff.mp hf
      refine x_qI b85 dX35_clear_224 ?_
      refine w_iload_n dX35_clear_225 rfl rfl ?_
      refine w_bipush dX35_clear_226 (v := 97) (by decide) ?_
      refine w_icmp_lt 237 dX35_clear_228 (by decide) (fun c86 => ?_) (fun c86 => ?_)
      · replace hf := (if_pos (show l1 < (97 : Int32) from c86)).symm.trans hf
        exact (pX35_clear_b237 hd ih hf).to ⟨rfl, rfl, trivial⟩
      · replace hf := (if_neg (show ¬ (l1 < (97 : Int32)) from c86)).symm.trans hf
        refine w_iload_n dX35_clear_231 rfl rfl ?_
        refine w_bipush dX35_clear_232 (v := 122) (by decide) ?_
        refine w_icmp_le 249 dX35_clear_234 (by decide) (fun c87 => ?_) (fun c87 => ?_)
        · replace hf := (if_pos (show l1 ≤ (122 : Int32) from c87)).symm.trans hf
          exact (pX35_clear_b249 hd ih hf).to ⟨rfl, rfl, trivial⟩
        · replace hf := (if_neg (show ¬ (l1 ≤ (122 : Int32)) from c87)).symm.trans hf
          exact (pX35_clear_b237 hd ih hf).to ⟨rfl, rfl, trivial⟩
def fX35_clear_b185 (N : Nat) : Nat → Nat → Int32 → eH → Option (Unit × eH)
  | 0, _, _, _ => none
  | n + 1, l0, l1, h =>
    if (3812 : Int32) ≤ l1 then
      fX35_clear_b207 N N l0 (0 : Int32) h
    else
      (g_A 34 h l0 22).bind fun a2 =>
      (q_V 100 h a2 l1 (.int (0 : Int32))).bind fun h4 =>
      fX35_clear_b185 N n l0 (l1 + (1 : Int32)) h4
theorem pX35_clear_b185 {w : eW} {d : Nat} (hd : 5 ≤ d + 1) {N : Nat} : ∀ (n : Nat) l0 l1 h q, fX35_clear_b185 N n l0 l1 h = some q → wp w (d + 1) YX35_clear 185 [some (.ref l0), some (.int l1), none] [] h (e_is (e_rn c_V q)) := by
  intro n
  induction n with
  | zero => intro l0 l1 h q hf; simp [fX35_clear_b185] at hf
  | succ n ih =>
    intro l0 l1 h q hf
    rw [fX35_clear_b185] at hf
    refine w_iload_n dX35_clear_185 rfl rfl ?_
    refine w_sipush dX35_clear_186 (v := 3812) (by decide) ?_
    refine w_icmp_ge 205 dX35_clear_189 (by decide) (fun c1 => ?_) (fun c1 => ?_)
    · replace hf := (if_pos (show (3812 : Int32) ≤ l1 from c1)).symm.trans hf
      refine w_iconst dX35_clear_205 (v := 0) (by decide) ?_
      refine w_istore_n dX35_clear_206 rfl (by decide) (ls' := [some (.ref l0), some (.int (0 : Int32)), none]) rfl ?_
      exact (pX35_clear_b207 hd N _ _ _ _ hf).to ⟨rfl, rfl, trivial⟩
    · replace hf := (if_neg (show ¬ ((3812 : Int32) ≤ l1) from c1)).symm.trans hf
      refine w_aload_n dX35_clear_192 rfl rfl ?_
      obtain ⟨a2, b3, hf⟩ := Option.bind_eq_some_iff.mp hf
      refine GX35_65 b3 dX35_clear_193 rfl ?_
      refine w_iload_n dX35_clear_196 rfl rfl ?_
      refine w_iconst dX35_clear_197 (v := 0) (by decide) ?_
      obtain ⟨h4, b5, hf⟩ := Option.bind_eq_some_iff.mp hf
      refine x_qI b5 dX35_clear_198 ?_
      refine w_iinc dX35_clear_199 (v := (l1 + (1 : Int32))) rfl rfl (by decide) (ls' := [some (.ref l0), some (.int (l1 + (1 : Int32))), none]) rfl ?_
      refine w_goto 185 dX35_clear_202 (by decide) ?_
      exact (ih _ _ _ _ hf).to ⟨rfl, rfl, trivial⟩
def fX35_clear (N : Nat) (this : Nat) (h : eH) : Option (Unit × eH) :=
  (p_V 34 h this 9 (.int (0 : Int32))).bind fun h1 =>
  (p_V 34 h1 this 10 (.int (0 : Int32))).bind fun h3 =>
  (p_V 34 h3 this 12 (.int (0 : Int32))).bind fun h5 =>
  (p_V 34 h5 this 13 (.int (0 : Int32))).bind fun h7 =>
  (p_V 34 h7 this 14 (.int (0 : Int32))).bind fun h9 =>
  (p_V 34 h9 this 21 (.int (0 : Int32))).bind fun h11 =>
  (p_V 34 h11 this 30 (.int (0 : Int32))).bind fun h13 =>
  (p_V 34 h13 this 35 (.int (0 : Int32))).bind fun h15 =>
  (p_V 34 h15 this 37 (.int (0 : Int32))).bind fun h17 =>
  (p_V 34 h17 this 41 (.int (0 : Int32))).bind fun h19 =>
  (p_V 34 h19 this 44 (.int (0 : Int32))).bind fun h21 =>
  (p_V 34 h21 this 45 (.int (0 : Int32))).bind fun h23 =>
  (p_V 34 h23 this 46 (.int (0 : Int32))).bind fun h25 =>
  (p_Z 34 h25 this 47 (0 : Int32)).bind fun h27 =>
  (p_V 34 h27 this 15 (.int (0 : Int32))).bind fun h29 =>
  (p_V 34 h29 this 48 (.int (0 : Int32))).bind fun h31 =>
  (p_V 34 h31 this 51 (.int (1 : Int32))).bind fun h33 =>
  (g_A 34 h33 this 52).bind fun a35 =>
  (q_V 100 h33 a35 (0 : Int32) (.int (0 : Int32))).bind fun h37 =>
  (g_A 34 h37 this 53).bind fun a39 =>
  (q_V 100 h37 a39 (0 : Int32) (.int (0 : Int32))).bind fun h41 =>
  (g_A 34 h41 this 54).bind fun a43 =>
  (q_V 100 h41 a43 (0 : Int32) (.int (-2147483647 : Int32))).bind fun h45 =>
  (p_V 34 h45 this 56 (.int (0 : Int32))).bind fun h47 =>
  (p_V 34 h47 this 58 (.int (0 : Int32))).bind fun h49 =>
  (p_V 34 h49 this 65 (.int (0 : Int32))).bind fun h51 =>
  (p_V 34 h51 this 86 (.int (0 : Int32))).bind fun h53 =>
  (p_Z 34 h53 this 94 (0 : Int32)).bind fun h55 =>
  (p_V 34 h55 this 95 (.int (0 : Int32))).bind fun h57 =>
  (p_V 34 h57 this 96 (.int (-1 : Int32))).bind fun h59 =>
  (p_V 34 h59 this 97 (.int (1073741823 : Int32))).bind fun h61 =>
  (p_V 34 h61 this 101 (.int (0 : Int32))).bind fun h63 =>
  (p_V 34 h63 this 110 (.int (0 : Int32))).bind fun h65 =>
  (p_V 34 h65 this 111 (.int (0 : Int32))).bind fun h67 =>
  (p_V 34 h67 this 112 (.int (0 : Int32))).bind fun h69 =>
  (p_V 34 h69 this 113 (.int (0 : Int32))).bind fun h71 =>
  (g_A 34 h71 this 6).bind fun a73 =>
  (p_V 36 h71 a73 21 (.int (0 : Int32))).bind fun h75 =>
  fX35_clear_b185 N N this (0 : Int32) h75
theorem pX35_clear {w : eW} {d : Nat} (hd : 5 ≤ d) {N : Nat} {this : Nat} {h : eH} {q} (hf : fX35_clear N this h = some q) : wm w d YX35_clear [.ref this] h (e_is (e_rn c_V q)) := by
  obtain ⟨d, rfl⟩ : ∃ e, d = e + 1 := ⟨d - 1, by omega⟩
  show wp w (d + 1) YX35_clear 0 [some (.ref this), none, none] [] h _
  unfold fX35_clear at hf
  refine w_aload_n dX35_clear_0 rfl rfl ?_
  refine w_iconst dX35_clear_1 (v := 0) (by decide) ?_
  obtain ⟨h1, b2, hf⟩ := Option.bind_eq_some_iff.mp hf
  refine SX35_326 b2 dX35_clear_2 rfl ?_
  refine w_aload_n dX35_clear_5 rfl rfl ?_
  refine w_iconst dX35_clear_6 (v := 0) (by decide) ?_
  obtain ⟨h3, b4, hf⟩ := Option.bind_eq_some_iff.mp hf
  refine SX35_329 b4 dX35_clear_7 rfl ?_
  refine w_aload_n dX35_clear_10 rfl rfl ?_
  refine w_iconst dX35_clear_11 (v := 0) (by decide) ?_
  obtain ⟨h5, b6, hf⟩ := Option.bind_eq_some_iff.mp hf
  refine SX35_332 b6 dX35_clear_12 rfl ?_
  refine w_aload_n dX35_clear_15 rfl rfl ?_
  refine w_iconst dX35_clear_16 (v := 0) (by decide) ?_
  obtain ⟨h7, b8, hf⟩ := Option.bind_eq_some_iff.mp hf
  refine SX35_335 b8 dX35_clear_17 rfl ?_
  refine w_aload_n dX35_clear_20 rfl rfl ?_
  refine w_iconst dX35_clear_21 (v := 0) (by decide) ?_
  obtain ⟨h9, b10, hf⟩ := Option.bind_eq_some_iff.mp hf
  refine SX35_338 b10 dX35_clear_22 rfl ?_
  refine w_aload_n dX35_clear_25 rfl rfl ?_
  refine w_iconst dX35_clear_26 (v := 0) (by decide) ?_
  obtain ⟨h11, b12, hf⟩ := Option.bind_eq_some_iff.mp hf
  refine SX35_323 b12 dX35_clear_27 rfl ?_
  refine w_aload_n dX35_clear_30 rfl rfl ?_
  refine w_iconst dX35_clear_31 (v := 0) (by decide) ?_
  obtain ⟨h13, b14, hf⟩ := Option.bind_eq_some_iff.mp hf
  refine SX35_341 b14 dX35_clear_32 rfl ?_
  refine w_aload_n dX35_clear_35 rfl rfl ?_
  refine w_iconst dX35_clear_36 (v := 0) (by decide) ?_
  obtain ⟨h15, b16, hf⟩ := Option.bind_eq_some_iff.mp hf
  refine SX35_344 b16 dX35_clear_37 rfl ?_
  refine w_aload_n dX35_clear_40 rfl rfl ?_
  refine w_iconst dX35_clear_41 (v := 0) (by decide) ?_
  obtain ⟨h17, b18, hf⟩ := Option.bind_eq_some_iff.mp hf
  refine SX35_347 b18 dX35_clear_42 rfl ?_
  refine w_aload_n dX35_clear_45 rfl rfl ?_
  refine w_iconst dX35_clear_46 (v := 0) (by decide) ?_
  obtain ⟨h19, b20, hf⟩ := Option.bind_eq_some_iff.mp hf
  refine SX35_350 b20 dX35_clear_47 rfl ?_
  refine w_aload_n dX35_clear_50 rfl rfl ?_
  refine w_iconst dX35_clear_51 (v := 0) (by decide) ?_
  obtain ⟨h21, b22, hf⟩ := Option.bind_eq_some_iff.mp hf
  refine SX35_300 b22 dX35_clear_52 rfl ?_
  refine w_aload_n dX35_clear_55 rfl rfl ?_
  refine w_iconst dX35_clear_56 (v := 0) (by decide) ?_
  obtain ⟨h23, b24, hf⟩ := Option.bind_eq_some_iff.mp hf
  refine SX35_353 b24 dX35_clear_57 rfl ?_
  refine w_aload_n dX35_clear_60 rfl rfl ?_
  refine w_iconst dX35_clear_61 (v := 0) (by decide) ?_
  obtain ⟨h25, b26, hf⟩ := Option.bind_eq_some_iff.mp hf
  refine SX35_321 b26 dX35_clear_62 rfl ?_
  refine w_aload_n dX35_clear_65 rfl rfl ?_
  refine w_iconst dX35_clear_66 (v := 0) (by decide) ?_
  obtain ⟨h27, b28, hf⟩ := Option.bind_eq_some_iff.mp hf
  refine SX35_356 b28 dX35_clear_67 rfl ?_
  refine w_aload_n dX35_clear_70 rfl rfl ?_
  refine w_iconst dX35_clear_71 (v := 0) (by decide) ?_
  obtain ⟨h29, b30, hf⟩ := Option.bind_eq_some_iff.mp hf
  refine SX35_360 b30 dX35_clear_72 rfl ?_
  refine w_aload_n dX35_clear_75 rfl rfl ?_
  refine w_iconst dX35_clear_76 (v := 0) (by decide) ?_
  obtain ⟨h31, b32, hf⟩ := Option.bind_eq_some_iff.mp hf
  refine SX35_363 b32 dX35_clear_77 rfl ?_
  refine w_aload_n dX35_clear_80 rfl rfl ?_
  refine w_iconst dX35_clear_81 (v := 1) (by decide) ?_
  obtain ⟨h33, b34, hf⟩ := Option.bind_eq_some_iff.mp hf
  refine SX35_366 b34 dX35_clear_82 rfl ?_
  refine w_aload_n dX35_clear_85 rfl rfl ?_
  obtain ⟨a35, b36, hf⟩ := Option.bind_eq_some_iff.mp hf
  refine GX35_127 b36 dX35_clear_86 rfl ?_
  refine w_iconst dX35_clear_89 (v := 0) (by decide) ?_
  refine w_iconst dX35_clear_90 (v := 0) (by decide) ?_
  obtain ⟨h37, b38, hf⟩ := Option.bind_eq_some_iff.mp hf
  refine x_qI b38 dX35_clear_91 ?_
  refine w_aload_n dX35_clear_92 rfl rfl ?_
  obtain ⟨a39, b40, hf⟩ := Option.bind_eq_some_iff.mp hf
  refine GX35_130 b40 dX35_clear_93 rfl ?_
  refine w_iconst dX35_clear_96 (v := 0) (by decide) ?_
  refine w_iconst dX35_clear_97 (v := 0) (by decide) ?_
  obtain ⟨h41, b42, hf⟩ := Option.bind_eq_some_iff.mp hf
  refine x_qI b42 dX35_clear_98 ?_
  refine w_aload_n dX35_clear_99 rfl rfl ?_
  obtain ⟨a43, b44, hf⟩ := Option.bind_eq_some_iff.mp hf
  refine GX35_133 b44 dX35_clear_100 rfl ?_
  refine w_iconst dX35_clear_103 (v := 0) (by decide) ?_
  refine w_ldc_w dX35_clear_104 q4478 ?_
  obtain ⟨h45, b46, hf⟩ := Option.bind_eq_some_iff.mp hf
  refine x_qI b46 dX35_clear_107 ?_
  refine w_aload_n dX35_clear_108 rfl rfl ?_
  refine w_iconst dX35_clear_109 (v := 0) (by decide) ?_
  obtain ⟨h47, b48, hf⟩ := Option.bind_eq_some_iff.mp hf
  refine SX35_370 b48 dX35_clear_110 rfl ?_
  refine w_aload_n dX35_clear_113 rfl rfl ?_
  refine w_iconst dX35_clear_114 (v := 0) (by decide) ?_
  obtain ⟨h49, b50, hf⟩ := Option.bind_eq_some_iff.mp hf
  refine SX35_373 b50 dX35_clear_115 rfl ?_
  refine w_aload_n dX35_clear_118 rfl rfl ?_
  refine w_iconst dX35_clear_119 (v := 0) (by decide) ?_
  obtain ⟨h51, b52, hf⟩ := Option.bind_eq_some_iff.mp hf
  refine SX35_306 b52 dX35_clear_120 rfl ?_
  refine w_aload_n dX35_clear_123 rfl rfl ?_
  refine w_iconst dX35_clear_124 (v := 0) (by decide) ?_
  obtain ⟨h53, b54, hf⟩ := Option.bind_eq_some_iff.mp hf
  refine SX35_376 b54 dX35_clear_125 rfl ?_
  refine w_aload_n dX35_clear_128 rfl rfl ?_
  refine w_iconst dX35_clear_129 (v := 0) (by decide) ?_
  obtain ⟨h55, b56, hf⟩ := Option.bind_eq_some_iff.mp hf
  refine SX35_379 b56 dX35_clear_130 rfl ?_
  refine w_aload_n dX35_clear_133 rfl rfl ?_
  refine w_iconst dX35_clear_134 (v := 0) (by decide) ?_
  obtain ⟨h57, b58, hf⟩ := Option.bind_eq_some_iff.mp hf
  refine SX35_382 b58 dX35_clear_135 rfl ?_
  refine w_aload_n dX35_clear_138 rfl rfl ?_
  refine w_iconst dX35_clear_139 (v := -1) (by decide) ?_
  obtain ⟨h59, b60, hf⟩ := Option.bind_eq_some_iff.mp hf
  refine SX35_385 b60 dX35_clear_140 rfl ?_
  refine w_aload_n dX35_clear_143 rfl rfl ?_
  refine w_ldc_w dX35_clear_144 q4479 ?_
  obtain ⟨h61, b62, hf⟩ := Option.bind_eq_some_iff.mp hf
  refine SX35_389 b62 dX35_clear_147 rfl ?_
  refine w_aload_n dX35_clear_150 rfl rfl ?_
  refine w_iconst dX35_clear_151 (v := 0) (by decide) ?_
  obtain ⟨h63, b64, hf⟩ := Option.bind_eq_some_iff.mp hf
  refine SX35_303 b64 dX35_clear_152 rfl ?_
  refine w_aload_n dX35_clear_155 rfl rfl ?_
  refine w_iconst dX35_clear_156 (v := 0) (by decide) ?_
  obtain ⟨h65, b66, hf⟩ := Option.bind_eq_some_iff.mp hf
  refine SX35_312 b66 dX35_clear_157 rfl ?_
  refine w_aload_n dX35_clear_160 rfl rfl ?_
  refine w_iconst dX35_clear_161 (v := 0) (by decide) ?_
  obtain ⟨h67, b68, hf⟩ := Option.bind_eq_some_iff.mp hf
  refine SX35_309 b68 dX35_clear_162 rfl ?_
  refine w_aload_n dX35_clear_165 rfl rfl ?_
  refine w_iconst dX35_clear_166 (v := 0) (by decide) ?_
  obtain ⟨h69, b70, hf⟩ := Option.bind_eq_some_iff.mp hf
  refine SX35_315 b70 dX35_clear_167 rfl ?_
  refine w_aload_n dX35_clear_170 rfl rfl ?_
  refine w_iconst dX35_clear_171 (v := 0) (by decide) ?_
  obtain ⟨h71, b72, hf⟩ := Option.bind_eq_some_iff.mp hf
  refine SX35_318 b72 dX35_clear_172 rfl ?_
  refine w_aload_n dX35_clear_175 rfl rfl ?_
  obtain ⟨a73, b74, hf⟩ := Option.bind_eq_some_iff.mp hf
  refine GX35_35 b74 dX35_clear_176 rfl ?_
  refine w_iconst dX35_clear_179 (v := 0) (by decide) ?_
  obtain ⟨h75, b76, hf⟩ := Option.bind_eq_some_iff.mp hf
  refine SX35_392 b76 dX35_clear_180 rfl ?_
  refine w_iconst dX35_clear_183 (v := 0) (by decide) ?_
  refine w_istore_n dX35_clear_184 rfl (by decide) (ls' := [some (.ref this), some (.int (0 : Int32)), none]) rfl ?_
  exact (pX35_clear_b185 hd N _ _ _ _ hf).to ⟨rfl, rfl, trivial⟩
abbrev cX35_init : ByteArray := prog_37_method_1_code
def yX35_init : MethodName := ⟨RX35, "<init>", "()V"⟩
def YX35_init : eY := (yX35_init, cX35_init, 1, none, [])
theorem mX35_init : e_mi YX35_init 0 := ⟨q4116, rfl, rfl, q4117, by decide, by decide +kernel, (e_sig (by decide +kernel))⟩
theorem dX35_init_0 : decode cX35_init 0 = .ok (.aload_n 0, 1) := dc_42 (by decide +kernel)
theorem dX35_init_1 : decode cX35_init 1 = .ok (.invokespecial 1, 3) := dc_183 (a := 0) (b := 1) (n := 1) (by decide +kernel)
theorem dX35_init_4 : decode cX35_init 4 = .ok (.aload_n 0, 1) := dc_42 (by decide +kernel)
theorem dX35_init_5 : decode cX35_init 5 = .ok (.ldc 7, 2) := dc_18 (a := 7) (by decide +kernel)
theorem dX35_init_7 : decode cX35_init 7 = .ok (.newarray .byte, 2) := dc_188_8 (by decide +kernel)
theorem dX35_init_9 : decode cX35_init 9 = .ok (.putfield 8, 3) := dc_181 (a := 0) (b := 8) (n := 8) (by decide +kernel)
theorem dX35_init_12 : decode cX35_init 12 = .ok (.aload_n 0, 1) := dc_42 (by decide +kernel)
theorem dX35_init_13 : decode cX35_init 13 = .ok (.ldc 14, 2) := dc_18 (a := 14) (by decide +kernel)
theorem dX35_init_15 : decode cX35_init 15 = .ok (.putfield 15, 3) := dc_181 (a := 0) (b := 15) (n := 15) (by decide +kernel)
theorem dX35_init_18 : decode cX35_init 18 = .ok (.aload_n 0, 1) := dc_42 (by decide +kernel)
theorem dX35_init_19 : decode cX35_init 19 = .ok (.bipush 16, 2) := dc_16 (a := 16) (v := 16) (by decide +kernel)
theorem dX35_init_21 : decode cX35_init 21 = .ok (.anewarray 19, 3) := dc_189 (a := 0) (b := 19) (n := 19) (by decide +kernel)
theorem dX35_init_24 : decode cX35_init 24 = .ok (.putfield 21, 3) := dc_181 (a := 0) (b := 21) (n := 21) (by decide +kernel)
theorem dX35_init_27 : decode cX35_init 27 = .ok (.aload_n 0, 1) := dc_42 (by decide +kernel)
theorem dX35_init_28 : decode cX35_init 28 = .ok (.new 25, 3) := dc_187 (a := 0) (b := 25) (n := 25) (by decide +kernel)
theorem dX35_init_31 : decode cX35_init 31 = .ok (.dup, 1) := dc_89 (by decide +kernel)
theorem dX35_init_32 : decode cX35_init 32 = .ok (.invokespecial 27, 3) := dc_183 (a := 0) (b := 27) (n := 27) (by decide +kernel)
theorem dX35_init_35 : decode cX35_init 35 = .ok (.putfield 28, 3) := dc_181 (a := 0) (b := 28) (n := 28) (by decide +kernel)
theorem dX35_init_38 : decode cX35_init 38 = .ok (.aload_n 0, 1) := dc_42 (by decide +kernel)
theorem dX35_init_39 : decode cX35_init 39 = .ok (.new 32, 3) := dc_187 (a := 0) (b := 32) (n := 32) (by decide +kernel)
theorem dX35_init_42 : decode cX35_init 42 = .ok (.dup, 1) := dc_89 (by decide +kernel)
theorem dX35_init_43 : decode cX35_init 43 = .ok (.invokespecial 34, 3) := dc_183 (a := 0) (b := 34) (n := 34) (by decide +kernel)
theorem dX35_init_46 : decode cX35_init 46 = .ok (.putfield 35, 3) := dc_181 (a := 0) (b := 35) (n := 35) (by decide +kernel)
theorem dX35_init_49 : decode cX35_init 49 = .ok (.aload_n 0, 1) := dc_42 (by decide +kernel)
theorem dX35_init_50 : decode cX35_init 50 = .ok (.new 39, 3) := dc_187 (a := 0) (b := 39) (n := 39) (by decide +kernel)
theorem dX35_init_53 : decode cX35_init 53 = .ok (.dup, 1) := dc_89 (by decide +kernel)
theorem dX35_init_54 : decode cX35_init 54 = .ok (.invokespecial 41, 3) := dc_183 (a := 0) (b := 41) (n := 41) (by decide +kernel)
theorem dX35_init_57 : decode cX35_init 57 = .ok (.putfield 42, 3) := dc_181 (a := 0) (b := 42) (n := 42) (by decide +kernel)
theorem dX35_init_60 : decode cX35_init 60 = .ok (.aload_n 0, 1) := dc_42 (by decide +kernel)
theorem dX35_init_61 : decode cX35_init 61 = .ok (.ldc 46, 2) := dc_18 (a := 46) (by decide +kernel)
theorem dX35_init_63 : decode cX35_init 63 = .ok (.newarray .int, 2) := dc_188_10 (by decide +kernel)
theorem dX35_init_65 : decode cX35_init 65 = .ok (.putfield 47, 3) := dc_181 (a := 0) (b := 47) (n := 47) (by decide +kernel)
theorem dX35_init_68 : decode cX35_init 68 = .ok (.aload_n 0, 1) := dc_42 (by decide +kernel)
theorem dX35_init_69 : decode cX35_init 69 = .ok (.ldc 51, 2) := dc_18 (a := 51) (by decide +kernel)
theorem dX35_init_71 : decode cX35_init 71 = .ok (.newarray .byte, 2) := dc_188_8 (by decide +kernel)
theorem dX35_init_73 : decode cX35_init 73 = .ok (.putfield 52, 3) := dc_181 (a := 0) (b := 52) (n := 52) (by decide +kernel)
theorem dX35_init_76 : decode cX35_init 76 = .ok (.aload_n 0, 1) := dc_42 (by decide +kernel)
theorem dX35_init_77 : decode cX35_init 77 = .ok (.sipush 1100, 3) := dc_17 (a := 4) (b := 76) (v := 1100) (by decide +kernel)
theorem dX35_init_80 : decode cX35_init 80 = .ok (.newarray .int, 2) := dc_188_10 (by decide +kernel)
theorem dX35_init_82 : decode cX35_init 82 = .ok (.putfield 55, 3) := dc_181 (a := 0) (b := 55) (n := 55) (by decide +kernel)
theorem dX35_init_85 : decode cX35_init 85 = .ok (.aload_n 0, 1) := dc_42 (by decide +kernel)
theorem dX35_init_86 : decode cX35_init 86 = .ok (.bipush 41, 2) := dc_16 (a := 41) (v := 41) (by decide +kernel)
theorem dX35_init_88 : decode cX35_init 88 = .ok (.newarray .int, 2) := dc_188_10 (by decide +kernel)
theorem dX35_init_90 : decode cX35_init 90 = .ok (.putfield 58, 3) := dc_181 (a := 0) (b := 58) (n := 58) (by decide +kernel)
theorem dX35_init_93 : decode cX35_init 93 = .ok (.aload_n 0, 1) := dc_42 (by decide +kernel)
theorem dX35_init_94 : decode cX35_init 94 = .ok (.sipush 1722, 3) := dc_17 (a := 6) (b := 186) (v := 1722) (by decide +kernel)
theorem dX35_init_97 : decode cX35_init 97 = .ok (.newarray .int, 2) := dc_188_10 (by decide +kernel)
theorem dX35_init_99 : decode cX35_init 99 = .ok (.putfield 61, 3) := dc_181 (a := 0) (b := 61) (n := 61) (by decide +kernel)
theorem dX35_init_102 : decode cX35_init 102 = .ok (.aload_n 0, 1) := dc_42 (by decide +kernel)
theorem dX35_init_103 : decode cX35_init 103 = .ok (.ldc 64, 2) := dc_18 (a := 64) (by decide +kernel)
theorem dX35_init_105 : decode cX35_init 105 = .ok (.newarray .int, 2) := dc_188_10 (by decide +kernel)
theorem dX35_init_107 : decode cX35_init 107 = .ok (.putfield 65, 3) := dc_181 (a := 0) (b := 65) (n := 65) (by decide +kernel)
theorem dX35_init_110 : decode cX35_init 110 = .ok (.aload_n 0, 1) := dc_42 (by decide +kernel)
theorem dX35_init_111 : decode cX35_init 111 = .ok (.bipush 101, 2) := dc_16 (a := 101) (v := 101) (by decide +kernel)
theorem dX35_init_113 : decode cX35_init 113 = .ok (.newarray .int, 2) := dc_188_10 (by decide +kernel)
theorem dX35_init_115 : decode cX35_init 115 = .ok (.putfield 68, 3) := dc_181 (a := 0) (b := 68) (n := 68) (by decide +kernel)
theorem dX35_init_118 : decode cX35_init 118 = .ok (.aload_n 0, 1) := dc_42 (by decide +kernel)
theorem dX35_init_119 : decode cX35_init 119 = .ok (.bipush 101, 2) := dc_16 (a := 101) (v := 101) (by decide +kernel)
theorem dX35_init_121 : decode cX35_init 121 = .ok (.newarray .boolean, 2) := dc_188_4 (by decide +kernel)
theorem dX35_init_123 : decode cX35_init 123 = .ok (.putfield 71, 3) := dc_181 (a := 0) (b := 71) (n := 71) (by decide +kernel)
theorem dX35_init_126 : decode cX35_init 126 = .ok (.aload_n 0, 1) := dc_42 (by decide +kernel)
theorem dX35_init_127 : decode cX35_init 127 = .ok (.bipush 101, 2) := dc_16 (a := 101) (v := 101) (by decide +kernel)
theorem dX35_init_129 : decode cX35_init 129 = .ok (.newarray .int, 2) := dc_188_10 (by decide +kernel)
theorem dX35_init_131 : decode cX35_init 131 = .ok (.putfield 75, 3) := dc_181 (a := 0) (b := 75) (n := 75) (by decide +kernel)
theorem dX35_init_134 : decode cX35_init 134 = .ok (.aload_n 0, 1) := dc_42 (by decide +kernel)
theorem dX35_init_135 : decode cX35_init 135 = .ok (.bipush 101, 2) := dc_16 (a := 101) (v := 101) (by decide +kernel)
theorem dX35_init_137 : decode cX35_init 137 = .ok (.newarray .int, 2) := dc_188_10 (by decide +kernel)
theorem dX35_init_139 : decode cX35_init 139 = .ok (.putfield 78, 3) := dc_181 (a := 0) (b := 78) (n := 78) (by decide +kernel)
theorem dX35_init_142 : decode cX35_init 142 = .ok (.aload_n 0, 1) := dc_42 (by decide +kernel)
theorem dX35_init_143 : decode cX35_init 143 = .ok (.bipush 101, 2) := dc_16 (a := 101) (v := 101) (by decide +kernel)
theorem dX35_init_145 : decode cX35_init 145 = .ok (.newarray .int, 2) := dc_188_10 (by decide +kernel)
theorem dX35_init_147 : decode cX35_init 147 = .ok (.putfield 81, 3) := dc_181 (a := 0) (b := 81) (n := 81) (by decide +kernel)
theorem dX35_init_150 : decode cX35_init 150 = .ok (.aload_n 0, 1) := dc_42 (by decide +kernel)
theorem dX35_init_151 : decode cX35_init 151 = .ok (.bipush 101, 2) := dc_16 (a := 101) (v := 101) (by decide +kernel)
theorem dX35_init_153 : decode cX35_init 153 = .ok (.newarray .int, 2) := dc_188_10 (by decide +kernel)
theorem dX35_init_155 : decode cX35_init 155 = .ok (.putfield 84, 3) := dc_181 (a := 0) (b := 84) (n := 84) (by decide +kernel)
theorem dX35_init_158 : decode cX35_init 158 = .ok (.aload_n 0, 1) := dc_42 (by decide +kernel)
theorem dX35_init_159 : decode cX35_init 159 = .ok (.bipush 101, 2) := dc_16 (a := 101) (v := 101) (by decide +kernel)
theorem dX35_init_161 : decode cX35_init 161 = .ok (.newarray .boolean, 2) := dc_188_4 (by decide +kernel)
theorem dX35_init_163 : decode cX35_init 163 = .ok (.putfield 87, 3) := dc_181 (a := 0) (b := 87) (n := 87) (by decide +kernel)
theorem dX35_init_166 : decode cX35_init 166 = .ok (.aload_n 0, 1) := dc_42 (by decide +kernel)
theorem dX35_init_167 : decode cX35_init 167 = .ok (.sipush 10002, 3) := dc_17 (a := 39) (b := 18) (v := 10002) (by decide +kernel)
theorem dX35_init_170 : decode cX35_init 170 = .ok (.newarray .int, 2) := dc_188_10 (by decide +kernel)
theorem dX35_init_172 : decode cX35_init 172 = .ok (.putfield 90, 3) := dc_181 (a := 0) (b := 90) (n := 90) (by decide +kernel)
theorem dX35_init_175 : decode cX35_init 175 = .ok (.aload_n 0, 1) := dc_42 (by decide +kernel)
theorem dX35_init_176 : decode cX35_init 176 = .ok (.sipush 10002, 3) := dc_17 (a := 39) (b := 18) (v := 10002) (by decide +kernel)
theorem dX35_init_179 : decode cX35_init 179 = .ok (.newarray .int, 2) := dc_188_10 (by decide +kernel)
theorem dX35_init_181 : decode cX35_init 181 = .ok (.putfield 93, 3) := dc_181 (a := 0) (b := 93) (n := 93) (by decide +kernel)
theorem dX35_init_184 : decode cX35_init 184 = .ok (.aload_n 0, 1) := dc_42 (by decide +kernel)
theorem dX35_init_185 : decode cX35_init 185 = .ok (.sipush 10002, 3) := dc_17 (a := 39) (b := 18) (v := 10002) (by decide +kernel)
theorem dX35_init_188 : decode cX35_init 188 = .ok (.newarray .int, 2) := dc_188_10 (by decide +kernel)
theorem dX35_init_190 : decode cX35_init 190 = .ok (.putfield 96, 3) := dc_181 (a := 0) (b := 96) (n := 96) (by decide +kernel)
theorem dX35_init_193 : decode cX35_init 193 = .ok (.aload_n 0, 1) := dc_42 (by decide +kernel)
theorem dX35_init_194 : decode cX35_init 194 = .ok (.sipush 10002, 3) := dc_17 (a := 39) (b := 18) (v := 10002) (by decide +kernel)
theorem dX35_init_197 : decode cX35_init 197 = .ok (.newarray .int, 2) := dc_188_10 (by decide +kernel)
theorem dX35_init_199 : decode cX35_init 199 = .ok (.putfield 99, 3) := dc_181 (a := 0) (b := 99) (n := 99) (by decide +kernel)
theorem dX35_init_202 : decode cX35_init 202 = .ok (.aload_n 0, 1) := dc_42 (by decide +kernel)
theorem dX35_init_203 : decode cX35_init 203 = .ok (.sipush 10001, 3) := dc_17 (a := 39) (b := 17) (v := 10001) (by decide +kernel)
theorem dX35_init_206 : decode cX35_init 206 = .ok (.newarray .int, 2) := dc_188_10 (by decide +kernel)
theorem dX35_init_208 : decode cX35_init 208 = .ok (.putfield 102, 3) := dc_181 (a := 0) (b := 102) (n := 102) (by decide +kernel)
theorem dX35_init_211 : decode cX35_init 211 = .ok (.aload_n 0, 1) := dc_42 (by decide +kernel)
theorem dX35_init_212 : decode cX35_init 212 = .ok (.sipush 10600, 3) := dc_17 (a := 41) (b := 104) (v := 10600) (by decide +kernel)
theorem dX35_init_215 : decode cX35_init 215 = .ok (.newarray .int, 2) := dc_188_10 (by decide +kernel)
theorem dX35_init_217 : decode cX35_init 217 = .ok (.putfield 105, 3) := dc_181 (a := 0) (b := 105) (n := 105) (by decide +kernel)
theorem dX35_init_220 : decode cX35_init 220 = .ok (.aload_n 0, 1) := dc_42 (by decide +kernel)
theorem dX35_init_221 : decode cX35_init 221 = .ok (.ldc 108, 2) := dc_18 (a := 108) (by decide +kernel)
theorem dX35_init_223 : decode cX35_init 223 = .ok (.newarray .int, 2) := dc_188_10 (by decide +kernel)
theorem dX35_init_225 : decode cX35_init 225 = .ok (.putfield 109, 3) := dc_181 (a := 0) (b := 109) (n := 109) (by decide +kernel)
theorem dX35_init_228 : decode cX35_init 228 = .ok (.aload_n 0, 1) := dc_42 (by decide +kernel)
theorem dX35_init_229 : decode cX35_init 229 = .ok (.bipush 9, 2) := dc_16 (a := 9) (v := 9) (by decide +kernel)
theorem dX35_init_231 : decode cX35_init 231 = .ok (.newarray .int, 2) := dc_188_10 (by decide +kernel)
theorem dX35_init_233 : decode cX35_init 233 = .ok (.putfield 112, 3) := dc_181 (a := 0) (b := 112) (n := 112) (by decide +kernel)
theorem dX35_init_236 : decode cX35_init 236 = .ok (.aload_n 0, 1) := dc_42 (by decide +kernel)
theorem dX35_init_237 : decode cX35_init 237 = .ok (.bipush 101, 2) := dc_16 (a := 101) (v := 101) (by decide +kernel)
theorem dX35_init_239 : decode cX35_init 239 = .ok (.newarray .boolean, 2) := dc_188_4 (by decide +kernel)
theorem dX35_init_241 : decode cX35_init 241 = .ok (.putfield 115, 3) := dc_181 (a := 0) (b := 115) (n := 115) (by decide +kernel)
theorem dX35_init_244 : decode cX35_init 244 = .ok (.aload_n 0, 1) := dc_42 (by decide +kernel)
theorem dX35_init_245 : decode cX35_init 245 = .ok (.bipush 101, 2) := dc_16 (a := 101) (v := 101) (by decide +kernel)
theorem dX35_init_247 : decode cX35_init 247 = .ok (.newarray .int, 2) := dc_188_10 (by decide +kernel)
theorem dX35_init_249 : decode cX35_init 249 = .ok (.putfield 118, 3) := dc_181 (a := 0) (b := 118) (n := 118) (by decide +kernel)
theorem dX35_init_252 : decode cX35_init 252 = .ok (.aload_n 0, 1) := dc_42 (by decide +kernel)
theorem dX35_init_253 : decode cX35_init 253 = .ok (.bipush 100, 2) := dc_16 (a := 100) (v := 100) (by decide +kernel)
theorem dX35_init_255 : decode cX35_init 255 = .ok (.newarray .int, 2) := dc_188_10 (by decide +kernel)
theorem dX35_init_257 : decode cX35_init 257 = .ok (.putfield 121, 3) := dc_181 (a := 0) (b := 121) (n := 121) (by decide +kernel)
theorem dX35_init_260 : decode cX35_init 260 = .ok (.aload_n 0, 1) := dc_42 (by decide +kernel)
theorem dX35_init_261 : decode cX35_init 261 = .ok (.bipush 100, 2) := dc_16 (a := 100) (v := 100) (by decide +kernel)
theorem dX35_init_263 : decode cX35_init 263 = .ok (.newarray .int, 2) := dc_188_10 (by decide +kernel)
theorem dX35_init_265 : decode cX35_init 265 = .ok (.putfield 124, 3) := dc_181 (a := 0) (b := 124) (n := 124) (by decide +kernel)
theorem dX35_init_268 : decode cX35_init 268 = .ok (.aload_n 0, 1) := dc_42 (by decide +kernel)
theorem dX35_init_269 : decode cX35_init 269 = .ok (.sipush 260, 3) := dc_17 (a := 1) (b := 4) (v := 260) (by decide +kernel)
theorem dX35_init_272 : decode cX35_init 272 = .ok (.newarray .int, 2) := dc_188_10 (by decide +kernel)
theorem dX35_init_274 : decode cX35_init 274 = .ok (.putfield 127, 3) := dc_181 (a := 0) (b := 127) (n := 127) (by decide +kernel)
theorem dX35_init_277 : decode cX35_init 277 = .ok (.aload_n 0, 1) := dc_42 (by decide +kernel)
theorem dX35_init_278 : decode cX35_init 278 = .ok (.sipush 260, 3) := dc_17 (a := 1) (b := 4) (v := 260) (by decide +kernel)
theorem dX35_init_281 : decode cX35_init 281 = .ok (.newarray .int, 2) := dc_188_10 (by decide +kernel)
theorem dX35_init_283 : decode cX35_init 283 = .ok (.putfield 130, 3) := dc_181 (a := 0) (b := 130) (n := 130) (by decide +kernel)
theorem dX35_init_286 : decode cX35_init 286 = .ok (.aload_n 0, 1) := dc_42 (by decide +kernel)
theorem dX35_init_287 : decode cX35_init 287 = .ok (.sipush 260, 3) := dc_17 (a := 1) (b := 4) (v := 260) (by decide +kernel)
theorem dX35_init_290 : decode cX35_init 290 = .ok (.newarray .int, 2) := dc_188_10 (by decide +kernel)
theorem dX35_init_292 : decode cX35_init 292 = .ok (.putfield 133, 3) := dc_181 (a := 0) (b := 133) (n := 133) (by decide +kernel)
theorem dX35_init_295 : decode cX35_init 295 = .ok (.aload_n 0, 1) := dc_42 (by decide +kernel)
theorem dX35_init_296 : decode cX35_init 296 = .ok (.sipush 6000, 3) := dc_17 (a := 23) (b := 112) (v := 6000) (by decide +kernel)
theorem dX35_init_299 : decode cX35_init 299 = .ok (.newarray .int, 2) := dc_188_10 (by decide +kernel)
theorem dX35_init_301 : decode cX35_init 301 = .ok (.putfield 136, 3) := dc_181 (a := 0) (b := 136) (n := 136) (by decide +kernel)
theorem dX35_init_304 : decode cX35_init 304 = .ok (.aload_n 0, 1) := dc_42 (by decide +kernel)
theorem dX35_init_305 : decode cX35_init 305 = .ok (.bipush 64, 2) := dc_16 (a := 64) (v := 64) (by decide +kernel)
theorem dX35_init_307 : decode cX35_init 307 = .ok (.newarray .int, 2) := dc_188_10 (by decide +kernel)
theorem dX35_init_309 : decode cX35_init 309 = .ok (.putfield 139, 3) := dc_181 (a := 0) (b := 139) (n := 139) (by decide +kernel)
theorem dX35_init_312 : decode cX35_init 312 = .ok (.aload_n 0, 1) := dc_42 (by decide +kernel)
theorem dX35_init_313 : decode cX35_init 313 = .ok (.sipush 1100, 3) := dc_17 (a := 4) (b := 76) (v := 1100) (by decide +kernel)
theorem dX35_init_316 : decode cX35_init 316 = .ok (.newarray .int, 2) := dc_188_10 (by decide +kernel)
theorem dX35_init_318 : decode cX35_init 318 = .ok (.putfield 142, 3) := dc_181 (a := 0) (b := 142) (n := 142) (by decide +kernel)
theorem dX35_init_321 : decode cX35_init 321 = .ok (.aload_n 0, 1) := dc_42 (by decide +kernel)
theorem dX35_init_322 : decode cX35_init 322 = .ok (.sipush 1100, 3) := dc_17 (a := 4) (b := 76) (v := 1100) (by decide +kernel)
theorem dX35_init_325 : decode cX35_init 325 = .ok (.newarray .int, 2) := dc_188_10 (by decide +kernel)
theorem dX35_init_327 : decode cX35_init 327 = .ok (.putfield 145, 3) := dc_181 (a := 0) (b := 145) (n := 145) (by decide +kernel)
theorem dX35_init_330 : decode cX35_init 330 = .ok (.aload_n 0, 1) := dc_42 (by decide +kernel)
theorem dX35_init_331 : decode cX35_init 331 = .ok (.sipush 12060, 3) := dc_17 (a := 47) (b := 28) (v := 12060) (by decide +kernel)
theorem dX35_init_334 : decode cX35_init 334 = .ok (.newarray .int, 2) := dc_188_10 (by decide +kernel)
theorem dX35_init_336 : decode cX35_init 336 = .ok (.putfield 148, 3) := dc_181 (a := 0) (b := 148) (n := 148) (by decide +kernel)
theorem dX35_init_339 : decode cX35_init 339 = .ok (.aload_n 0, 1) := dc_42 (by decide +kernel)
theorem dX35_init_340 : decode cX35_init 340 = .ok (.sipush 3001, 3) := dc_17 (a := 11) (b := 185) (v := 3001) (by decide +kernel)
theorem dX35_init_343 : decode cX35_init 343 = .ok (.newarray .int, 2) := dc_188_10 (by decide +kernel)
theorem dX35_init_345 : decode cX35_init 345 = .ok (.putfield 151, 3) := dc_181 (a := 0) (b := 151) (n := 151) (by decide +kernel)
theorem dX35_init_348 : decode cX35_init 348 = .ok (.aload_n 0, 1) := dc_42 (by decide +kernel)
theorem dX35_init_349 : decode cX35_init 349 = .ok (.sipush 3000, 3) := dc_17 (a := 11) (b := 184) (v := 3000) (by decide +kernel)
theorem dX35_init_352 : decode cX35_init 352 = .ok (.newarray .boolean, 2) := dc_188_4 (by decide +kernel)
theorem dX35_init_354 : decode cX35_init 354 = .ok (.putfield 154, 3) := dc_181 (a := 0) (b := 154) (n := 154) (by decide +kernel)
theorem dX35_init_357 : decode cX35_init 357 = .ok (.aload_n 0, 1) := dc_42 (by decide +kernel)
theorem dX35_init_358 : decode cX35_init 358 = .ok (.sipush 3000, 3) := dc_17 (a := 11) (b := 184) (v := 3000) (by decide +kernel)
theorem dX35_init_361 : decode cX35_init 361 = .ok (.newarray .int, 2) := dc_188_10 (by decide +kernel)
theorem dX35_init_363 : decode cX35_init 363 = .ok (.putfield 157, 3) := dc_181 (a := 0) (b := 157) (n := 157) (by decide +kernel)
theorem dX35_init_366 : decode cX35_init 366 = .ok (.aload_n 0, 1) := dc_42 (by decide +kernel)
theorem dX35_init_367 : decode cX35_init 367 = .ok (.sipush 3000, 3) := dc_17 (a := 11) (b := 184) (v := 3000) (by decide +kernel)
theorem dX35_init_370 : decode cX35_init 370 = .ok (.newarray .int, 2) := dc_188_10 (by decide +kernel)
theorem dX35_init_372 : decode cX35_init 372 = .ok (.putfield 160, 3) := dc_181 (a := 0) (b := 160) (n := 160) (by decide +kernel)
theorem dX35_init_375 : decode cX35_init 375 = .ok (.aload_n 0, 1) := dc_42 (by decide +kernel)
theorem dX35_init_376 : decode cX35_init 376 = .ok (.sipush 3000, 3) := dc_17 (a := 11) (b := 184) (v := 3000) (by decide +kernel)
theorem dX35_init_379 : decode cX35_init 379 = .ok (.newarray .int, 2) := dc_188_10 (by decide +kernel)
theorem dX35_init_381 : decode cX35_init 381 = .ok (.putfield 163, 3) := dc_181 (a := 0) (b := 163) (n := 163) (by decide +kernel)
theorem dX35_init_384 : decode cX35_init 384 = .ok (.aload_n 0, 1) := dc_42 (by decide +kernel)
theorem dX35_init_385 : decode cX35_init 385 = .ok (.sipush 3000, 3) := dc_17 (a := 11) (b := 184) (v := 3000) (by decide +kernel)
theorem dX35_init_388 : decode cX35_init 388 = .ok (.newarray .int, 2) := dc_188_10 (by decide +kernel)
theorem dX35_init_390 : decode cX35_init 390 = .ok (.putfield 166, 3) := dc_181 (a := 0) (b := 166) (n := 166) (by decide +kernel)
theorem dX35_init_393 : decode cX35_init 393 = .ok (.aload_n 0, 1) := dc_42 (by decide +kernel)
theorem dX35_init_394 : decode cX35_init 394 = .ok (.sipush 3000, 3) := dc_17 (a := 11) (b := 184) (v := 3000) (by decide +kernel)
theorem dX35_init_397 : decode cX35_init 397 = .ok (.newarray .int, 2) := dc_188_10 (by decide +kernel)
theorem dX35_init_399 : decode cX35_init 399 = .ok (.putfield 169, 3) := dc_181 (a := 0) (b := 169) (n := 169) (by decide +kernel)
theorem dX35_init_402 : decode cX35_init 402 = .ok (.aload_n 0, 1) := dc_42 (by decide +kernel)
theorem dX35_init_403 : decode cX35_init 403 = .ok (.sipush 3000, 3) := dc_17 (a := 11) (b := 184) (v := 3000) (by decide +kernel)
theorem dX35_init_406 : decode cX35_init 406 = .ok (.newarray .int, 2) := dc_188_10 (by decide +kernel)
theorem dX35_init_408 : decode cX35_init 408 = .ok (.putfield 172, 3) := dc_181 (a := 0) (b := 172) (n := 172) (by decide +kernel)
theorem dX35_init_411 : decode cX35_init 411 = .ok (.aload_n 0, 1) := dc_42 (by decide +kernel)
theorem dX35_init_412 : decode cX35_init 412 = .ok (.sipush 3000, 3) := dc_17 (a := 11) (b := 184) (v := 3000) (by decide +kernel)
theorem dX35_init_415 : decode cX35_init 415 = .ok (.newarray .int, 2) := dc_188_10 (by decide +kernel)
theorem dX35_init_417 : decode cX35_init 417 = .ok (.putfield 175, 3) := dc_181 (a := 0) (b := 175) (n := 175) (by decide +kernel)
theorem dX35_init_420 : decode cX35_init 420 = .ok (.aload_n 0, 1) := dc_42 (by decide +kernel)
theorem dX35_init_421 : decode cX35_init 421 = .ok (.sipush 3000, 3) := dc_17 (a := 11) (b := 184) (v := 3000) (by decide +kernel)
theorem dX35_init_424 : decode cX35_init 424 = .ok (.newarray .int, 2) := dc_188_10 (by decide +kernel)
theorem dX35_init_426 : decode cX35_init 426 = .ok (.putfield 178, 3) := dc_181 (a := 0) (b := 178) (n := 178) (by decide +kernel)
theorem dX35_init_429 : decode cX35_init 429 = .ok (.aload_n 0, 1) := dc_42 (by decide +kernel)
theorem dX35_init_430 : decode cX35_init 430 = .ok (.sipush 3000, 3) := dc_17 (a := 11) (b := 184) (v := 3000) (by decide +kernel)
theorem dX35_init_433 : decode cX35_init 433 = .ok (.newarray .int, 2) := dc_188_10 (by decide +kernel)
theorem dX35_init_435 : decode cX35_init 435 = .ok (.putfield 181, 3) := dc_181 (a := 0) (b := 181) (n := 181) (by decide +kernel)
theorem dX35_init_438 : decode cX35_init 438 = .ok (.aload_n 0, 1) := dc_42 (by decide +kernel)
theorem dX35_init_439 : decode cX35_init 439 = .ok (.ldc 184, 2) := dc_18 (a := 184) (by decide +kernel)
theorem dX35_init_441 : decode cX35_init 441 = .ok (.newarray .int, 2) := dc_188_10 (by decide +kernel)
theorem dX35_init_443 : decode cX35_init 443 = .ok (.putfield 185, 3) := dc_181 (a := 0) (b := 185) (n := 185) (by decide +kernel)
theorem dX35_init_446 : decode cX35_init 446 = .ok (.aload_n 0, 1) := dc_42 (by decide +kernel)
theorem dX35_init_447 : decode cX35_init 447 = .ok (.iconst 4, 1) := dc_7 (by decide +kernel)
theorem dX35_init_448 : decode cX35_init 448 = .ok (.newarray .long, 2) := dc_188_11 (by decide +kernel)
theorem dX35_init_450 : decode cX35_init 450 = .ok (.putfield 188, 3) := dc_181 (a := 0) (b := 188) (n := 188) (by decide +kernel)
theorem dX35_init_453 : decode cX35_init 453 = .ok (.aload_n 0, 1) := dc_42 (by decide +kernel)
theorem dX35_init_454 : decode cX35_init 454 = .ok (.iconst 4, 1) := dc_7 (by decide +kernel)
theorem dX35_init_455 : decode cX35_init 455 = .ok (.newarray .long, 2) := dc_188_11 (by decide +kernel)
theorem dX35_init_457 : decode cX35_init 457 = .ok (.putfield 192, 3) := dc_181 (a := 0) (b := 192) (n := 192) (by decide +kernel)
theorem dX35_init_460 : decode cX35_init 460 = .ok (.aload_n 0, 1) := dc_42 (by decide +kernel)
theorem dX35_init_461 : decode cX35_init 461 = .ok (.sipush 10000, 3) := dc_17 (a := 39) (b := 16) (v := 10000) (by decide +kernel)
theorem dX35_init_464 : decode cX35_init 464 = .ok (.newarray .int, 2) := dc_188_10 (by decide +kernel)
theorem dX35_init_466 : decode cX35_init 466 = .ok (.putfield 195, 3) := dc_181 (a := 0) (b := 195) (n := 195) (by decide +kernel)
theorem dX35_init_469 : decode cX35_init 469 = .ok (.aload_n 0, 1) := dc_42 (by decide +kernel)
theorem dX35_init_470 : decode cX35_init 470 = .ok (.sipush 10000, 3) := dc_17 (a := 39) (b := 16) (v := 10000) (by decide +kernel)
theorem dX35_init_473 : decode cX35_init 473 = .ok (.newarray .int, 2) := dc_188_10 (by decide +kernel)
theorem dX35_init_475 : decode cX35_init 475 = .ok (.putfield 198, 3) := dc_181 (a := 0) (b := 198) (n := 198) (by decide +kernel)
theorem dX35_init_478 : decode cX35_init 478 = .ok (.aload_n 0, 1) := dc_42 (by decide +kernel)
theorem dX35_init_479 : decode cX35_init 479 = .ok (.sipush 10000, 3) := dc_17 (a := 39) (b := 16) (v := 10000) (by decide +kernel)
theorem dX35_init_482 : decode cX35_init 482 = .ok (.newarray .int, 2) := dc_188_10 (by decide +kernel)
theorem dX35_init_484 : decode cX35_init 484 = .ok (.putfield 201, 3) := dc_181 (a := 0) (b := 201) (n := 201) (by decide +kernel)
theorem dX35_init_487 : decode cX35_init 487 = .ok (.aload_n 0, 1) := dc_42 (by decide +kernel)
theorem dX35_init_488 : decode cX35_init 488 = .ok (.sipush 10000, 3) := dc_17 (a := 39) (b := 16) (v := 10000) (by decide +kernel)
theorem dX35_init_491 : decode cX35_init 491 = .ok (.newarray .int, 2) := dc_188_10 (by decide +kernel)
theorem dX35_init_493 : decode cX35_init 493 = .ok (.putfield 204, 3) := dc_181 (a := 0) (b := 204) (n := 204) (by decide +kernel)
theorem dX35_init_496 : decode cX35_init 496 = .ok (.aload_n 0, 1) := dc_42 (by decide +kernel)
theorem dX35_init_497 : decode cX35_init 497 = .ok (.sipush 10000, 3) := dc_17 (a := 39) (b := 16) (v := 10000) (by decide +kernel)
theorem dX35_init_500 : decode cX35_init 500 = .ok (.newarray .int, 2) := dc_188_10 (by decide +kernel)
theorem dX35_init_502 : decode cX35_init 502 = .ok (.putfield 207, 3) := dc_181 (a := 0) (b := 207) (n := 207) (by decide +kernel)
theorem dX35_init_505 : decode cX35_init 505 = .ok (.aload_n 0, 1) := dc_42 (by decide +kernel)
theorem dX35_init_506 : decode cX35_init 506 = .ok (.sipush 10000, 3) := dc_17 (a := 39) (b := 16) (v := 10000) (by decide +kernel)
theorem dX35_init_509 : decode cX35_init 509 = .ok (.newarray .int, 2) := dc_188_10 (by decide +kernel)
theorem dX35_init_511 : decode cX35_init 511 = .ok (.putfield 210, 3) := dc_181 (a := 0) (b := 210) (n := 210) (by decide +kernel)
theorem dX35_init_514 : decode cX35_init 514 = .ok (.aload_n 0, 1) := dc_42 (by decide +kernel)
theorem dX35_init_515 : decode cX35_init 515 = .ok (.sipush 10000, 3) := dc_17 (a := 39) (b := 16) (v := 10000) (by decide +kernel)
theorem dX35_init_518 : decode cX35_init 518 = .ok (.newarray .int, 2) := dc_188_10 (by decide +kernel)
theorem dX35_init_520 : decode cX35_init 520 = .ok (.putfield 213, 3) := dc_181 (a := 0) (b := 213) (n := 213) (by decide +kernel)
theorem dX35_init_523 : decode cX35_init 523 = .ok (.aload_n 0, 1) := dc_42 (by decide +kernel)
theorem dX35_init_524 : decode cX35_init 524 = .ok (.sipush 3000, 3) := dc_17 (a := 11) (b := 184) (v := 3000) (by decide +kernel)
theorem dX35_init_527 : decode cX35_init 527 = .ok (.newarray .int, 2) := dc_188_10 (by decide +kernel)
theorem dX35_init_529 : decode cX35_init 529 = .ok (.putfield 216, 3) := dc_181 (a := 0) (b := 216) (n := 216) (by decide +kernel)
theorem dX35_init_532 : decode cX35_init 532 = .ok (.aload_n 0, 1) := dc_42 (by decide +kernel)
theorem dX35_init_533 : decode cX35_init 533 = .ok (.sipush 3000, 3) := dc_17 (a := 11) (b := 184) (v := 3000) (by decide +kernel)
theorem dX35_init_536 : decode cX35_init 536 = .ok (.newarray .int, 2) := dc_188_10 (by decide +kernel)
theorem dX35_init_538 : decode cX35_init 538 = .ok (.putfield 219, 3) := dc_181 (a := 0) (b := 219) (n := 219) (by decide +kernel)
theorem dX35_init_541 : decode cX35_init 541 = .ok (.aload_n 0, 1) := dc_42 (by decide +kernel)
theorem dX35_init_542 : decode cX35_init 542 = .ok (.sipush 3000, 3) := dc_17 (a := 11) (b := 184) (v := 3000) (by decide +kernel)
theorem dX35_init_545 : decode cX35_init 545 = .ok (.newarray .long, 2) := dc_188_11 (by decide +kernel)
theorem dX35_init_547 : decode cX35_init 547 = .ok (.putfield 222, 3) := dc_181 (a := 0) (b := 222) (n := 222) (by decide +kernel)
theorem dX35_init_550 : decode cX35_init 550 = .ok (.aload_n 0, 1) := dc_42 (by decide +kernel)
theorem dX35_init_551 : decode cX35_init 551 = .ok (.sipush 3000, 3) := dc_17 (a := 11) (b := 184) (v := 3000) (by decide +kernel)
theorem dX35_init_554 : decode cX35_init 554 = .ok (.newarray .long, 2) := dc_188_11 (by decide +kernel)
theorem dX35_init_556 : decode cX35_init 556 = .ok (.putfield 225, 3) := dc_181 (a := 0) (b := 225) (n := 225) (by decide +kernel)
theorem dX35_init_559 : decode cX35_init 559 = .ok (.aload_n 0, 1) := dc_42 (by decide +kernel)
theorem dX35_init_560 : decode cX35_init 560 = .ok (.sipush 3000, 3) := dc_17 (a := 11) (b := 184) (v := 3000) (by decide +kernel)
theorem dX35_init_563 : decode cX35_init 563 = .ok (.newarray .long, 2) := dc_188_11 (by decide +kernel)
theorem dX35_init_565 : decode cX35_init 565 = .ok (.putfield 228, 3) := dc_181 (a := 0) (b := 228) (n := 228) (by decide +kernel)
theorem dX35_init_568 : decode cX35_init 568 = .ok (.aload_n 0, 1) := dc_42 (by decide +kernel)
theorem dX35_init_569 : decode cX35_init 569 = .ok (.sipush 3000, 3) := dc_17 (a := 11) (b := 184) (v := 3000) (by decide +kernel)
theorem dX35_init_572 : decode cX35_init 572 = .ok (.newarray .long, 2) := dc_188_11 (by decide +kernel)
theorem dX35_init_574 : decode cX35_init 574 = .ok (.putfield 231, 3) := dc_181 (a := 0) (b := 231) (n := 231) (by decide +kernel)
theorem dX35_init_577 : decode cX35_init 577 = .ok (.aload_n 0, 1) := dc_42 (by decide +kernel)
theorem dX35_init_578 : decode cX35_init 578 = .ok (.sipush 3000, 3) := dc_17 (a := 11) (b := 184) (v := 3000) (by decide +kernel)
theorem dX35_init_581 : decode cX35_init 581 = .ok (.newarray .long, 2) := dc_188_11 (by decide +kernel)
theorem dX35_init_583 : decode cX35_init 583 = .ok (.putfield 234, 3) := dc_181 (a := 0) (b := 234) (n := 234) (by decide +kernel)
theorem dX35_init_586 : decode cX35_init 586 = .ok (.aload_n 0, 1) := dc_42 (by decide +kernel)
theorem dX35_init_587 : decode cX35_init 587 = .ok (.sipush 714, 3) := dc_17 (a := 2) (b := 202) (v := 714) (by decide +kernel)
theorem dX35_init_590 : decode cX35_init 590 = .ok (.newarray .int, 2) := dc_188_10 (by decide +kernel)
theorem dX35_init_592 : decode cX35_init 592 = .ok (.putfield 237, 3) := dc_181 (a := 0) (b := 237) (n := 237) (by decide +kernel)
theorem dX35_init_595 : decode cX35_init 595 = .ok (.aload_n 0, 1) := dc_42 (by decide +kernel)
theorem dX35_init_596 : decode cX35_init 596 = .ok (.bipush 64, 2) := dc_16 (a := 64) (v := 64) (by decide +kernel)
theorem dX35_init_598 : decode cX35_init 598 = .ok (.newarray .int, 2) := dc_188_10 (by decide +kernel)
theorem dX35_init_600 : decode cX35_init 600 = .ok (.putfield 240, 3) := dc_181 (a := 0) (b := 240) (n := 240) (by decide +kernel)
theorem dX35_init_603 : decode cX35_init 603 = .ok (.aload_n 0, 1) := dc_42 (by decide +kernel)
theorem dX35_init_604 : decode cX35_init 604 = .ok (.bipush 64, 2) := dc_16 (a := 64) (v := 64) (by decide +kernel)
theorem dX35_init_606 : decode cX35_init 606 = .ok (.newarray .int, 2) := dc_188_10 (by decide +kernel)
theorem dX35_init_608 : decode cX35_init 608 = .ok (.putfield 243, 3) := dc_181 (a := 0) (b := 243) (n := 243) (by decide +kernel)
theorem dX35_init_611 : decode cX35_init 611 = .ok (.aload_n 0, 1) := dc_42 (by decide +kernel)
theorem dX35_init_612 : decode cX35_init 612 = .ok (.sipush 12600, 3) := dc_17 (a := 49) (b := 56) (v := 12600) (by decide +kernel)
theorem dX35_init_615 : decode cX35_init 615 = .ok (.newarray .int, 2) := dc_188_10 (by decide +kernel)
theorem dX35_init_617 : decode cX35_init 617 = .ok (.putfield 246, 3) := dc_181 (a := 0) (b := 246) (n := 246) (by decide +kernel)
theorem dX35_init_620 : decode cX35_init 620 = .ok (.aload_n 0, 1) := dc_42 (by decide +kernel)
theorem dX35_init_621 : decode cX35_init 621 = .ok (.invokevirtual 249, 3) := dc_182 (a := 0) (b := 249) (n := 249) (by decide +kernel)
theorem dX35_init_624 : decode cX35_init 624 = .ok (.return_, 1) := dc_177 (by decide +kernel)
theorem SX35_102 {w : eW} {d : Nat} {Y : eY} {pc : Nat} {ls : eL} {st : List Value} {h : eH} {Q : eO → eH → Prop} {a : Nat} {h' : eH} {v : Value} (hf : p_F 34 h a 36 v = some h') (hd : decode Y.2.1 pc = .ok (.putfield 102, 3)) (hY : Y.1.cls = RX35) (hI : Y.1.name = "<init>") (hn : narrow (tyX35 36) v = v) (hfit : fits (tyX35 36) v = true) (kk : wp w d Y (pc + 3) ls st h' Q) : wp w d Y pc ls (v :: .ref a :: st) h Q := x_pF (ci := 34) (k := 36) hf hd rfl (by decide) (by rw [hY]; exact q4538) rfl hI (by rw [hY]; rfl) (tyX35_ok 36 (by decide)) hn hfit kk
theorem SX35_105 {w : eW} {d : Nat} {Y : eY} {pc : Nat} {ls : eL} {st : List Value} {h : eH} {Q : eO → eH → Prop} {a : Nat} {h' : eH} {v : Value} (hf : p_F 34 h a 38 v = some h') (hd : decode Y.2.1 pc = .ok (.putfield 105, 3)) (hY : Y.1.cls = RX35) (hI : Y.1.name = "<init>") (hn : narrow (tyX35 38) v = v) (hfit : fits (tyX35 38) v = true) (kk : wp w d Y (pc + 3) ls st h' Q) : wp w d Y pc ls (v :: .ref a :: st) h Q := x_pF (ci := 34) (k := 38) hf hd rfl (by decide) (by rw [hY]; exact q4540) rfl hI (by rw [hY]; rfl) (tyX35_ok 38 (by decide)) hn hfit kk
theorem SX35_109 {w : eW} {d : Nat} {Y : eY} {pc : Nat} {ls : eL} {st : List Value} {h : eH} {Q : eO → eH → Prop} {a : Nat} {h' : eH} {v : Value} (hf : p_F 34 h a 39 v = some h') (hd : decode Y.2.1 pc = .ok (.putfield 109, 3)) (hY : Y.1.cls = RX35) (hI : Y.1.name = "<init>") (hn : narrow (tyX35 39) v = v) (hfit : fits (tyX35 39) v = true) (kk : wp w d Y (pc + 3) ls st h' Q) : wp w d Y pc ls (v :: .ref a :: st) h Q := x_pF (ci := 34) (k := 39) hf hd rfl (by decide) (by rw [hY]; exact q4541) rfl hI (by rw [hY]; rfl) (tyX35_ok 39 (by decide)) hn hfit kk
theorem SX35_112 {w : eW} {d : Nat} {Y : eY} {pc : Nat} {ls : eL} {st : List Value} {h : eH} {Q : eO → eH → Prop} {a : Nat} {h' : eH} {v : Value} (hf : p_F 34 h a 40 v = some h') (hd : decode Y.2.1 pc = .ok (.putfield 112, 3)) (hY : Y.1.cls = RX35) (hI : Y.1.name = "<init>") (hn : narrow (tyX35 40) v = v) (hfit : fits (tyX35 40) v = true) (kk : wp w d Y (pc + 3) ls st h' Q) : wp w d Y pc ls (v :: .ref a :: st) h Q := x_pF (ci := 34) (k := 40) hf hd rfl (by decide) (by rw [hY]; exact q4542) rfl hI (by rw [hY]; rfl) (tyX35_ok 40 (by decide)) hn hfit kk
theorem SX35_115 {w : eW} {d : Nat} {Y : eY} {pc : Nat} {ls : eL} {st : List Value} {h : eH} {Q : eO → eH → Prop} {a : Nat} {h' : eH} {v : Value} (hf : p_F 34 h a 42 v = some h') (hd : decode Y.2.1 pc = .ok (.putfield 115, 3)) (hY : Y.1.cls = RX35) (hI : Y.1.name = "<init>") (hn : narrow (tyX35 42) v = v) (hfit : fits (tyX35 42) v = true) (kk : wp w d Y (pc + 3) ls st h' Q) : wp w d Y pc ls (v :: .ref a :: st) h Q := x_pF (ci := 34) (k := 42) hf hd rfl (by decide) (by rw [hY]; exact q4544) rfl hI (by rw [hY]; rfl) (tyX35_ok 42 (by decide)) hn hfit kk
theorem SX35_118 {w : eW} {d : Nat} {Y : eY} {pc : Nat} {ls : eL} {st : List Value} {h : eH} {Q : eO → eH → Prop} {a : Nat} {h' : eH} {v : Value} (hf : p_F 34 h a 43 v = some h') (hd : decode Y.2.1 pc = .ok (.putfield 118, 3)) (hY : Y.1.cls = RX35) (hI : Y.1.name = "<init>") (hn : narrow (tyX35 43) v = v) (hfit : fits (tyX35 43) v = true) (kk : wp w d Y (pc + 3) ls st h' Q) : wp w d Y pc ls (v :: .ref a :: st) h Q := x_pF (ci := 34) (k := 43) hf hd rfl (by decide) (by rw [hY]; exact q4545) rfl hI (by rw [hY]; rfl) (tyX35_ok 43 (by decide)) hn hfit kk
theorem SX35_121 {w : eW} {d : Nat} {Y : eY} {pc : Nat} {ls : eL} {st : List Value} {h : eH} {Q : eO → eH → Prop} {a : Nat} {h' : eH} {v : Value} (hf : p_F 34 h a 49 v = some h') (hd : decode Y.2.1 pc = .ok (.putfield 121, 3)) (hY : Y.1.cls = RX35) (hI : Y.1.name = "<init>") (hn : narrow (tyX35 49) v = v) (hfit : fits (tyX35 49) v = true) (kk : wp w d Y (pc + 3) ls st h' Q) : wp w d Y pc ls (v :: .ref a :: st) h Q := x_pF (ci := 34) (k := 49) hf hd rfl (by decide) (by rw [hY]; exact q4551) rfl hI (by rw [hY]; rfl) (tyX35_ok 49 (by decide)) hn hfit kk
theorem SX35_124 {w : eW} {d : Nat} {Y : eY} {pc : Nat} {ls : eL} {st : List Value} {h : eH} {Q : eO → eH → Prop} {a : Nat} {h' : eH} {v : Value} (hf : p_F 34 h a 50 v = some h') (hd : decode Y.2.1 pc = .ok (.putfield 124, 3)) (hY : Y.1.cls = RX35) (hI : Y.1.name = "<init>") (hn : narrow (tyX35 50) v = v) (hfit : fits (tyX35 50) v = true) (kk : wp w d Y (pc + 3) ls st h' Q) : wp w d Y pc ls (v :: .ref a :: st) h Q := x_pF (ci := 34) (k := 50) hf hd rfl (by decide) (by rw [hY]; exact q4552) rfl hI (by rw [hY]; rfl) (tyX35_ok 50 (by decide)) hn hfit kk
theorem SX35_127 {w : eW} {d : Nat} {Y : eY} {pc : Nat} {ls : eL} {st : List Value} {h : eH} {Q : eO → eH → Prop} {a : Nat} {h' : eH} {v : Value} (hf : p_F 34 h a 52 v = some h') (hd : decode Y.2.1 pc = .ok (.putfield 127, 3)) (hY : Y.1.cls = RX35) (hI : Y.1.name = "<init>") (hn : narrow (tyX35 52) v = v) (hfit : fits (tyX35 52) v = true) (kk : wp w d Y (pc + 3) ls st h' Q) : wp w d Y pc ls (v :: .ref a :: st) h Q := x_pF (ci := 34) (k := 52) hf hd rfl (by decide) (by rw [hY]; exact q4554) rfl hI (by rw [hY]; rfl) (tyX35_ok 52 (by decide)) hn hfit kk
theorem SX35_130 {w : eW} {d : Nat} {Y : eY} {pc : Nat} {ls : eL} {st : List Value} {h : eH} {Q : eO → eH → Prop} {a : Nat} {h' : eH} {v : Value} (hf : p_F 34 h a 53 v = some h') (hd : decode Y.2.1 pc = .ok (.putfield 130, 3)) (hY : Y.1.cls = RX35) (hI : Y.1.name = "<init>") (hn : narrow (tyX35 53) v = v) (hfit : fits (tyX35 53) v = true) (kk : wp w d Y (pc + 3) ls st h' Q) : wp w d Y pc ls (v :: .ref a :: st) h Q := x_pF (ci := 34) (k := 53) hf hd rfl (by decide) (by rw [hY]; exact q4555) rfl hI (by rw [hY]; rfl) (tyX35_ok 53 (by decide)) hn hfit kk
theorem SX35_133 {w : eW} {d : Nat} {Y : eY} {pc : Nat} {ls : eL} {st : List Value} {h : eH} {Q : eO → eH → Prop} {a : Nat} {h' : eH} {v : Value} (hf : p_F 34 h a 54 v = some h') (hd : decode Y.2.1 pc = .ok (.putfield 133, 3)) (hY : Y.1.cls = RX35) (hI : Y.1.name = "<init>") (hn : narrow (tyX35 54) v = v) (hfit : fits (tyX35 54) v = true) (kk : wp w d Y (pc + 3) ls st h' Q) : wp w d Y pc ls (v :: .ref a :: st) h Q := x_pF (ci := 34) (k := 54) hf hd rfl (by decide) (by rw [hY]; exact q4556) rfl hI (by rw [hY]; rfl) (tyX35_ok 54 (by decide)) hn hfit kk
theorem SX35_136 {w : eW} {d : Nat} {Y : eY} {pc : Nat} {ls : eL} {st : List Value} {h : eH} {Q : eO → eH → Prop} {a : Nat} {h' : eH} {x : Nat} (hf : p_V 34 h a 55 (.ref x) = some h') (hd : decode Y.2.1 pc = .ok (.putfield 136, 3)) (hY : Y.1.cls = RX35) (kk : wp w d Y (pc + 3) ls st h' Q) : wp w d Y pc ls (.ref x :: .ref a :: st) h Q := x_pA (ci := 34) (k := 55) hf hd rfl (by decide) (by rw [hY]; exact q4557) rfl rfl rfl rfl kk
theorem SX35_139 {w : eW} {d : Nat} {Y : eY} {pc : Nat} {ls : eL} {st : List Value} {h : eH} {Q : eO → eH → Prop} {a : Nat} {h' : eH} {v : Value} (hf : p_F 34 h a 59 v = some h') (hd : decode Y.2.1 pc = .ok (.putfield 139, 3)) (hY : Y.1.cls = RX35) (hI : Y.1.name = "<init>") (hn : narrow (tyX35 59) v = v) (hfit : fits (tyX35 59) v = true) (kk : wp w d Y (pc + 3) ls st h' Q) : wp w d Y pc ls (v :: .ref a :: st) h Q := x_pF (ci := 34) (k := 59) hf hd rfl (by decide) (by rw [hY]; exact q4561) rfl hI (by rw [hY]; rfl) (tyX35_ok 59 (by decide)) hn hfit kk
theorem SX35_142 {w : eW} {d : Nat} {Y : eY} {pc : Nat} {ls : eL} {st : List Value} {h : eH} {Q : eO → eH → Prop} {a : Nat} {h' : eH} {v : Value} (hf : p_F 34 h a 60 v = some h') (hd : decode Y.2.1 pc = .ok (.putfield 142, 3)) (hY : Y.1.cls = RX35) (hI : Y.1.name = "<init>") (hn : narrow (tyX35 60) v = v) (hfit : fits (tyX35 60) v = true) (kk : wp w d Y (pc + 3) ls st h' Q) : wp w d Y pc ls (v :: .ref a :: st) h Q := x_pF (ci := 34) (k := 60) hf hd rfl (by decide) (by rw [hY]; exact q4562) rfl hI (by rw [hY]; rfl) (tyX35_ok 60 (by decide)) hn hfit kk
theorem SX35_145 {w : eW} {d : Nat} {Y : eY} {pc : Nat} {ls : eL} {st : List Value} {h : eH} {Q : eO → eH → Prop} {a : Nat} {h' : eH} {v : Value} (hf : p_F 34 h a 61 v = some h') (hd : decode Y.2.1 pc = .ok (.putfield 145, 3)) (hY : Y.1.cls = RX35) (hI : Y.1.name = "<init>") (hn : narrow (tyX35 61) v = v) (hfit : fits (tyX35 61) v = true) (kk : wp w d Y (pc + 3) ls st h' Q) : wp w d Y pc ls (v :: .ref a :: st) h Q := x_pF (ci := 34) (k := 61) hf hd rfl (by decide) (by rw [hY]; exact q4563) rfl hI (by rw [hY]; rfl) (tyX35_ok 61 (by decide)) hn hfit kk
theorem SX35_148 {w : eW} {d : Nat} {Y : eY} {pc : Nat} {ls : eL} {st : List Value} {h : eH} {Q : eO → eH → Prop} {a : Nat} {h' : eH} {x : Nat} (hf : p_V 34 h a 63 (.ref x) = some h') (hd : decode Y.2.1 pc = .ok (.putfield 148, 3)) (hY : Y.1.cls = RX35) (kk : wp w d Y (pc + 3) ls st h' Q) : wp w d Y pc ls (.ref x :: .ref a :: st) h Q := x_pA (ci := 34) (k := 63) hf hd rfl (by decide) (by rw [hY]; exact q4565) rfl rfl rfl rfl kk
theorem SX35_15 {w : eW} {d : Nat} {Y : eY} {pc : Nat} {ls : eL} {st : List Value} {h : eH} {Q : eO → eH → Prop} {a : Nat} {h' : eH} {x : Int32} (hf : p_V 34 h a 3 (.int x) = some h') (hd : decode Y.2.1 pc = .ok (.putfield 15, 3)) (hY : Y.1.cls = RX35) (kk : wp w d Y (pc + 3) ls st h' Q) : wp w d Y pc ls (.int x :: .ref a :: st) h Q := x_pI (ci := 34) (k := 3) hf hd rfl (by decide) (by rw [hY]; exact q4505) rfl rfl kk
theorem SX35_151 {w : eW} {d : Nat} {Y : eY} {pc : Nat} {ls : eL} {st : List Value} {h : eH} {Q : eO → eH → Prop} {a : Nat} {h' : eH} {v : Value} (hf : p_F 34 h a 66 v = some h') (hd : decode Y.2.1 pc = .ok (.putfield 151, 3)) (hY : Y.1.cls = RX35) (hI : Y.1.name = "<init>") (hn : narrow (tyX35 66) v = v) (hfit : fits (tyX35 66) v = true) (kk : wp w d Y (pc + 3) ls st h' Q) : wp w d Y pc ls (v :: .ref a :: st) h Q := x_pF (ci := 34) (k := 66) hf hd rfl (by decide) (by rw [hY]; exact q4567) rfl hI (by rw [hY]; rfl) (tyX35_ok 66 (by decide)) hn hfit kk
theorem SX35_154 {w : eW} {d : Nat} {Y : eY} {pc : Nat} {ls : eL} {st : List Value} {h : eH} {Q : eO → eH → Prop} {a : Nat} {h' : eH} {v : Value} (hf : p_F 34 h a 67 v = some h') (hd : decode Y.2.1 pc = .ok (.putfield 154, 3)) (hY : Y.1.cls = RX35) (hI : Y.1.name = "<init>") (hn : narrow (tyX35 67) v = v) (hfit : fits (tyX35 67) v = true) (kk : wp w d Y (pc + 3) ls st h' Q) : wp w d Y pc ls (v :: .ref a :: st) h Q := x_pF (ci := 34) (k := 67) hf hd rfl (by decide) (by rw [hY]; exact q4568) rfl hI (by rw [hY]; rfl) (tyX35_ok 67 (by decide)) hn hfit kk
theorem SX35_157 {w : eW} {d : Nat} {Y : eY} {pc : Nat} {ls : eL} {st : List Value} {h : eH} {Q : eO → eH → Prop} {a : Nat} {h' : eH} {v : Value} (hf : p_F 34 h a 68 v = some h') (hd : decode Y.2.1 pc = .ok (.putfield 157, 3)) (hY : Y.1.cls = RX35) (hI : Y.1.name = "<init>") (hn : narrow (tyX35 68) v = v) (hfit : fits (tyX35 68) v = true) (kk : wp w d Y (pc + 3) ls st h' Q) : wp w d Y pc ls (v :: .ref a :: st) h Q := x_pF (ci := 34) (k := 68) hf hd rfl (by decide) (by rw [hY]; exact q4569) rfl hI (by rw [hY]; rfl) (tyX35_ok 68 (by decide)) hn hfit kk
theorem SX35_160 {w : eW} {d : Nat} {Y : eY} {pc : Nat} {ls : eL} {st : List Value} {h : eH} {Q : eO → eH → Prop} {a : Nat} {h' : eH} {v : Value} (hf : p_F 34 h a 69 v = some h') (hd : decode Y.2.1 pc = .ok (.putfield 160, 3)) (hY : Y.1.cls = RX35) (hI : Y.1.name = "<init>") (hn : narrow (tyX35 69) v = v) (hfit : fits (tyX35 69) v = true) (kk : wp w d Y (pc + 3) ls st h' Q) : wp w d Y pc ls (v :: .ref a :: st) h Q := x_pF (ci := 34) (k := 69) hf hd rfl (by decide) (by rw [hY]; exact q4570) rfl hI (by rw [hY]; rfl) (tyX35_ok 69 (by decide)) hn hfit kk
theorem SX35_163 {w : eW} {d : Nat} {Y : eY} {pc : Nat} {ls : eL} {st : List Value} {h : eH} {Q : eO → eH → Prop} {a : Nat} {h' : eH} {v : Value} (hf : p_F 34 h a 70 v = some h') (hd : decode Y.2.1 pc = .ok (.putfield 163, 3)) (hY : Y.1.cls = RX35) (hI : Y.1.name = "<init>") (hn : narrow (tyX35 70) v = v) (hfit : fits (tyX35 70) v = true) (kk : wp w d Y (pc + 3) ls st h' Q) : wp w d Y pc ls (v :: .ref a :: st) h Q := x_pF (ci := 34) (k := 70) hf hd rfl (by decide) (by rw [hY]; exact q4571) rfl hI (by rw [hY]; rfl) (tyX35_ok 70 (by decide)) hn hfit kk
theorem SX35_166 {w : eW} {d : Nat} {Y : eY} {pc : Nat} {ls : eL} {st : List Value} {h : eH} {Q : eO → eH → Prop} {a : Nat} {h' : eH} {v : Value} (hf : p_F 34 h a 71 v = some h') (hd : decode Y.2.1 pc = .ok (.putfield 166, 3)) (hY : Y.1.cls = RX35) (hI : Y.1.name = "<init>") (hn : narrow (tyX35 71) v = v) (hfit : fits (tyX35 71) v = true) (kk : wp w d Y (pc + 3) ls st h' Q) : wp w d Y pc ls (v :: .ref a :: st) h Q := x_pF (ci := 34) (k := 71) hf hd rfl (by decide) (by rw [hY]; exact q4572) rfl hI (by rw [hY]; rfl) (tyX35_ok 71 (by decide)) hn hfit kk
theorem SX35_169 {w : eW} {d : Nat} {Y : eY} {pc : Nat} {ls : eL} {st : List Value} {h : eH} {Q : eO → eH → Prop} {a : Nat} {h' : eH} {v : Value} (hf : p_F 34 h a 72 v = some h') (hd : decode Y.2.1 pc = .ok (.putfield 169, 3)) (hY : Y.1.cls = RX35) (hI : Y.1.name = "<init>") (hn : narrow (tyX35 72) v = v) (hfit : fits (tyX35 72) v = true) (kk : wp w d Y (pc + 3) ls st h' Q) : wp w d Y pc ls (v :: .ref a :: st) h Q := x_pF (ci := 34) (k := 72) hf hd rfl (by decide) (by rw [hY]; exact q4573) rfl hI (by rw [hY]; rfl) (tyX35_ok 72 (by decide)) hn hfit kk
theorem SX35_172 {w : eW} {d : Nat} {Y : eY} {pc : Nat} {ls : eL} {st : List Value} {h : eH} {Q : eO → eH → Prop} {a : Nat} {h' : eH} {v : Value} (hf : p_F 34 h a 73 v = some h') (hd : decode Y.2.1 pc = .ok (.putfield 172, 3)) (hY : Y.1.cls = RX35) (hI : Y.1.name = "<init>") (hn : narrow (tyX35 73) v = v) (hfit : fits (tyX35 73) v = true) (kk : wp w d Y (pc + 3) ls st h' Q) : wp w d Y pc ls (v :: .ref a :: st) h Q := x_pF (ci := 34) (k := 73) hf hd rfl (by decide) (by rw [hY]; exact q4574) rfl hI (by rw [hY]; rfl) (tyX35_ok 73 (by decide)) hn hfit kk
theorem SX35_175 {w : eW} {d : Nat} {Y : eY} {pc : Nat} {ls : eL} {st : List Value} {h : eH} {Q : eO → eH → Prop} {a : Nat} {h' : eH} {v : Value} (hf : p_F 34 h a 74 v = some h') (hd : decode Y.2.1 pc = .ok (.putfield 175, 3)) (hY : Y.1.cls = RX35) (hI : Y.1.name = "<init>") (hn : narrow (tyX35 74) v = v) (hfit : fits (tyX35 74) v = true) (kk : wp w d Y (pc + 3) ls st h' Q) : wp w d Y pc ls (v :: .ref a :: st) h Q := x_pF (ci := 34) (k := 74) hf hd rfl (by decide) (by rw [hY]; exact q4575) rfl hI (by rw [hY]; rfl) (tyX35_ok 74 (by decide)) hn hfit kk
theorem SX35_178 {w : eW} {d : Nat} {Y : eY} {pc : Nat} {ls : eL} {st : List Value} {h : eH} {Q : eO → eH → Prop} {a : Nat} {h' : eH} {v : Value} (hf : p_F 34 h a 75 v = some h') (hd : decode Y.2.1 pc = .ok (.putfield 178, 3)) (hY : Y.1.cls = RX35) (hI : Y.1.name = "<init>") (hn : narrow (tyX35 75) v = v) (hfit : fits (tyX35 75) v = true) (kk : wp w d Y (pc + 3) ls st h' Q) : wp w d Y pc ls (v :: .ref a :: st) h Q := x_pF (ci := 34) (k := 75) hf hd rfl (by decide) (by rw [hY]; exact q4576) rfl hI (by rw [hY]; rfl) (tyX35_ok 75 (by decide)) hn hfit kk
theorem SX35_181 {w : eW} {d : Nat} {Y : eY} {pc : Nat} {ls : eL} {st : List Value} {h : eH} {Q : eO → eH → Prop} {a : Nat} {h' : eH} {v : Value} (hf : p_F 34 h a 76 v = some h') (hd : decode Y.2.1 pc = .ok (.putfield 181, 3)) (hY : Y.1.cls = RX35) (hI : Y.1.name = "<init>") (hn : narrow (tyX35 76) v = v) (hfit : fits (tyX35 76) v = true) (kk : wp w d Y (pc + 3) ls st h' Q) : wp w d Y pc ls (v :: .ref a :: st) h Q := x_pF (ci := 34) (k := 76) hf hd rfl (by decide) (by rw [hY]; exact q4577) rfl hI (by rw [hY]; rfl) (tyX35_ok 76 (by decide)) hn hfit kk
theorem SX35_185 {w : eW} {d : Nat} {Y : eY} {pc : Nat} {ls : eL} {st : List Value} {h : eH} {Q : eO → eH → Prop} {a : Nat} {h' : eH} {v : Value} (hf : p_F 34 h a 77 v = some h') (hd : decode Y.2.1 pc = .ok (.putfield 185, 3)) (hY : Y.1.cls = RX35) (hI : Y.1.name = "<init>") (hn : narrow (tyX35 77) v = v) (hfit : fits (tyX35 77) v = true) (kk : wp w d Y (pc + 3) ls st h' Q) : wp w d Y pc ls (v :: .ref a :: st) h Q := x_pF (ci := 34) (k := 77) hf hd rfl (by decide) (by rw [hY]; exact q4578) rfl hI (by rw [hY]; rfl) (tyX35_ok 77 (by decide)) hn hfit kk
theorem SX35_188 {w : eW} {d : Nat} {Y : eY} {pc : Nat} {ls : eL} {st : List Value} {h : eH} {Q : eO → eH → Prop} {a : Nat} {h' : eH} {v : Value} (hf : p_F 34 h a 83 v = some h') (hd : decode Y.2.1 pc = .ok (.putfield 188, 3)) (hY : Y.1.cls = RX35) (hI : Y.1.name = "<init>") (hn : narrow (tyX35 83) v = v) (hfit : fits (tyX35 83) v = true) (kk : wp w d Y (pc + 3) ls st h' Q) : wp w d Y pc ls (v :: .ref a :: st) h Q := x_pF (ci := 34) (k := 83) hf hd rfl (by decide) (by rw [hY]; exact q4584) rfl hI (by rw [hY]; rfl) (tyX35_ok 83 (by decide)) hn hfit kk
theorem SX35_192 {w : eW} {d : Nat} {Y : eY} {pc : Nat} {ls : eL} {st : List Value} {h : eH} {Q : eO → eH → Prop} {a : Nat} {h' : eH} {v : Value} (hf : p_F 34 h a 84 v = some h') (hd : decode Y.2.1 pc = .ok (.putfield 192, 3)) (hY : Y.1.cls = RX35) (hI : Y.1.name = "<init>") (hn : narrow (tyX35 84) v = v) (hfit : fits (tyX35 84) v = true) (kk : wp w d Y (pc + 3) ls st h' Q) : wp w d Y pc ls (v :: .ref a :: st) h Q := x_pF (ci := 34) (k := 84) hf hd rfl (by decide) (by rw [hY]; exact q4585) rfl hI (by rw [hY]; rfl) (tyX35_ok 84 (by decide)) hn hfit kk
theorem SX35_195 {w : eW} {d : Nat} {Y : eY} {pc : Nat} {ls : eL} {st : List Value} {h : eH} {Q : eO → eH → Prop} {a : Nat} {h' : eH} {v : Value} (hf : p_F 34 h a 87 v = some h') (hd : decode Y.2.1 pc = .ok (.putfield 195, 3)) (hY : Y.1.cls = RX35) (hI : Y.1.name = "<init>") (hn : narrow (tyX35 87) v = v) (hfit : fits (tyX35 87) v = true) (kk : wp w d Y (pc + 3) ls st h' Q) : wp w d Y pc ls (v :: .ref a :: st) h Q := x_pF (ci := 34) (k := 87) hf hd rfl (by decide) (by rw [hY]; exact q4588) rfl hI (by rw [hY]; rfl) (tyX35_ok 87 (by decide)) hn hfit kk
theorem SX35_198 {w : eW} {d : Nat} {Y : eY} {pc : Nat} {ls : eL} {st : List Value} {h : eH} {Q : eO → eH → Prop} {a : Nat} {h' : eH} {v : Value} (hf : p_F 34 h a 88 v = some h') (hd : decode Y.2.1 pc = .ok (.putfield 198, 3)) (hY : Y.1.cls = RX35) (hI : Y.1.name = "<init>") (hn : narrow (tyX35 88) v = v) (hfit : fits (tyX35 88) v = true) (kk : wp w d Y (pc + 3) ls st h' Q) : wp w d Y pc ls (v :: .ref a :: st) h Q := x_pF (ci := 34) (k := 88) hf hd rfl (by decide) (by rw [hY]; exact q4589) rfl hI (by rw [hY]; rfl) (tyX35_ok 88 (by decide)) hn hfit kk
theorem SX35_201 {w : eW} {d : Nat} {Y : eY} {pc : Nat} {ls : eL} {st : List Value} {h : eH} {Q : eO → eH → Prop} {a : Nat} {h' : eH} {v : Value} (hf : p_F 34 h a 89 v = some h') (hd : decode Y.2.1 pc = .ok (.putfield 201, 3)) (hY : Y.1.cls = RX35) (hI : Y.1.name = "<init>") (hn : narrow (tyX35 89) v = v) (hfit : fits (tyX35 89) v = true) (kk : wp w d Y (pc + 3) ls st h' Q) : wp w d Y pc ls (v :: .ref a :: st) h Q := x_pF (ci := 34) (k := 89) hf hd rfl (by decide) (by rw [hY]; exact q4590) rfl hI (by rw [hY]; rfl) (tyX35_ok 89 (by decide)) hn hfit kk
theorem SX35_204 {w : eW} {d : Nat} {Y : eY} {pc : Nat} {ls : eL} {st : List Value} {h : eH} {Q : eO → eH → Prop} {a : Nat} {h' : eH} {v : Value} (hf : p_F 34 h a 90 v = some h') (hd : decode Y.2.1 pc = .ok (.putfield 204, 3)) (hY : Y.1.cls = RX35) (hI : Y.1.name = "<init>") (hn : narrow (tyX35 90) v = v) (hfit : fits (tyX35 90) v = true) (kk : wp w d Y (pc + 3) ls st h' Q) : wp w d Y pc ls (v :: .ref a :: st) h Q := x_pF (ci := 34) (k := 90) hf hd rfl (by decide) (by rw [hY]; exact q4591) rfl hI (by rw [hY]; rfl) (tyX35_ok 90 (by decide)) hn hfit kk
theorem SX35_207 {w : eW} {d : Nat} {Y : eY} {pc : Nat} {ls : eL} {st : List Value} {h : eH} {Q : eO → eH → Prop} {a : Nat} {h' : eH} {v : Value} (hf : p_F 34 h a 91 v = some h') (hd : decode Y.2.1 pc = .ok (.putfield 207, 3)) (hY : Y.1.cls = RX35) (hI : Y.1.name = "<init>") (hn : narrow (tyX35 91) v = v) (hfit : fits (tyX35 91) v = true) (kk : wp w d Y (pc + 3) ls st h' Q) : wp w d Y pc ls (v :: .ref a :: st) h Q := x_pF (ci := 34) (k := 91) hf hd rfl (by decide) (by rw [hY]; exact q4592) rfl hI (by rw [hY]; rfl) (tyX35_ok 91 (by decide)) hn hfit kk
theorem SX35_21 {w : eW} {d : Nat} {Y : eY} {pc : Nat} {ls : eL} {st : List Value} {h : eH} {Q : eO → eH → Prop} {a : Nat} {h' : eH} {v : Value} (hf : p_F 34 h a 4 v = some h') (hd : decode Y.2.1 pc = .ok (.putfield 21, 3)) (hY : Y.1.cls = RX35) (hI : Y.1.name = "<init>") (hn : narrow (tyX35 4) v = v) (hfit : fits (tyX35 4) v = true) (kk : wp w d Y (pc + 3) ls st h' Q) : wp w d Y pc ls (v :: .ref a :: st) h Q := x_pF (ci := 34) (k := 4) hf hd rfl (by decide) (by rw [hY]; exact q4506) rfl hI (by rw [hY]; rfl) (tyX35_ok 4 (by decide)) hn hfit kk
theorem SX35_210 {w : eW} {d : Nat} {Y : eY} {pc : Nat} {ls : eL} {st : List Value} {h : eH} {Q : eO → eH → Prop} {a : Nat} {h' : eH} {v : Value} (hf : p_F 34 h a 92 v = some h') (hd : decode Y.2.1 pc = .ok (.putfield 210, 3)) (hY : Y.1.cls = RX35) (hI : Y.1.name = "<init>") (hn : narrow (tyX35 92) v = v) (hfit : fits (tyX35 92) v = true) (kk : wp w d Y (pc + 3) ls st h' Q) : wp w d Y pc ls (v :: .ref a :: st) h Q := x_pF (ci := 34) (k := 92) hf hd rfl (by decide) (by rw [hY]; exact q4593) rfl hI (by rw [hY]; rfl) (tyX35_ok 92 (by decide)) hn hfit kk
theorem SX35_213 {w : eW} {d : Nat} {Y : eY} {pc : Nat} {ls : eL} {st : List Value} {h : eH} {Q : eO → eH → Prop} {a : Nat} {h' : eH} {v : Value} (hf : p_F 34 h a 93 v = some h') (hd : decode Y.2.1 pc = .ok (.putfield 213, 3)) (hY : Y.1.cls = RX35) (hI : Y.1.name = "<init>") (hn : narrow (tyX35 93) v = v) (hfit : fits (tyX35 93) v = true) (kk : wp w d Y (pc + 3) ls st h' Q) : wp w d Y pc ls (v :: .ref a :: st) h Q := x_pF (ci := 34) (k := 93) hf hd rfl (by decide) (by rw [hY]; exact q4594) rfl hI (by rw [hY]; rfl) (tyX35_ok 93 (by decide)) hn hfit kk
theorem SX35_216 {w : eW} {d : Nat} {Y : eY} {pc : Nat} {ls : eL} {st : List Value} {h : eH} {Q : eO → eH → Prop} {a : Nat} {h' : eH} {v : Value} (hf : p_F 34 h a 103 v = some h') (hd : decode Y.2.1 pc = .ok (.putfield 216, 3)) (hY : Y.1.cls = RX35) (hI : Y.1.name = "<init>") (hn : narrow (tyX35 103) v = v) (hfit : fits (tyX35 103) v = true) (kk : wp w d Y (pc + 3) ls st h' Q) : wp w d Y pc ls (v :: .ref a :: st) h Q := x_pF (ci := 34) (k := 103) hf hd rfl (by decide) (by rw [hY]; exact q4604) rfl hI (by rw [hY]; rfl) (tyX35_ok 103 (by decide)) hn hfit kk
theorem SX35_219 {w : eW} {d : Nat} {Y : eY} {pc : Nat} {ls : eL} {st : List Value} {h : eH} {Q : eO → eH → Prop} {a : Nat} {h' : eH} {v : Value} (hf : p_F 34 h a 104 v = some h') (hd : decode Y.2.1 pc = .ok (.putfield 219, 3)) (hY : Y.1.cls = RX35) (hI : Y.1.name = "<init>") (hn : narrow (tyX35 104) v = v) (hfit : fits (tyX35 104) v = true) (kk : wp w d Y (pc + 3) ls st h' Q) : wp w d Y pc ls (v :: .ref a :: st) h Q := x_pF (ci := 34) (k := 104) hf hd rfl (by decide) (by rw [hY]; exact q4605) rfl hI (by rw [hY]; rfl) (tyX35_ok 104 (by decide)) hn hfit kk
theorem SX35_222 {w : eW} {d : Nat} {Y : eY} {pc : Nat} {ls : eL} {st : List Value} {h : eH} {Q : eO → eH → Prop} {a : Nat} {h' : eH} {v : Value} (hf : p_F 34 h a 105 v = some h') (hd : decode Y.2.1 pc = .ok (.putfield 222, 3)) (hY : Y.1.cls = RX35) (hI : Y.1.name = "<init>") (hn : narrow (tyX35 105) v = v) (hfit : fits (tyX35 105) v = true) (kk : wp w d Y (pc + 3) ls st h' Q) : wp w d Y pc ls (v :: .ref a :: st) h Q := x_pF (ci := 34) (k := 105) hf hd rfl (by decide) (by rw [hY]; exact q4606) rfl hI (by rw [hY]; rfl) (tyX35_ok 105 (by decide)) hn hfit kk
theorem SX35_225 {w : eW} {d : Nat} {Y : eY} {pc : Nat} {ls : eL} {st : List Value} {h : eH} {Q : eO → eH → Prop} {a : Nat} {h' : eH} {v : Value} (hf : p_F 34 h a 106 v = some h') (hd : decode Y.2.1 pc = .ok (.putfield 225, 3)) (hY : Y.1.cls = RX35) (hI : Y.1.name = "<init>") (hn : narrow (tyX35 106) v = v) (hfit : fits (tyX35 106) v = true) (kk : wp w d Y (pc + 3) ls st h' Q) : wp w d Y pc ls (v :: .ref a :: st) h Q := x_pF (ci := 34) (k := 106) hf hd rfl (by decide) (by rw [hY]; exact q4607) rfl hI (by rw [hY]; rfl) (tyX35_ok 106 (by decide)) hn hfit kk
theorem SX35_228 {w : eW} {d : Nat} {Y : eY} {pc : Nat} {ls : eL} {st : List Value} {h : eH} {Q : eO → eH → Prop} {a : Nat} {h' : eH} {v : Value} (hf : p_F 34 h a 107 v = some h') (hd : decode Y.2.1 pc = .ok (.putfield 228, 3)) (hY : Y.1.cls = RX35) (hI : Y.1.name = "<init>") (hn : narrow (tyX35 107) v = v) (hfit : fits (tyX35 107) v = true) (kk : wp w d Y (pc + 3) ls st h' Q) : wp w d Y pc ls (v :: .ref a :: st) h Q := x_pF (ci := 34) (k := 107) hf hd rfl (by decide) (by rw [hY]; exact q4608) rfl hI (by rw [hY]; rfl) (tyX35_ok 107 (by decide)) hn hfit kk
theorem SX35_231 {w : eW} {d : Nat} {Y : eY} {pc : Nat} {ls : eL} {st : List Value} {h : eH} {Q : eO → eH → Prop} {a : Nat} {h' : eH} {v : Value} (hf : p_F 34 h a 108 v = some h') (hd : decode Y.2.1 pc = .ok (.putfield 231, 3)) (hY : Y.1.cls = RX35) (hI : Y.1.name = "<init>") (hn : narrow (tyX35 108) v = v) (hfit : fits (tyX35 108) v = true) (kk : wp w d Y (pc + 3) ls st h' Q) : wp w d Y pc ls (v :: .ref a :: st) h Q := x_pF (ci := 34) (k := 108) hf hd rfl (by decide) (by rw [hY]; exact q4609) rfl hI (by rw [hY]; rfl) (tyX35_ok 108 (by decide)) hn hfit kk
theorem SX35_234 {w : eW} {d : Nat} {Y : eY} {pc : Nat} {ls : eL} {st : List Value} {h : eH} {Q : eO → eH → Prop} {a : Nat} {h' : eH} {v : Value} (hf : p_F 34 h a 109 v = some h') (hd : decode Y.2.1 pc = .ok (.putfield 234, 3)) (hY : Y.1.cls = RX35) (hI : Y.1.name = "<init>") (hn : narrow (tyX35 109) v = v) (hfit : fits (tyX35 109) v = true) (kk : wp w d Y (pc + 3) ls st h' Q) : wp w d Y pc ls (v :: .ref a :: st) h Q := x_pF (ci := 34) (k := 109) hf hd rfl (by decide) (by rw [hY]; exact q4610) rfl hI (by rw [hY]; rfl) (tyX35_ok 109 (by decide)) hn hfit kk
theorem SX35_237 {w : eW} {d : Nat} {Y : eY} {pc : Nat} {ls : eL} {st : List Value} {h : eH} {Q : eO → eH → Prop} {a : Nat} {h' : eH} {v : Value} (hf : p_F 34 h a 123 v = some h') (hd : decode Y.2.1 pc = .ok (.putfield 237, 3)) (hY : Y.1.cls = RX35) (hI : Y.1.name = "<init>") (hn : narrow (tyX35 123) v = v) (hfit : fits (tyX35 123) v = true) (kk : wp w d Y (pc + 3) ls st h' Q) : wp w d Y pc ls (v :: .ref a :: st) h Q := x_pF (ci := 34) (k := 123) hf hd rfl (by decide) (by rw [hY]; exact q4624) rfl hI (by rw [hY]; rfl) (tyX35_ok 123 (by decide)) hn hfit kk
theorem SX35_240 {w : eW} {d : Nat} {Y : eY} {pc : Nat} {ls : eL} {st : List Value} {h : eH} {Q : eO → eH → Prop} {a : Nat} {h' : eH} {v : Value} (hf : p_F 34 h a 125 v = some h') (hd : decode Y.2.1 pc = .ok (.putfield 240, 3)) (hY : Y.1.cls = RX35) (hI : Y.1.name = "<init>") (hn : narrow (tyX35 125) v = v) (hfit : fits (tyX35 125) v = true) (kk : wp w d Y (pc + 3) ls st h' Q) : wp w d Y pc ls (v :: .ref a :: st) h Q := x_pF (ci := 34) (k := 125) hf hd rfl (by decide) (by rw [hY]; exact q4626) rfl hI (by rw [hY]; rfl) (tyX35_ok 125 (by decide)) hn hfit kk
theorem SX35_243 {w : eW} {d : Nat} {Y : eY} {pc : Nat} {ls : eL} {st : List Value} {h : eH} {Q : eO → eH → Prop} {a : Nat} {h' : eH} {v : Value} (hf : p_F 34 h a 126 v = some h') (hd : decode Y.2.1 pc = .ok (.putfield 243, 3)) (hY : Y.1.cls = RX35) (hI : Y.1.name = "<init>") (hn : narrow (tyX35 126) v = v) (hfit : fits (tyX35 126) v = true) (kk : wp w d Y (pc + 3) ls st h' Q) : wp w d Y pc ls (v :: .ref a :: st) h Q := x_pF (ci := 34) (k := 126) hf hd rfl (by decide) (by rw [hY]; exact q4627) rfl hI (by rw [hY]; rfl) (tyX35_ok 126 (by decide)) hn hfit kk
theorem SX35_246 {w : eW} {d : Nat} {Y : eY} {pc : Nat} {ls : eL} {st : List Value} {h : eH} {Q : eO → eH → Prop} {a : Nat} {h' : eH} {x : Nat} (hf : p_V 34 h a 127 (.ref x) = some h') (hd : decode Y.2.1 pc = .ok (.putfield 246, 3)) (hY : Y.1.cls = RX35) (kk : wp w d Y (pc + 3) ls st h' Q) : wp w d Y pc ls (.ref x :: .ref a :: st) h Q := x_pA (ci := 34) (k := 127) hf hd rfl (by decide) (by rw [hY]; exact q4628) rfl rfl rfl rfl kk
theorem SX35_28 {w : eW} {d : Nat} {Y : eY} {pc : Nat} {ls : eL} {st : List Value} {h : eH} {Q : eO → eH → Prop} {a : Nat} {h' : eH} {v : Value} (hf : p_F 34 h a 5 v = some h') (hd : decode Y.2.1 pc = .ok (.putfield 28, 3)) (hY : Y.1.cls = RX35) (hI : Y.1.name = "<init>") (hn : narrow (tyX35 5) v = v) (hfit : fits (tyX35 5) v = true) (kk : wp w d Y (pc + 3) ls st h' Q) : wp w d Y pc ls (v :: .ref a :: st) h Q := x_pF (ci := 34) (k := 5) hf hd rfl (by decide) (by rw [hY]; exact q4507) rfl hI (by rw [hY]; rfl) (tyX35_ok 5 (by decide)) hn hfit kk
theorem SX35_35 {w : eW} {d : Nat} {Y : eY} {pc : Nat} {ls : eL} {st : List Value} {h : eH} {Q : eO → eH → Prop} {a : Nat} {h' : eH} {v : Value} (hf : p_F 34 h a 6 v = some h') (hd : decode Y.2.1 pc = .ok (.putfield 35, 3)) (hY : Y.1.cls = RX35) (hI : Y.1.name = "<init>") (hn : narrow (tyX35 6) v = v) (hfit : fits (tyX35 6) v = true) (kk : wp w d Y (pc + 3) ls st h' Q) : wp w d Y pc ls (v :: .ref a :: st) h Q := x_pF (ci := 34) (k := 6) hf hd rfl (by decide) (by rw [hY]; exact q4508) rfl hI (by rw [hY]; rfl) (tyX35_ok 6 (by decide)) hn hfit kk
theorem SX35_42 {w : eW} {d : Nat} {Y : eY} {pc : Nat} {ls : eL} {st : List Value} {h : eH} {Q : eO → eH → Prop} {a : Nat} {h' : eH} {v : Value} (hf : p_F 34 h a 7 v = some h') (hd : decode Y.2.1 pc = .ok (.putfield 42, 3)) (hY : Y.1.cls = RX35) (hI : Y.1.name = "<init>") (hn : narrow (tyX35 7) v = v) (hfit : fits (tyX35 7) v = true) (kk : wp w d Y (pc + 3) ls st h' Q) : wp w d Y pc ls (v :: .ref a :: st) h Q := x_pF (ci := 34) (k := 7) hf hd rfl (by decide) (by rw [hY]; exact q4509) rfl hI (by rw [hY]; rfl) (tyX35_ok 7 (by decide)) hn hfit kk
theorem SX35_47 {w : eW} {d : Nat} {Y : eY} {pc : Nat} {ls : eL} {st : List Value} {h : eH} {Q : eO → eH → Prop} {a : Nat} {h' : eH} {v : Value} (hf : p_F 34 h a 11 v = some h') (hd : decode Y.2.1 pc = .ok (.putfield 47, 3)) (hY : Y.1.cls = RX35) (hI : Y.1.name = "<init>") (hn : narrow (tyX35 11) v = v) (hfit : fits (tyX35 11) v = true) (kk : wp w d Y (pc + 3) ls st h' Q) : wp w d Y pc ls (v :: .ref a :: st) h Q := x_pF (ci := 34) (k := 11) hf hd rfl (by decide) (by rw [hY]; exact q4513) rfl hI (by rw [hY]; rfl) (tyX35_ok 11 (by decide)) hn hfit kk
theorem SX35_52 {w : eW} {d : Nat} {Y : eY} {pc : Nat} {ls : eL} {st : List Value} {h : eH} {Q : eO → eH → Prop} {a : Nat} {h' : eH} {v : Value} (hf : p_F 34 h a 16 v = some h') (hd : decode Y.2.1 pc = .ok (.putfield 52, 3)) (hY : Y.1.cls = RX35) (hI : Y.1.name = "<init>") (hn : narrow (tyX35 16) v = v) (hfit : fits (tyX35 16) v = true) (kk : wp w d Y (pc + 3) ls st h' Q) : wp w d Y pc ls (v :: .ref a :: st) h Q := x_pF (ci := 34) (k := 16) hf hd rfl (by decide) (by rw [hY]; exact q4518) rfl hI (by rw [hY]; rfl) (tyX35_ok 16 (by decide)) hn hfit kk
theorem SX35_55 {w : eW} {d : Nat} {Y : eY} {pc : Nat} {ls : eL} {st : List Value} {h : eH} {Q : eO → eH → Prop} {a : Nat} {h' : eH} {v : Value} (hf : p_F 34 h a 17 v = some h') (hd : decode Y.2.1 pc = .ok (.putfield 55, 3)) (hY : Y.1.cls = RX35) (hI : Y.1.name = "<init>") (hn : narrow (tyX35 17) v = v) (hfit : fits (tyX35 17) v = true) (kk : wp w d Y (pc + 3) ls st h' Q) : wp w d Y pc ls (v :: .ref a :: st) h Q := x_pF (ci := 34) (k := 17) hf hd rfl (by decide) (by rw [hY]; exact q4519) rfl hI (by rw [hY]; rfl) (tyX35_ok 17 (by decide)) hn hfit kk
theorem SX35_58 {w : eW} {d : Nat} {Y : eY} {pc : Nat} {ls : eL} {st : List Value} {h : eH} {Q : eO → eH → Prop} {a : Nat} {h' : eH} {v : Value} (hf : p_F 34 h a 18 v = some h') (hd : decode Y.2.1 pc = .ok (.putfield 58, 3)) (hY : Y.1.cls = RX35) (hI : Y.1.name = "<init>") (hn : narrow (tyX35 18) v = v) (hfit : fits (tyX35 18) v = true) (kk : wp w d Y (pc + 3) ls st h' Q) : wp w d Y pc ls (v :: .ref a :: st) h Q := x_pF (ci := 34) (k := 18) hf hd rfl (by decide) (by rw [hY]; exact q4520) rfl hI (by rw [hY]; rfl) (tyX35_ok 18 (by decide)) hn hfit kk
theorem SX35_61 {w : eW} {d : Nat} {Y : eY} {pc : Nat} {ls : eL} {st : List Value} {h : eH} {Q : eO → eH → Prop} {a : Nat} {h' : eH} {v : Value} (hf : p_F 34 h a 20 v = some h') (hd : decode Y.2.1 pc = .ok (.putfield 61, 3)) (hY : Y.1.cls = RX35) (hI : Y.1.name = "<init>") (hn : narrow (tyX35 20) v = v) (hfit : fits (tyX35 20) v = true) (kk : wp w d Y (pc + 3) ls st h' Q) : wp w d Y pc ls (v :: .ref a :: st) h Q := x_pF (ci := 34) (k := 20) hf hd rfl (by decide) (by rw [hY]; exact q4522) rfl hI (by rw [hY]; rfl) (tyX35_ok 20 (by decide)) hn hfit kk
theorem SX35_65 {w : eW} {d : Nat} {Y : eY} {pc : Nat} {ls : eL} {st : List Value} {h : eH} {Q : eO → eH → Prop} {a : Nat} {h' : eH} {v : Value} (hf : p_F 34 h a 22 v = some h') (hd : decode Y.2.1 pc = .ok (.putfield 65, 3)) (hY : Y.1.cls = RX35) (hI : Y.1.name = "<init>") (hn : narrow (tyX35 22) v = v) (hfit : fits (tyX35 22) v = true) (kk : wp w d Y (pc + 3) ls st h' Q) : wp w d Y pc ls (v :: .ref a :: st) h Q := x_pF (ci := 34) (k := 22) hf hd rfl (by decide) (by rw [hY]; exact q4524) rfl hI (by rw [hY]; rfl) (tyX35_ok 22 (by decide)) hn hfit kk
theorem SX35_68 {w : eW} {d : Nat} {Y : eY} {pc : Nat} {ls : eL} {st : List Value} {h : eH} {Q : eO → eH → Prop} {a : Nat} {h' : eH} {v : Value} (hf : p_F 34 h a 23 v = some h') (hd : decode Y.2.1 pc = .ok (.putfield 68, 3)) (hY : Y.1.cls = RX35) (hI : Y.1.name = "<init>") (hn : narrow (tyX35 23) v = v) (hfit : fits (tyX35 23) v = true) (kk : wp w d Y (pc + 3) ls st h' Q) : wp w d Y pc ls (v :: .ref a :: st) h Q := x_pF (ci := 34) (k := 23) hf hd rfl (by decide) (by rw [hY]; exact q4525) rfl hI (by rw [hY]; rfl) (tyX35_ok 23 (by decide)) hn hfit kk
theorem SX35_71 {w : eW} {d : Nat} {Y : eY} {pc : Nat} {ls : eL} {st : List Value} {h : eH} {Q : eO → eH → Prop} {a : Nat} {h' : eH} {v : Value} (hf : p_F 34 h a 24 v = some h') (hd : decode Y.2.1 pc = .ok (.putfield 71, 3)) (hY : Y.1.cls = RX35) (hI : Y.1.name = "<init>") (hn : narrow (tyX35 24) v = v) (hfit : fits (tyX35 24) v = true) (kk : wp w d Y (pc + 3) ls st h' Q) : wp w d Y pc ls (v :: .ref a :: st) h Q := x_pF (ci := 34) (k := 24) hf hd rfl (by decide) (by rw [hY]; exact q4526) rfl hI (by rw [hY]; rfl) (tyX35_ok 24 (by decide)) hn hfit kk
theorem SX35_75 {w : eW} {d : Nat} {Y : eY} {pc : Nat} {ls : eL} {st : List Value} {h : eH} {Q : eO → eH → Prop} {a : Nat} {h' : eH} {v : Value} (hf : p_F 34 h a 25 v = some h') (hd : decode Y.2.1 pc = .ok (.putfield 75, 3)) (hY : Y.1.cls = RX35) (hI : Y.1.name = "<init>") (hn : narrow (tyX35 25) v = v) (hfit : fits (tyX35 25) v = true) (kk : wp w d Y (pc + 3) ls st h' Q) : wp w d Y pc ls (v :: .ref a :: st) h Q := x_pF (ci := 34) (k := 25) hf hd rfl (by decide) (by rw [hY]; exact q4527) rfl hI (by rw [hY]; rfl) (tyX35_ok 25 (by decide)) hn hfit kk
theorem SX35_78 {w : eW} {d : Nat} {Y : eY} {pc : Nat} {ls : eL} {st : List Value} {h : eH} {Q : eO → eH → Prop} {a : Nat} {h' : eH} {v : Value} (hf : p_F 34 h a 26 v = some h') (hd : decode Y.2.1 pc = .ok (.putfield 78, 3)) (hY : Y.1.cls = RX35) (hI : Y.1.name = "<init>") (hn : narrow (tyX35 26) v = v) (hfit : fits (tyX35 26) v = true) (kk : wp w d Y (pc + 3) ls st h' Q) : wp w d Y pc ls (v :: .ref a :: st) h Q := x_pF (ci := 34) (k := 26) hf hd rfl (by decide) (by rw [hY]; exact q4528) rfl hI (by rw [hY]; rfl) (tyX35_ok 26 (by decide)) hn hfit kk
theorem SX35_8 {w : eW} {d : Nat} {Y : eY} {pc : Nat} {ls : eL} {st : List Value} {h : eH} {Q : eO → eH → Prop} {a : Nat} {h' : eH} {v : Value} (hf : p_F 34 h a 2 v = some h') (hd : decode Y.2.1 pc = .ok (.putfield 8, 3)) (hY : Y.1.cls = RX35) (hI : Y.1.name = "<init>") (hn : narrow (tyX35 2) v = v) (hfit : fits (tyX35 2) v = true) (kk : wp w d Y (pc + 3) ls st h' Q) : wp w d Y pc ls (v :: .ref a :: st) h Q := x_pF (ci := 34) (k := 2) hf hd rfl (by decide) (by rw [hY]; exact q4504) rfl hI (by rw [hY]; rfl) (tyX35_ok 2 (by decide)) hn hfit kk
theorem SX35_81 {w : eW} {d : Nat} {Y : eY} {pc : Nat} {ls : eL} {st : List Value} {h : eH} {Q : eO → eH → Prop} {a : Nat} {h' : eH} {v : Value} (hf : p_F 34 h a 27 v = some h') (hd : decode Y.2.1 pc = .ok (.putfield 81, 3)) (hY : Y.1.cls = RX35) (hI : Y.1.name = "<init>") (hn : narrow (tyX35 27) v = v) (hfit : fits (tyX35 27) v = true) (kk : wp w d Y (pc + 3) ls st h' Q) : wp w d Y pc ls (v :: .ref a :: st) h Q := x_pF (ci := 34) (k := 27) hf hd rfl (by decide) (by rw [hY]; exact q4529) rfl hI (by rw [hY]; rfl) (tyX35_ok 27 (by decide)) hn hfit kk
theorem SX35_84 {w : eW} {d : Nat} {Y : eY} {pc : Nat} {ls : eL} {st : List Value} {h : eH} {Q : eO → eH → Prop} {a : Nat} {h' : eH} {v : Value} (hf : p_F 34 h a 28 v = some h') (hd : decode Y.2.1 pc = .ok (.putfield 84, 3)) (hY : Y.1.cls = RX35) (hI : Y.1.name = "<init>") (hn : narrow (tyX35 28) v = v) (hfit : fits (tyX35 28) v = true) (kk : wp w d Y (pc + 3) ls st h' Q) : wp w d Y pc ls (v :: .ref a :: st) h Q := x_pF (ci := 34) (k := 28) hf hd rfl (by decide) (by rw [hY]; exact q4530) rfl hI (by rw [hY]; rfl) (tyX35_ok 28 (by decide)) hn hfit kk
theorem SX35_87 {w : eW} {d : Nat} {Y : eY} {pc : Nat} {ls : eL} {st : List Value} {h : eH} {Q : eO → eH → Prop} {a : Nat} {h' : eH} {v : Value} (hf : p_F 34 h a 29 v = some h') (hd : decode Y.2.1 pc = .ok (.putfield 87, 3)) (hY : Y.1.cls = RX35) (hI : Y.1.name = "<init>") (hn : narrow (tyX35 29) v = v) (hfit : fits (tyX35 29) v = true) (kk : wp w d Y (pc + 3) ls st h' Q) : wp w d Y pc ls (v :: .ref a :: st) h Q := x_pF (ci := 34) (k := 29) hf hd rfl (by decide) (by rw [hY]; exact q4531) rfl hI (by rw [hY]; rfl) (tyX35_ok 29 (by decide)) hn hfit kk
theorem SX35_90 {w : eW} {d : Nat} {Y : eY} {pc : Nat} {ls : eL} {st : List Value} {h : eH} {Q : eO → eH → Prop} {a : Nat} {h' : eH} {v : Value} (hf : p_F 34 h a 31 v = some h') (hd : decode Y.2.1 pc = .ok (.putfield 90, 3)) (hY : Y.1.cls = RX35) (hI : Y.1.name = "<init>") (hn : narrow (tyX35 31) v = v) (hfit : fits (tyX35 31) v = true) (kk : wp w d Y (pc + 3) ls st h' Q) : wp w d Y pc ls (v :: .ref a :: st) h Q := x_pF (ci := 34) (k := 31) hf hd rfl (by decide) (by rw [hY]; exact q4533) rfl hI (by rw [hY]; rfl) (tyX35_ok 31 (by decide)) hn hfit kk
theorem SX35_93 {w : eW} {d : Nat} {Y : eY} {pc : Nat} {ls : eL} {st : List Value} {h : eH} {Q : eO → eH → Prop} {a : Nat} {h' : eH} {v : Value} (hf : p_F 34 h a 32 v = some h') (hd : decode Y.2.1 pc = .ok (.putfield 93, 3)) (hY : Y.1.cls = RX35) (hI : Y.1.name = "<init>") (hn : narrow (tyX35 32) v = v) (hfit : fits (tyX35 32) v = true) (kk : wp w d Y (pc + 3) ls st h' Q) : wp w d Y pc ls (v :: .ref a :: st) h Q := x_pF (ci := 34) (k := 32) hf hd rfl (by decide) (by rw [hY]; exact q4534) rfl hI (by rw [hY]; rfl) (tyX35_ok 32 (by decide)) hn hfit kk
theorem SX35_96 {w : eW} {d : Nat} {Y : eY} {pc : Nat} {ls : eL} {st : List Value} {h : eH} {Q : eO → eH → Prop} {a : Nat} {h' : eH} {v : Value} (hf : p_F 34 h a 33 v = some h') (hd : decode Y.2.1 pc = .ok (.putfield 96, 3)) (hY : Y.1.cls = RX35) (hI : Y.1.name = "<init>") (hn : narrow (tyX35 33) v = v) (hfit : fits (tyX35 33) v = true) (kk : wp w d Y (pc + 3) ls st h' Q) : wp w d Y pc ls (v :: .ref a :: st) h Q := x_pF (ci := 34) (k := 33) hf hd rfl (by decide) (by rw [hY]; exact q4535) rfl hI (by rw [hY]; rfl) (tyX35_ok 33 (by decide)) hn hfit kk
theorem SX35_99 {w : eW} {d : Nat} {Y : eY} {pc : Nat} {ls : eL} {st : List Value} {h : eH} {Q : eO → eH → Prop} {a : Nat} {h' : eH} {v : Value} (hf : p_F 34 h a 34 v = some h') (hd : decode Y.2.1 pc = .ok (.putfield 99, 3)) (hY : Y.1.cls = RX35) (hI : Y.1.name = "<init>") (hn : narrow (tyX35 34) v = v) (hfit : fits (tyX35 34) v = true) (kk : wp w d Y (pc + 3) ls st h' Q) : wp w d Y pc ls (v :: .ref a :: st) h Q := x_pF (ci := 34) (k := 34) hf hd rfl (by decide) (by rw [hY]; exact q4536) rfl hI (by rw [hY]; rfl) (tyX35_ok 34 (by decide)) hn hfit kk
def fX35_init (N : Nat) (this : Nat) (h : eH) : Option (Unit × eH) :=
  (n_arr 102 251 (.int 0) h (65536 : Int32)).bind fun q1 =>
  (p_F 34 q1.2 this 2 (.ref q1.1)).bind fun h3 =>
  (p_V 34 h3 this 3 (.int (100000 : Int32))).bind fun h5 =>
  (n_arr 107 252 .null h5 (16 : Int32)).bind fun q7 =>
  (p_F 34 q7.2 this 4 (.ref q7.1)).bind fun h9 =>
  (n_obj 35 253 28 tyX36 h9).bind fun q11 =>
  (fX36_init N q11.1 q11.2).bind fun q13 =>
  (p_F 34 q13.2 this 5 (.ref q11.1)).bind fun h14 =>
  (n_obj 36 254 48 tyX37 h14).bind fun q16 =>
  (fX37_init q16.1 q16.2).bind fun q18 =>
  (p_F 34 q18.2 this 6 (.ref q16.1)).bind fun h19 =>
  (n_obj 37 255 23 tyX38 h19).bind fun q21 =>
  (fX38_init q21.1 q21.2).bind fun q23 =>
  (p_F 34 q23.2 this 7 (.ref q21.1)).bind fun h24 =>
  (n_arr 100 256 (.int 0) h24 (65537 : Int32)).bind fun q26 =>
  (p_F 34 q26.2 this 11 (.ref q26.1)).bind fun h28 =>
  (n_arr 102 257 (.int 0) h28 (44000 : Int32)).bind fun q30 =>
  (p_F 34 q30.2 this 16 (.ref q30.1)).bind fun h32 =>
  (n_arr 100 258 (.int 0) h32 (1100 : Int32)).bind fun q34 =>
  (p_F 34 q34.2 this 17 (.ref q34.1)).bind fun h36 =>
  (n_arr 100 259 (.int 0) h36 (41 : Int32)).bind fun q38 =>
  (p_F 34 q38.2 this 18 (.ref q38.1)).bind fun h40 =>
  (n_arr 100 260 (.int 0) h40 (1722 : Int32)).bind fun q42 =>
  (p_F 34 q42.2 this 20 (.ref q42.1)).bind fun h44 =>
  (n_arr 100 261 (.int 0) h44 (385012 : Int32)).bind fun q46 =>
  (p_F 34 q46.2 this 22 (.ref q46.1)).bind fun h48 =>
  (n_arr 100 262 (.int 0) h48 (101 : Int32)).bind fun q50 =>
  (p_F 34 q50.2 this 23 (.ref q50.1)).bind fun h52 =>
  (n_arr 103 263 (.int 0) h52 (101 : Int32)).bind fun q54 =>
  (p_F 34 q54.2 this 24 (.ref q54.1)).bind fun h56 =>
  (n_arr 100 264 (.int 0) h56 (101 : Int32)).bind fun q58 =>
  (p_F 34 q58.2 this 25 (.ref q58.1)).bind fun h60 =>
  (n_arr 100 265 (.int 0) h60 (101 : Int32)).bind fun q62 =>
  (p_F 34 q62.2 this 26 (.ref q62.1)).bind fun h64 =>
  (n_arr 100 266 (.int 0) h64 (101 : Int32)).bind fun q66 =>
  (p_F 34 q66.2 this 27 (.ref q66.1)).bind fun h68 =>
  (n_arr 100 267 (.int 0) h68 (101 : Int32)).bind fun q70 =>
  (p_F 34 q70.2 this 28 (.ref q70.1)).bind fun h72 =>
  (n_arr 103 268 (.int 0) h72 (101 : Int32)).bind fun q74 =>
  (p_F 34 q74.2 this 29 (.ref q74.1)).bind fun h76 =>
  (n_arr 100 269 (.int 0) h76 (10002 : Int32)).bind fun q78 =>
  (p_F 34 q78.2 this 31 (.ref q78.1)).bind fun h80 =>
  (n_arr 100 270 (.int 0) h80 (10002 : Int32)).bind fun q82 =>
  (p_F 34 q82.2 this 32 (.ref q82.1)).bind fun h84 =>
  (n_arr 100 271 (.int 0) h84 (10002 : Int32)).bind fun q86 =>
  (p_F 34 q86.2 this 33 (.ref q86.1)).bind fun h88 =>
  (n_arr 100 272 (.int 0) h88 (10002 : Int32)).bind fun q90 =>
  (p_F 34 q90.2 this 34 (.ref q90.1)).bind fun h92 =>
  (n_arr 100 273 (.int 0) h92 (10001 : Int32)).bind fun q94 =>
  (p_F 34 q94.2 this 36 (.ref q94.1)).bind fun h96 =>
  (n_arr 100 274 (.int 0) h96 (10600 : Int32)).bind fun q98 =>
  (p_F 34 q98.2 this 38 (.ref q98.1)).bind fun h100 =>
  (n_arr 100 275 (.int 0) h100 (99000 : Int32)).bind fun q102 =>
  (p_F 34 q102.2 this 39 (.ref q102.1)).bind fun h104 =>
  (n_arr 100 276 (.int 0) h104 (9 : Int32)).bind fun q106 =>
  (p_F 34 q106.2 this 40 (.ref q106.1)).bind fun h108 =>
  (n_arr 103 277 (.int 0) h108 (101 : Int32)).bind fun q110 =>
  (p_F 34 q110.2 this 42 (.ref q110.1)).bind fun h112 =>
  (n_arr 100 278 (.int 0) h112 (101 : Int32)).bind fun q114 =>
  (p_F 34 q114.2 this 43 (.ref q114.1)).bind fun h116 =>
  (n_arr 100 279 (.int 0) h116 (100 : Int32)).bind fun q118 =>
  (p_F 34 q118.2 this 49 (.ref q118.1)).bind fun h120 =>
  (n_arr 100 280 (.int 0) h120 (100 : Int32)).bind fun q122 =>
  (p_F 34 q122.2 this 50 (.ref q122.1)).bind fun h124 =>
  (n_arr 100 281 (.int 0) h124 (260 : Int32)).bind fun q126 =>
  (p_F 34 q126.2 this 52 (.ref q126.1)).bind fun h128 =>
  (n_arr 100 282 (.int 0) h128 (260 : Int32)).bind fun q130 =>
  (p_F 34 q130.2 this 53 (.ref q130.1)).bind fun h132 =>
  (n_arr 100 283 (.int 0) h132 (260 : Int32)).bind fun q134 =>
  (p_F 34 q134.2 this 54 (.ref q134.1)).bind fun h136 =>
  (n_arr 100 284 (.int 0) h136 (6000 : Int32)).bind fun q138 =>
  (p_V 34 q138.2 this 55 (.ref q138.1)).bind fun h140 =>
  (n_arr 100 285 (.int 0) h140 (64 : Int32)).bind fun q142 =>
  (p_F 34 q142.2 this 59 (.ref q142.1)).bind fun h144 =>
  (n_arr 100 286 (.int 0) h144 (1100 : Int32)).bind fun q146 =>
  (p_F 34 q146.2 this 60 (.ref q146.1)).bind fun h148 =>
  (n_arr 100 287 (.int 0) h148 (1100 : Int32)).bind fun q150 =>
  (p_F 34 q150.2 this 61 (.ref q150.1)).bind fun h152 =>
  (n_arr 100 288 (.int 0) h152 (12060 : Int32)).bind fun q154 =>
  (p_V 34 q154.2 this 63 (.ref q154.1)).bind fun h156 =>
  (n_arr 100 289 (.int 0) h156 (3001 : Int32)).bind fun q158 =>
  (p_F 34 q158.2 this 66 (.ref q158.1)).bind fun h160 =>
  (n_arr 103 290 (.int 0) h160 (3000 : Int32)).bind fun q162 =>
  (p_F 34 q162.2 this 67 (.ref q162.1)).bind fun h164 =>
  (n_arr 100 291 (.int 0) h164 (3000 : Int32)).bind fun q166 =>
  (p_F 34 q166.2 this 68 (.ref q166.1)).bind fun h168 =>
  (n_arr 100 292 (.int 0) h168 (3000 : Int32)).bind fun q170 =>
  (p_F 34 q170.2 this 69 (.ref q170.1)).bind fun h172 =>
  (n_arr 100 293 (.int 0) h172 (3000 : Int32)).bind fun q174 =>
  (p_F 34 q174.2 this 70 (.ref q174.1)).bind fun h176 =>
  (n_arr 100 294 (.int 0) h176 (3000 : Int32)).bind fun q178 =>
  (p_F 34 q178.2 this 71 (.ref q178.1)).bind fun h180 =>
  (n_arr 100 295 (.int 0) h180 (3000 : Int32)).bind fun q182 =>
  (p_F 34 q182.2 this 72 (.ref q182.1)).bind fun h184 =>
  (n_arr 100 296 (.int 0) h184 (3000 : Int32)).bind fun q186 =>
  (p_F 34 q186.2 this 73 (.ref q186.1)).bind fun h188 =>
  (n_arr 100 297 (.int 0) h188 (3000 : Int32)).bind fun q190 =>
  (p_F 34 q190.2 this 74 (.ref q190.1)).bind fun h192 =>
  (n_arr 100 298 (.int 0) h192 (3000 : Int32)).bind fun q194 =>
  (p_F 34 q194.2 this 75 (.ref q194.1)).bind fun h196 =>
  (n_arr 100 299 (.int 0) h196 (3000 : Int32)).bind fun q198 =>
  (p_F 34 q198.2 this 76 (.ref q198.1)).bind fun h200 =>
  (n_arr 100 300 (.int 0) h200 (120000 : Int32)).bind fun q202 =>
  (p_F 34 q202.2 this 77 (.ref q202.1)).bind fun h204 =>
  (n_arr 101 301 (.long 0) h204 (4 : Int32)).bind fun q206 =>
  (p_F 34 q206.2 this 83 (.ref q206.1)).bind fun h208 =>
  (n_arr 101 302 (.long 0) h208 (4 : Int32)).bind fun q210 =>
  (p_F 34 q210.2 this 84 (.ref q210.1)).bind fun h212 =>
  (n_arr 100 303 (.int 0) h212 (10000 : Int32)).bind fun q214 =>
  (p_F 34 q214.2 this 87 (.ref q214.1)).bind fun h216 =>
  (n_arr 100 304 (.int 0) h216 (10000 : Int32)).bind fun q218 =>
  (p_F 34 q218.2 this 88 (.ref q218.1)).bind fun h220 =>
  (n_arr 100 305 (.int 0) h220 (10000 : Int32)).bind fun q222 =>
  (p_F 34 q222.2 this 89 (.ref q222.1)).bind fun h224 =>
  (n_arr 100 306 (.int 0) h224 (10000 : Int32)).bind fun q226 =>
  (p_F 34 q226.2 this 90 (.ref q226.1)).bind fun h228 =>
  (n_arr 100 307 (.int 0) h228 (10000 : Int32)).bind fun q230 =>
  (p_F 34 q230.2 this 91 (.ref q230.1)).bind fun h232 =>
  (n_arr 100 308 (.int 0) h232 (10000 : Int32)).bind fun q234 =>
  (p_F 34 q234.2 this 92 (.ref q234.1)).bind fun h236 =>
  (n_arr 100 309 (.int 0) h236 (10000 : Int32)).bind fun q238 =>
  (p_F 34 q238.2 this 93 (.ref q238.1)).bind fun h240 =>
  (n_arr 100 310 (.int 0) h240 (3000 : Int32)).bind fun q242 =>
  (p_F 34 q242.2 this 103 (.ref q242.1)).bind fun h244 =>
  (n_arr 100 311 (.int 0) h244 (3000 : Int32)).bind fun q246 =>
  (p_F 34 q246.2 this 104 (.ref q246.1)).bind fun h248 =>
  (n_arr 101 312 (.long 0) h248 (3000 : Int32)).bind fun q250 =>
  (p_F 34 q250.2 this 105 (.ref q250.1)).bind fun h252 =>
  (n_arr 101 313 (.long 0) h252 (3000 : Int32)).bind fun q254 =>
  (p_F 34 q254.2 this 106 (.ref q254.1)).bind fun h256 =>
  (n_arr 101 314 (.long 0) h256 (3000 : Int32)).bind fun q258 =>
  (p_F 34 q258.2 this 107 (.ref q258.1)).bind fun h260 =>
  (n_arr 101 315 (.long 0) h260 (3000 : Int32)).bind fun q262 =>
  (p_F 34 q262.2 this 108 (.ref q262.1)).bind fun h264 =>
  (n_arr 101 316 (.long 0) h264 (3000 : Int32)).bind fun q266 =>
  (p_F 34 q266.2 this 109 (.ref q266.1)).bind fun h268 =>
  (n_arr 100 317 (.int 0) h268 (714 : Int32)).bind fun q270 =>
  (p_F 34 q270.2 this 123 (.ref q270.1)).bind fun h272 =>
  (n_arr 100 318 (.int 0) h272 (64 : Int32)).bind fun q274 =>
  (p_F 34 q274.2 this 125 (.ref q274.1)).bind fun h276 =>
  (n_arr 100 319 (.int 0) h276 (64 : Int32)).bind fun q278 =>
  (p_F 34 q278.2 this 126 (.ref q278.1)).bind fun h280 =>
  (n_arr 100 320 (.int 0) h280 (12600 : Int32)).bind fun q282 =>
  (p_V 34 q282.2 this 127 (.ref q282.1)).bind fun h284 =>
  (k_ok 34 h284 this).bind fun _ =>
  (fX35_clear N this h284).bind fun q287 =>
  some ((), q287.2)
theorem pX35_init {w : eW} {d : Nat} (hd : 6 ≤ d) {N : Nat} {this : Nat} {h : eH} {q} (hf : fX35_init N this h = some q) : wm w d YX35_init [.ref this] h (e_is (e_rn c_V q)) := by
  obtain ⟨d, rfl⟩ : ∃ e, d = e + 1 := ⟨d - 1, by omega⟩
  show wp w (d + 1) YX35_init 0 [some (.ref this)] [] h _
  unfold fX35_init at hf
  refine w_aload_n dX35_init_0 rfl rfl ?_
  refine w_obj dX35_init_1 q4118 q490 q491 (by decide) ?_
  refine w_aload_n dX35_init_4 rfl rfl ?_
  refine w_ldc dX35_init_5 q4119 ?_
  obtain ⟨q1, b2, hf⟩ := Option.bind_eq_some_iff.mp hf
  refine x_newB (g := 251) b2 dX35_init_7 q507 ?_
  obtain ⟨h3, b4, hf⟩ := Option.bind_eq_some_iff.mp hf
  refine SX35_8 b4 dX35_init_9 rfl rfl rfl rfl ?_
  refine w_aload_n dX35_init_12 rfl rfl ?_
  refine w_ldc dX35_init_13 q4120 ?_
  obtain ⟨h5, b6, hf⟩ := Option.bind_eq_some_iff.mp hf
  refine SX35_15 b6 dX35_init_15 rfl ?_
  refine w_aload_n dX35_init_18 rfl rfl ?_
  refine w_bipush dX35_init_19 (v := 16) (by decide) ?_
  obtain ⟨q7, b8, hf⟩ := Option.bind_eq_some_iff.mp hf
  refine x_anew (k := 107) (g := 252) b8 dX35_init_21 (by decide) (by decide) rfl q4121 q4122 ?_
  obtain ⟨h9, b10, hf⟩ := Option.bind_eq_some_iff.mp hf
  refine SX35_21 b10 dX35_init_24 rfl rfl rfl rfl ?_
  refine w_aload_n dX35_init_27 rfl rfl ?_
  obtain ⟨q11, b12, hf⟩ := Option.bind_eq_some_iff.mp hf
  refine x_new (ci := 35) (g := 253) b12 dX35_init_28 rfl tyX36_ok q4123 q4124 q467 ?_
  refine w_dup dX35_init_31 rfl ?_
  refine x_cnV hf (e_stI (Yc := YX36_init) (b := q11.1) (av := []) (st := [.ref q11.1, .ref this]) dX35_init_32 q4125 mX36_init) (e_mi.cd mX36_init) mX36_init.2.2.2.2.2.1 (Nat.le_of_ble_eq_true rfl) (Nat.le_of_ble_eq_true rfl) (fun q hq => pX36_init (by omega) hq) (fun q13 hf => ?_)
  obtain ⟨h14, b15, hf⟩ := Option.bind_eq_some_iff.mp hf
  refine SX35_28 b15 dX35_init_35 rfl rfl rfl rfl ?_
  refine w_aload_n dX35_init_38 rfl rfl ?_
  obtain ⟨q16, b17, hf⟩ := Option.bind_eq_some_iff.mp hf
  refine x_new (ci := 36) (g := 254) b17 dX35_init_39 rfl tyX37_ok q4220 q4221 q468 ?_
  refine w_dup dX35_init_42 rfl ?_
  refine x_cnV hf (e_stIN (Yc := YX37_init) (b := q16.1) (av := []) (st := [.ref q16.1, .ref this]) dX35_init_43 q4222 mX37_init) (e_mi.cd mX37_init) mX37_init.2.2.2.2.2.1 (Nat.le_of_ble_eq_true rfl) (Nat.le_of_ble_eq_true rfl) (fun q hq => pX37_init (by omega) hq) (fun q18 hf => ?_)
  obtain ⟨h19, b20, hf⟩ := Option.bind_eq_some_iff.mp hf
  refine SX35_35 b20 dX35_init_46 rfl rfl rfl rfl ?_
  refine w_aload_n dX35_init_49 rfl rfl ?_
  obtain ⟨q21, b22, hf⟩ := Option.bind_eq_some_iff.mp hf
  refine x_new (ci := 37) (g := 255) b22 dX35_init_50 rfl tyX38_ok q4382 q4383 q469 ?_
  refine w_dup dX35_init_53 rfl ?_
  refine x_cnV hf (e_stIN (Yc := YX38_init) (b := q21.1) (av := []) (st := [.ref q21.1, .ref this]) dX35_init_54 q4384 mX38_init) (e_mi.cd mX38_init) mX38_init.2.2.2.2.2.1 (Nat.le_of_ble_eq_true rfl) (Nat.le_of_ble_eq_true rfl) (fun q hq => pX38_init (by omega) hq) (fun q23 hf => ?_)
  obtain ⟨h24, b25, hf⟩ := Option.bind_eq_some_iff.mp hf
  refine SX35_42 b25 dX35_init_57 rfl rfl rfl rfl ?_
  refine w_aload_n dX35_init_60 rfl rfl ?_
  refine w_ldc dX35_init_61 q4469 ?_
  obtain ⟨q26, b27, hf⟩ := Option.bind_eq_some_iff.mp hf
  refine x_newI (g := 256) b27 dX35_init_63 q582 ?_
  obtain ⟨h28, b29, hf⟩ := Option.bind_eq_some_iff.mp hf
  refine SX35_47 b29 dX35_init_65 rfl rfl rfl rfl ?_
  refine w_aload_n dX35_init_68 rfl rfl ?_
  refine w_ldc dX35_init_69 q4470 ?_
  obtain ⟨q30, b31, hf⟩ := Option.bind_eq_some_iff.mp hf
  refine x_newB (g := 257) b31 dX35_init_71 q507 ?_
  obtain ⟨h32, b33, hf⟩ := Option.bind_eq_some_iff.mp hf
  refine SX35_52 b33 dX35_init_73 rfl rfl rfl rfl ?_
  refine w_aload_n dX35_init_76 rfl rfl ?_
  refine w_sipush dX35_init_77 (v := 1100) (by decide) ?_
  obtain ⟨q34, b35, hf⟩ := Option.bind_eq_some_iff.mp hf
  refine x_newI (g := 258) b35 dX35_init_80 q582 ?_
  obtain ⟨h36, b37, hf⟩ := Option.bind_eq_some_iff.mp hf
  refine SX35_55 b37 dX35_init_82 rfl rfl rfl rfl ?_
  refine w_aload_n dX35_init_85 rfl rfl ?_
  refine w_bipush dX35_init_86 (v := 41) (by decide) ?_
  obtain ⟨q38, b39, hf⟩ := Option.bind_eq_some_iff.mp hf
  refine x_newI (g := 259) b39 dX35_init_88 q582 ?_
  obtain ⟨h40, b41, hf⟩ := Option.bind_eq_some_iff.mp hf
  refine SX35_58 b41 dX35_init_90 rfl rfl rfl rfl ?_
  refine w_aload_n dX35_init_93 rfl rfl ?_
  refine w_sipush dX35_init_94 (v := 1722) (by decide) ?_
  obtain ⟨q42, b43, hf⟩ := Option.bind_eq_some_iff.mp hf
  refine x_newI (g := 260) b43 dX35_init_97 q582 ?_
  obtain ⟨h44, b45, hf⟩ := Option.bind_eq_some_iff.mp hf
  refine SX35_61 b45 dX35_init_99 rfl rfl rfl rfl ?_
  refine w_aload_n dX35_init_102 rfl rfl ?_
  refine w_ldc dX35_init_103 q4471 ?_
  obtain ⟨q46, b47, hf⟩ := Option.bind_eq_some_iff.mp hf
  refine x_newI (g := 261) b47 dX35_init_105 q582 ?_
  obtain ⟨h48, b49, hf⟩ := Option.bind_eq_some_iff.mp hf
  refine SX35_65 b49 dX35_init_107 rfl rfl rfl rfl ?_
  refine w_aload_n dX35_init_110 rfl rfl ?_
  refine w_bipush dX35_init_111 (v := 101) (by decide) ?_
  obtain ⟨q50, b51, hf⟩ := Option.bind_eq_some_iff.mp hf
  refine x_newI (g := 262) b51 dX35_init_113 q582 ?_
  obtain ⟨h52, b53, hf⟩ := Option.bind_eq_some_iff.mp hf
  refine SX35_68 b53 dX35_init_115 rfl rfl rfl rfl ?_
  refine w_aload_n dX35_init_118 rfl rfl ?_
  refine w_bipush dX35_init_119 (v := 101) (by decide) ?_
  obtain ⟨q54, b55, hf⟩ := Option.bind_eq_some_iff.mp hf
  refine x_newZ (g := 263) b55 dX35_init_121 q583 ?_
  obtain ⟨h56, b57, hf⟩ := Option.bind_eq_some_iff.mp hf
  refine SX35_71 b57 dX35_init_123 rfl rfl rfl rfl ?_
  refine w_aload_n dX35_init_126 rfl rfl ?_
  refine w_bipush dX35_init_127 (v := 101) (by decide) ?_
  obtain ⟨q58, b59, hf⟩ := Option.bind_eq_some_iff.mp hf
  refine x_newI (g := 264) b59 dX35_init_129 q582 ?_
  obtain ⟨h60, b61, hf⟩ := Option.bind_eq_some_iff.mp hf
  refine SX35_75 b61 dX35_init_131 rfl rfl rfl rfl ?_
  refine w_aload_n dX35_init_134 rfl rfl ?_
  refine w_bipush dX35_init_135 (v := 101) (by decide) ?_
  obtain ⟨q62, b63, hf⟩ := Option.bind_eq_some_iff.mp hf
  refine x_newI (g := 265) b63 dX35_init_137 q582 ?_
  obtain ⟨h64, b65, hf⟩ := Option.bind_eq_some_iff.mp hf
  refine SX35_78 b65 dX35_init_139 rfl rfl rfl rfl ?_
  refine w_aload_n dX35_init_142 rfl rfl ?_
  refine w_bipush dX35_init_143 (v := 101) (by decide) ?_
  obtain ⟨q66, b67, hf⟩ := Option.bind_eq_some_iff.mp hf
  refine x_newI (g := 266) b67 dX35_init_145 q582 ?_
  obtain ⟨h68, b69, hf⟩ := Option.bind_eq_some_iff.mp hf
  refine SX35_81 b69 dX35_init_147 rfl rfl rfl rfl ?_
  refine w_aload_n dX35_init_150 rfl rfl ?_
  refine w_bipush dX35_init_151 (v := 101) (by decide) ?_
  obtain ⟨q70, b71, hf⟩ := Option.bind_eq_some_iff.mp hf
  refine x_newI (g := 267) b71 dX35_init_153 q582 ?_
  obtain ⟨h72, b73, hf⟩ := Option.bind_eq_some_iff.mp hf
  refine SX35_84 b73 dX35_init_155 rfl rfl rfl rfl ?_
  refine w_aload_n dX35_init_158 rfl rfl ?_
  refine w_bipush dX35_init_159 (v := 101) (by decide) ?_
  obtain ⟨q74, b75, hf⟩ := Option.bind_eq_some_iff.mp hf
  refine x_newZ (g := 268) b75 dX35_init_161 q583 ?_
  obtain ⟨h76, b77, hf⟩ := Option.bind_eq_some_iff.mp hf
  refine SX35_87 b77 dX35_init_163 rfl rfl rfl rfl ?_
  refine w_aload_n dX35_init_166 rfl rfl ?_
  refine w_sipush dX35_init_167 (v := 10002) (by decide) ?_
  obtain ⟨q78, b79, hf⟩ := Option.bind_eq_some_iff.mp hf
  refine x_newI (g := 269) b79 dX35_init_170 q582 ?_
  obtain ⟨h80, b81, hf⟩ := Option.bind_eq_some_iff.mp hf
  refine SX35_90 b81 dX35_init_172 rfl rfl rfl rfl ?_
  refine w_aload_n dX35_init_175 rfl rfl ?_
  refine w_sipush dX35_init_176 (v := 10002) (by decide) ?_
  obtain ⟨q82, b83, hf⟩ := Option.bind_eq_some_iff.mp hf
  refine x_newI (g := 270) b83 dX35_init_179 q582 ?_
  obtain ⟨h84, b85, hf⟩ := Option.bind_eq_some_iff.mp hf
  refine SX35_93 b85 dX35_init_181 rfl rfl rfl rfl ?_
  refine w_aload_n dX35_init_184 rfl rfl ?_
  refine w_sipush dX35_init_185 (v := 10002) (by decide) ?_
  obtain ⟨q86, b87, hf⟩ := Option.bind_eq_some_iff.mp hf
  refine x_newI (g := 271) b87 dX35_init_188 q582 ?_
  obtain ⟨h88, b89, hf⟩ := Option.bind_eq_some_iff.mp hf
  refine SX35_96 b89 dX35_init_190 rfl rfl rfl rfl ?_
  refine w_aload_n dX35_init_193 rfl rfl ?_
  refine w_sipush dX35_init_194 (v := 10002) (by decide) ?_
  obtain ⟨q90, b91, hf⟩ := Option.bind_eq_some_iff.mp hf
  refine x_newI (g := 272) b91 dX35_init_197 q582 ?_
  obtain ⟨h92, b93, hf⟩ := Option.bind_eq_some_iff.mp hf
  refine SX35_99 b93 dX35_init_199 rfl rfl rfl rfl ?_
  refine w_aload_n dX35_init_202 rfl rfl ?_
  refine w_sipush dX35_init_203 (v := 10001) (by decide) ?_
  obtain ⟨q94, b95, hf⟩ := Option.bind_eq_some_iff.mp hf
  refine x_newI (g := 273) b95 dX35_init_206 q582 ?_
  obtain ⟨h96, b97, hf⟩ := Option.bind_eq_some_iff.mp hf
  refine SX35_102 b97 dX35_init_208 rfl rfl rfl rfl ?_
  refine w_aload_n dX35_init_211 rfl rfl ?_
  refine w_sipush dX35_init_212 (v := 10600) (by decide) ?_
  obtain ⟨q98, b99, hf⟩ := Option.bind_eq_some_iff.mp hf
  refine x_newI (g := 274) b99 dX35_init_215 q582 ?_
  obtain ⟨h100, b101, hf⟩ := Option.bind_eq_some_iff.mp hf
  refine SX35_105 b101 dX35_init_217 rfl rfl rfl rfl ?_
  refine w_aload_n dX35_init_220 rfl rfl ?_
  refine w_ldc dX35_init_221 q4472 ?_
  obtain ⟨q102, b103, hf⟩ := Option.bind_eq_some_iff.mp hf
  refine x_newI (g := 275) b103 dX35_init_223 q582 ?_
  obtain ⟨h104, b105, hf⟩ := Option.bind_eq_some_iff.mp hf
  refine SX35_109 b105 dX35_init_225 rfl rfl rfl rfl ?_
  refine w_aload_n dX35_init_228 rfl rfl ?_
  refine w_bipush dX35_init_229 (v := 9) (by decide) ?_
  obtain ⟨q106, b107, hf⟩ := Option.bind_eq_some_iff.mp hf
  refine x_newI (g := 276) b107 dX35_init_231 q582 ?_
  obtain ⟨h108, b109, hf⟩ := Option.bind_eq_some_iff.mp hf
  refine SX35_112 b109 dX35_init_233 rfl rfl rfl rfl ?_
  refine w_aload_n dX35_init_236 rfl rfl ?_
  refine w_bipush dX35_init_237 (v := 101) (by decide) ?_
  obtain ⟨q110, b111, hf⟩ := Option.bind_eq_some_iff.mp hf
  refine x_newZ (g := 277) b111 dX35_init_239 q583 ?_
  obtain ⟨h112, b113, hf⟩ := Option.bind_eq_some_iff.mp hf
  refine SX35_115 b113 dX35_init_241 rfl rfl rfl rfl ?_
  refine w_aload_n dX35_init_244 rfl rfl ?_
  refine w_bipush dX35_init_245 (v := 101) (by decide) ?_
  obtain ⟨q114, b115, hf⟩ := Option.bind_eq_some_iff.mp hf
  refine x_newI (g := 278) b115 dX35_init_247 q582 ?_
  obtain ⟨h116, b117, hf⟩ := Option.bind_eq_some_iff.mp hf
  refine SX35_118 b117 dX35_init_249 rfl rfl rfl rfl ?_
  refine w_aload_n dX35_init_252 rfl rfl ?_
  refine w_bipush dX35_init_253 (v := 100) (by decide) ?_
  obtain ⟨q118, b119, hf⟩ := Option.bind_eq_some_iff.mp hf
  refine x_newI (g := 279) b119 dX35_init_255 q582 ?_
  obtain ⟨h120, b121, hf⟩ := Option.bind_eq_some_iff.mp hf
  refine SX35_121 b121 dX35_init_257 rfl rfl rfl rfl ?_
  refine w_aload_n dX35_init_260 rfl rfl ?_
  refine w_bipush dX35_init_261 (v := 100) (by decide) ?_
  obtain ⟨q122, b123, hf⟩ := Option.bind_eq_some_iff.mp hf
  refine x_newI (g := 280) b123 dX35_init_263 q582 ?_
  obtain ⟨h124, b125, hf⟩ := Option.bind_eq_some_iff.mp hf
  refine SX35_124 b125 dX35_init_265 rfl rfl rfl rfl ?_
  refine w_aload_n dX35_init_268 rfl rfl ?_
  refine w_sipush dX35_init_269 (v := 260) (by decide) ?_
  obtain ⟨q126, b127, hf⟩ := Option.bind_eq_some_iff.mp hf
  refine x_newI (g := 281) b127 dX35_init_272 q582 ?_
  obtain ⟨h128, b129, hf⟩ := Option.bind_eq_some_iff.mp hf
  refine SX35_127 b129 dX35_init_274 rfl rfl rfl rfl ?_
  refine w_aload_n dX35_init_277 rfl rfl ?_
  refine w_sipush dX35_init_278 (v := 260) (by decide) ?_
  obtain ⟨q130, b131, hf⟩ := Option.bind_eq_some_iff.mp hf
  refine x_newI (g := 282) b131 dX35_init_281 q582 ?_
  obtain ⟨h132, b133, hf⟩ := Option.bind_eq_some_iff.mp hf
  refine SX35_130 b133 dX35_init_283 rfl rfl rfl rfl ?_
  refine w_aload_n dX35_init_286 rfl rfl ?_
  refine w_sipush dX35_init_287 (v := 260) (by decide) ?_
  obtain ⟨q134, b135, hf⟩ := Option.bind_eq_some_iff.mp hf
  refine x_newI (g := 283) b135 dX35_init_290 q582 ?_
  obtain ⟨h136, b137, hf⟩ := Option.bind_eq_some_iff.mp hf
  refine SX35_133 b137 dX35_init_292 rfl rfl rfl rfl ?_
  refine w_aload_n dX35_init_295 rfl rfl ?_
  refine w_sipush dX35_init_296 (v := 6000) (by decide) ?_
  obtain ⟨q138, b139, hf⟩ := Option.bind_eq_some_iff.mp hf
  refine x_newI (g := 284) b139 dX35_init_299 q582 ?_
  obtain ⟨h140, b141, hf⟩ := Option.bind_eq_some_iff.mp hf
  refine SX35_136 b141 dX35_init_301 rfl ?_
  refine w_aload_n dX35_init_304 rfl rfl ?_
  refine w_bipush dX35_init_305 (v := 64) (by decide) ?_
  obtain ⟨q142, b143, hf⟩ := Option.bind_eq_some_iff.mp hf
  refine x_newI (g := 285) b143 dX35_init_307 q582 ?_
  obtain ⟨h144, b145, hf⟩ := Option.bind_eq_some_iff.mp hf
  refine SX35_139 b145 dX35_init_309 rfl rfl rfl rfl ?_
  refine w_aload_n dX35_init_312 rfl rfl ?_
  refine w_sipush dX35_init_313 (v := 1100) (by decide) ?_
  obtain ⟨q146, b147, hf⟩ := Option.bind_eq_some_iff.mp hf
  refine x_newI (g := 286) b147 dX35_init_316 q582 ?_
  obtain ⟨h148, b149, hf⟩ := Option.bind_eq_some_iff.mp hf
  refine SX35_142 b149 dX35_init_318 rfl rfl rfl rfl ?_
  refine w_aload_n dX35_init_321 rfl rfl ?_
  refine w_sipush dX35_init_322 (v := 1100) (by decide) ?_
  obtain ⟨q150, b151, hf⟩ := Option.bind_eq_some_iff.mp hf
  refine x_newI (g := 287) b151 dX35_init_325 q582 ?_
  obtain ⟨h152, b153, hf⟩ := Option.bind_eq_some_iff.mp hf
  refine SX35_145 b153 dX35_init_327 rfl rfl rfl rfl ?_
  refine w_aload_n dX35_init_330 rfl rfl ?_
  refine w_sipush dX35_init_331 (v := 12060) (by decide) ?_
  obtain ⟨q154, b155, hf⟩ := Option.bind_eq_some_iff.mp hf
  refine x_newI (g := 288) b155 dX35_init_334 q582 ?_
  obtain ⟨h156, b157, hf⟩ := Option.bind_eq_some_iff.mp hf
  refine SX35_148 b157 dX35_init_336 rfl ?_
  refine w_aload_n dX35_init_339 rfl rfl ?_
  refine w_sipush dX35_init_340 (v := 3001) (by decide) ?_
  obtain ⟨q158, b159, hf⟩ := Option.bind_eq_some_iff.mp hf
  refine x_newI (g := 289) b159 dX35_init_343 q582 ?_
  obtain ⟨h160, b161, hf⟩ := Option.bind_eq_some_iff.mp hf
  refine SX35_151 b161 dX35_init_345 rfl rfl rfl rfl ?_
  refine w_aload_n dX35_init_348 rfl rfl ?_
  refine w_sipush dX35_init_349 (v := 3000) (by decide) ?_
  obtain ⟨q162, b163, hf⟩ := Option.bind_eq_some_iff.mp hf
  refine x_newZ (g := 290) b163 dX35_init_352 q583 ?_
  obtain ⟨h164, b165, hf⟩ := Option.bind_eq_some_iff.mp hf
  refine SX35_154 b165 dX35_init_354 rfl rfl rfl rfl ?_
  refine w_aload_n dX35_init_357 rfl rfl ?_
  refine w_sipush dX35_init_358 (v := 3000) (by decide) ?_
  obtain ⟨q166, b167, hf⟩ := Option.bind_eq_some_iff.mp hf
  refine x_newI (g := 291) b167 dX35_init_361 q582 ?_
  obtain ⟨h168, b169, hf⟩ := Option.bind_eq_some_iff.mp hf
  refine SX35_157 b169 dX35_init_363 rfl rfl rfl rfl ?_
  refine w_aload_n dX35_init_366 rfl rfl ?_
  refine w_sipush dX35_init_367 (v := 3000) (by decide) ?_
  obtain ⟨q170, b171, hf⟩ := Option.bind_eq_some_iff.mp hf
  refine x_newI (g := 292) b171 dX35_init_370 q582 ?_
  obtain ⟨h172, b173, hf⟩ := Option.bind_eq_some_iff.mp hf
  refine SX35_160 b173 dX35_init_372 rfl rfl rfl rfl ?_
  refine w_aload_n dX35_init_375 rfl rfl ?_
  refine w_sipush dX35_init_376 (v := 3000) (by decide) ?_
  obtain ⟨q174, b175, hf⟩ := Option.bind_eq_some_iff.mp hf
  refine x_newI (g := 293) b175 dX35_init_379 q582 ?_
  obtain ⟨h176, b177, hf⟩ := Option.bind_eq_some_iff.mp hf
  refine SX35_163 b177 dX35_init_381 rfl rfl rfl rfl ?_
  refine w_aload_n dX35_init_384 rfl rfl ?_
  refine w_sipush dX35_init_385 (v := 3000) (by decide) ?_
  obtain ⟨q178, b179, hf⟩ := Option.bind_eq_some_iff.mp hf
  refine x_newI (g := 294) b179 dX35_init_388 q582 ?_
  obtain ⟨h180, b181, hf⟩ := Option.bind_eq_some_iff.mp hf
  refine SX35_166 b181 dX35_init_390 rfl rfl rfl rfl ?_
  refine w_aload_n dX35_init_393 rfl rfl ?_
  refine w_sipush dX35_init_394 (v := 3000) (by decide) ?_
  obtain ⟨q182, b183, hf⟩ := Option.bind_eq_some_iff.mp hf
  refine x_newI (g := 295) b183 dX35_init_397 q582 ?_
  obtain ⟨h184, b185, hf⟩ := Option.bind_eq_some_iff.mp hf
  refine SX35_169 b185 dX35_init_399 rfl rfl rfl rfl ?_
  refine w_aload_n dX35_init_402 rfl rfl ?_
  refine w_sipush dX35_init_403 (v := 3000) (by decide) ?_
  obtain ⟨q186, b187, hf⟩ := Option.bind_eq_some_iff.mp hf
  refine x_newI (g := 296) b187 dX35_init_406 q582 ?_
  obtain ⟨h188, b189, hf⟩ := Option.bind_eq_some_iff.mp hf
  refine SX35_172 b189 dX35_init_408 rfl rfl rfl rfl ?_
  refine w_aload_n dX35_init_411 rfl rfl ?_
  refine w_sipush dX35_init_412 (v := 3000) (by decide) ?_
  obtain ⟨q190, b191, hf⟩ := Option.bind_eq_some_iff.mp hf
  refine x_newI (g := 297) b191 dX35_init_415 q582 ?_
  obtain ⟨h192, b193, hf⟩ := Option.bind_eq_some_iff.mp hf
  refine SX35_175 b193 dX35_init_417 rfl rfl rfl rfl ?_
  refine w_aload_n dX35_init_420 rfl rfl ?_
  refine w_sipush dX35_init_421 (v := 3000) (by decide) ?_
  obtain ⟨q194, b195, hf⟩ := Option.bind_eq_some_iff.mp hf
  refine x_newI (g := 298) b195 dX35_init_424 q582 ?_
  obtain ⟨h196, b197, hf⟩ := Option.bind_eq_some_iff.mp hf
  refine SX35_178 b197 dX35_init_426 rfl rfl rfl rfl ?_
  refine w_aload_n dX35_init_429 rfl rfl ?_
  refine w_sipush dX35_init_430 (v := 3000) (by decide) ?_
  obtain ⟨q198, b199, hf⟩ := Option.bind_eq_some_iff.mp hf
  refine x_newI (g := 299) b199 dX35_init_433 q582 ?_
  obtain ⟨h200, b201, hf⟩ := Option.bind_eq_some_iff.mp hf
  refine SX35_181 b201 dX35_init_435 rfl rfl rfl rfl ?_
  refine w_aload_n dX35_init_438 rfl rfl ?_
  refine w_ldc dX35_init_439 q4473 ?_
  obtain ⟨q202, b203, hf⟩ := Option.bind_eq_some_iff.mp hf
  refine x_newI (g := 300) b203 dX35_init_441 q582 ?_
  obtain ⟨h204, b205, hf⟩ := Option.bind_eq_some_iff.mp hf
  refine SX35_185 b205 dX35_init_443 rfl rfl rfl rfl ?_
  refine w_aload_n dX35_init_446 rfl rfl ?_
  refine w_iconst dX35_init_447 (v := 4) (by decide) ?_
  obtain ⟨q206, b207, hf⟩ := Option.bind_eq_some_iff.mp hf
  refine x_newL (g := 301) b207 dX35_init_448 q1081 ?_
  obtain ⟨h208, b209, hf⟩ := Option.bind_eq_some_iff.mp hf
  refine SX35_188 b209 dX35_init_450 rfl rfl rfl rfl ?_
  refine w_aload_n dX35_init_453 rfl rfl ?_
  refine w_iconst dX35_init_454 (v := 4) (by decide) ?_
  obtain ⟨q210, b211, hf⟩ := Option.bind_eq_some_iff.mp hf
  refine x_newL (g := 302) b211 dX35_init_455 q1081 ?_
  obtain ⟨h212, b213, hf⟩ := Option.bind_eq_some_iff.mp hf
  refine SX35_192 b213 dX35_init_457 rfl rfl rfl rfl ?_
  refine w_aload_n dX35_init_460 rfl rfl ?_
  refine w_sipush dX35_init_461 (v := 10000) (by decide) ?_
  obtain ⟨q214, b215, hf⟩ := Option.bind_eq_some_iff.mp hf
  refine x_newI (g := 303) b215 dX35_init_464 q582 ?_
  obtain ⟨h216, b217, hf⟩ := Option.bind_eq_some_iff.mp hf
  refine SX35_195 b217 dX35_init_466 rfl rfl rfl rfl ?_
  refine w_aload_n dX35_init_469 rfl rfl ?_
  refine w_sipush dX35_init_470 (v := 10000) (by decide) ?_
  obtain ⟨q218, b219, hf⟩ := Option.bind_eq_some_iff.mp hf
  refine x_newI (g := 304) b219 dX35_init_473 q582 ?_
  obtain ⟨h220, b221, hf⟩ := Option.bind_eq_some_iff.mp hf
  refine SX35_198 b221 dX35_init_475 rfl rfl rfl rfl ?_
  refine w_aload_n dX35_init_478 rfl rfl ?_
  refine w_sipush dX35_init_479 (v := 10000) (by decide) ?_
  obtain ⟨q222, b223, hf⟩ := Option.bind_eq_some_iff.mp hf
  refine x_newI (g := 305) b223 dX35_init_482 q582 ?_
  obtain ⟨h224, b225, hf⟩ := Option.bind_eq_some_iff.mp hf
  refine SX35_201 b225 dX35_init_484 rfl rfl rfl rfl ?_
  refine w_aload_n dX35_init_487 rfl rfl ?_
  refine w_sipush dX35_init_488 (v := 10000) (by decide) ?_
  obtain ⟨q226, b227, hf⟩ := Option.bind_eq_some_iff.mp hf
  refine x_newI (g := 306) b227 dX35_init_491 q582 ?_
  obtain ⟨h228, b229, hf⟩ := Option.bind_eq_some_iff.mp hf
  refine SX35_204 b229 dX35_init_493 rfl rfl rfl rfl ?_
  refine w_aload_n dX35_init_496 rfl rfl ?_
  refine w_sipush dX35_init_497 (v := 10000) (by decide) ?_
  obtain ⟨q230, b231, hf⟩ := Option.bind_eq_some_iff.mp hf
  refine x_newI (g := 307) b231 dX35_init_500 q582 ?_
  obtain ⟨h232, b233, hf⟩ := Option.bind_eq_some_iff.mp hf
  refine SX35_207 b233 dX35_init_502 rfl rfl rfl rfl ?_
  refine w_aload_n dX35_init_505 rfl rfl ?_
  refine w_sipush dX35_init_506 (v := 10000) (by decide) ?_
  obtain ⟨q234, b235, hf⟩ := Option.bind_eq_some_iff.mp hf
  refine x_newI (g := 308) b235 dX35_init_509 q582 ?_
  obtain ⟨h236, b237, hf⟩ := Option.bind_eq_some_iff.mp hf
  refine SX35_210 b237 dX35_init_511 rfl rfl rfl rfl ?_
  refine w_aload_n dX35_init_514 rfl rfl ?_
  refine w_sipush dX35_init_515 (v := 10000) (by decide) ?_
  obtain ⟨q238, b239, hf⟩ := Option.bind_eq_some_iff.mp hf
  refine x_newI (g := 309) b239 dX35_init_518 q582 ?_
  obtain ⟨h240, b241, hf⟩ := Option.bind_eq_some_iff.mp hf
  refine SX35_213 b241 dX35_init_520 rfl rfl rfl rfl ?_
  refine w_aload_n dX35_init_523 rfl rfl ?_
  refine w_sipush dX35_init_524 (v := 3000) (by decide) ?_
  obtain ⟨q242, b243, hf⟩ := Option.bind_eq_some_iff.mp hf
  refine x_newI (g := 310) b243 dX35_init_527 q582 ?_
  obtain ⟨h244, b245, hf⟩ := Option.bind_eq_some_iff.mp hf
  refine SX35_216 b245 dX35_init_529 rfl rfl rfl rfl ?_
  refine w_aload_n dX35_init_532 rfl rfl ?_
  refine w_sipush dX35_init_533 (v := 3000) (by decide) ?_
  obtain ⟨q246, b247, hf⟩ := Option.bind_eq_some_iff.mp hf
  refine x_newI (g := 311) b247 dX35_init_536 q582 ?_
  obtain ⟨h248, b249, hf⟩ := Option.bind_eq_some_iff.mp hf
  refine SX35_219 b249 dX35_init_538 rfl rfl rfl rfl ?_
  refine w_aload_n dX35_init_541 rfl rfl ?_
  refine w_sipush dX35_init_542 (v := 3000) (by decide) ?_
  obtain ⟨q250, b251, hf⟩ := Option.bind_eq_some_iff.mp hf
  refine x_newL (g := 312) b251 dX35_init_545 q1081 ?_
  obtain ⟨h252, b253, hf⟩ := Option.bind_eq_some_iff.mp hf
  refine SX35_222 b253 dX35_init_547 rfl rfl rfl rfl ?_
  refine w_aload_n dX35_init_550 rfl rfl ?_
  refine w_sipush dX35_init_551 (v := 3000) (by decide) ?_
  obtain ⟨q254, b255, hf⟩ := Option.bind_eq_some_iff.mp hf
  refine x_newL (g := 313) b255 dX35_init_554 q1081 ?_
  obtain ⟨h256, b257, hf⟩ := Option.bind_eq_some_iff.mp hf
  refine SX35_225 b257 dX35_init_556 rfl rfl rfl rfl ?_
  refine w_aload_n dX35_init_559 rfl rfl ?_
  refine w_sipush dX35_init_560 (v := 3000) (by decide) ?_
  obtain ⟨q258, b259, hf⟩ := Option.bind_eq_some_iff.mp hf
  refine x_newL (g := 314) b259 dX35_init_563 q1081 ?_
  obtain ⟨h260, b261, hf⟩ := Option.bind_eq_some_iff.mp hf
  refine SX35_228 b261 dX35_init_565 rfl rfl rfl rfl ?_
  refine w_aload_n dX35_init_568 rfl rfl ?_
  refine w_sipush dX35_init_569 (v := 3000) (by decide) ?_
  obtain ⟨q262, b263, hf⟩ := Option.bind_eq_some_iff.mp hf
  refine x_newL (g := 315) b263 dX35_init_572 q1081 ?_
  obtain ⟨h264, b265, hf⟩ := Option.bind_eq_some_iff.mp hf
  refine SX35_231 b265 dX35_init_574 rfl rfl rfl rfl ?_
  refine w_aload_n dX35_init_577 rfl rfl ?_
  refine w_sipush dX35_init_578 (v := 3000) (by decide) ?_
  obtain ⟨q266, b267, hf⟩ := Option.bind_eq_some_iff.mp hf
  refine x_newL (g := 316) b267 dX35_init_581 q1081 ?_
  obtain ⟨h268, b269, hf⟩ := Option.bind_eq_some_iff.mp hf
  refine SX35_234 b269 dX35_init_583 rfl rfl rfl rfl ?_
  refine w_aload_n dX35_init_586 rfl rfl ?_
  refine w_sipush dX35_init_587 (v := 714) (by decide) ?_
  obtain ⟨q270, b271, hf⟩ := Option.bind_eq_some_iff.mp hf
  refine x_newI (g := 317) b271 dX35_init_590 q582 ?_
  obtain ⟨h272, b273, hf⟩ := Option.bind_eq_some_iff.mp hf
  refine SX35_237 b273 dX35_init_592 rfl rfl rfl rfl ?_
  refine w_aload_n dX35_init_595 rfl rfl ?_
  refine w_bipush dX35_init_596 (v := 64) (by decide) ?_
  obtain ⟨q274, b275, hf⟩ := Option.bind_eq_some_iff.mp hf
  refine x_newI (g := 318) b275 dX35_init_598 q582 ?_
  obtain ⟨h276, b277, hf⟩ := Option.bind_eq_some_iff.mp hf
  refine SX35_240 b277 dX35_init_600 rfl rfl rfl rfl ?_
  refine w_aload_n dX35_init_603 rfl rfl ?_
  refine w_bipush dX35_init_604 (v := 64) (by decide) ?_
  obtain ⟨q278, b279, hf⟩ := Option.bind_eq_some_iff.mp hf
  refine x_newI (g := 319) b279 dX35_init_606 q582 ?_
  obtain ⟨h280, b281, hf⟩ := Option.bind_eq_some_iff.mp hf
  refine SX35_243 b281 dX35_init_608 rfl rfl rfl rfl ?_
  refine w_aload_n dX35_init_611 rfl rfl ?_
  refine w_sipush dX35_init_612 (v := 12600) (by decide) ?_
  obtain ⟨q282, b283, hf⟩ := Option.bind_eq_some_iff.mp hf
  refine x_newI (g := 320) b283 dX35_init_615 q582 ?_
  obtain ⟨h284, b285, hf⟩ := Option.bind_eq_some_iff.mp hf
  refine SX35_246 b285 dX35_init_617 rfl ?_
  refine w_aload_n dX35_init_620 rfl rfl ?_
  obtain ⟨_, b286, hf⟩ := Option.bind_eq_some_iff.mp hf
  refine x_cnV hf (e_stV (Yc := YX35_clear) (ci := 34) (av := []) (st := []) dX35_init_621 q4474 mX35_clear rfl (k_ok_some b286).1 (k_ok_some b286).2) mX35_clear.2.2.1 mX35_clear.2.2.2.2.1 (Nat.le_of_ble_eq_true rfl) (Nat.le_of_ble_eq_true rfl) (fun q hq => pX35_clear (by omega) hq) (fun q287 hf => ?_)
  cases hf
  exact w_vret dX35_init_624 rfl rfl
abbrev cX35_about : ByteArray := prog_37_method_10_code
def yX35_about : MethodName := ⟨RX35, "about", "(I)I"⟩
def YX35_about : eY := (yX35_about, cX35_about, 2, (Option.some FieldType.int), [])
theorem mX35_about : e_mv YX35_about RX35 1 := ⟨q6069, q6070, q6071, by decide, by decide +kernel, (e_sig (by decide +kernel))⟩
theorem dX35_about_0 : decode cX35_about 0 = .ok (.aload_n 0, 1) := dc_42 (by decide +kernel)
theorem dX35_about_1 : decode cX35_about 1 = .ok (.iload_n 1, 1) := dc_27 (by decide +kernel)
theorem dX35_about_2 : decode cX35_about 2 = .ok (.ifCond .lt 9, 3) := dc_155 (a := 0) (b := 9) (v := 9) (by decide +kernel)
theorem dX35_about_5 : decode cX35_about 5 = .ok (.iload_n 1, 1) := dc_27 (by decide +kernel)
theorem dX35_about_6 : decode cX35_about 6 = .ok (.bipush 7, 2) := dc_16 (a := 7) (v := 7) (by decide +kernel)
theorem dX35_about_8 : decode cX35_about 8 = .ok (.if_icmp .le 7, 3) := dc_164 (a := 0) (b := 7) (v := 7) (by decide +kernel)
theorem dX35_about_11 : decode cX35_about 11 = .ok (.iconst 1, 1) := dc_4 (by decide +kernel)
theorem dX35_about_12 : decode cX35_about 12 = .ok (.goto 4, 3) := dc_167 (a := 0) (b := 4) (v := 4) (by decide +kernel)
theorem dX35_about_15 : decode cX35_about 15 = .ok (.iconst 0, 1) := dc_3 (by decide +kernel)
theorem dX35_about_16 : decode cX35_about 16 = .ok (.putfield 252, 3) := dc_181 (a := 0) (b := 252) (n := 252) (by decide +kernel)
theorem dX35_about_19 : decode cX35_about 19 = .ok (.aload_n 0, 1) := dc_42 (by decide +kernel)
theorem dX35_about_20 : decode cX35_about 20 = .ok (.getfield 252, 3) := dc_180 (a := 0) (b := 252) (n := 252) (by decide +kernel)
theorem dX35_about_23 : decode cX35_about 23 = .ok (.ifCond .le 5, 3) := dc_158 (a := 0) (b := 5) (v := 5) (by decide +kernel)
theorem dX35_about_26 : decode cX35_about 26 = .ok (.iconst 0, 1) := dc_3 (by decide +kernel)
theorem dX35_about_27 : decode cX35_about 27 = .ok (.ireturn, 1) := dc_172 (by decide +kernel)
theorem dX35_about_28 : decode cX35_about 28 = .ok (.iload_n 1, 1) := dc_27 (by decide +kernel)
theorem dX35_about_29 : decode cX35_about 29 = .ok (.tableswitch 83 0 6 #[43, 48, 53, 58, 68, 73, 78], 43) := by decide +kernel
theorem dX35_about_72 : decode cX35_about 72 = .ok (.aload_n 0, 1) := dc_42 (by decide +kernel)
theorem dX35_about_73 : decode cX35_about 73 = .ok (.getfield 300, 3) := dc_180 (a := 1) (b := 44) (n := 300) (by decide +kernel)
theorem dX35_about_76 : decode cX35_about 76 = .ok (.ireturn, 1) := dc_172 (by decide +kernel)
theorem dX35_about_77 : decode cX35_about 77 = .ok (.aload_n 0, 1) := dc_42 (by decide +kernel)
theorem dX35_about_78 : decode cX35_about 78 = .ok (.getfield 303, 3) := dc_180 (a := 1) (b := 47) (n := 303) (by decide +kernel)
theorem dX35_about_81 : decode cX35_about 81 = .ok (.ireturn, 1) := dc_172 (by decide +kernel)
theorem dX35_about_82 : decode cX35_about 82 = .ok (.aload_n 0, 1) := dc_42 (by decide +kernel)
theorem dX35_about_83 : decode cX35_about 83 = .ok (.getfield 306, 3) := dc_180 (a := 1) (b := 50) (n := 306) (by decide +kernel)
theorem dX35_about_86 : decode cX35_about 86 = .ok (.ireturn, 1) := dc_172 (by decide +kernel)
theorem dX35_about_87 : decode cX35_about 87 = .ok (.aload_n 0, 1) := dc_42 (by decide +kernel)
theorem dX35_about_88 : decode cX35_about 88 = .ok (.getfield 151, 3) := dc_180 (a := 0) (b := 151) (n := 151) (by decide +kernel)
theorem dX35_about_91 : decode cX35_about 91 = .ok (.aload_n 0, 1) := dc_42 (by decide +kernel)
theorem dX35_about_92 : decode cX35_about 92 = .ok (.getfield 306, 3) := dc_180 (a := 1) (b := 50) (n := 306) (by decide +kernel)
theorem dX35_about_95 : decode cX35_about 95 = .ok (.iaload, 1) := dc_46 (by decide +kernel)
theorem dX35_about_96 : decode cX35_about 96 = .ok (.ireturn, 1) := dc_172 (by decide +kernel)
theorem dX35_about_97 : decode cX35_about 97 = .ok (.aload_n 0, 1) := dc_42 (by decide +kernel)
theorem dX35_about_98 : decode cX35_about 98 = .ok (.getfield 309, 3) := dc_180 (a := 1) (b := 53) (n := 309) (by decide +kernel)
theorem dX35_about_101 : decode cX35_about 101 = .ok (.ireturn, 1) := dc_172 (by decide +kernel)
theorem dX35_about_102 : decode cX35_about 102 = .ok (.aload_n 0, 1) := dc_42 (by decide +kernel)
theorem dX35_about_103 : decode cX35_about 103 = .ok (.getfield 312, 3) := dc_180 (a := 1) (b := 56) (n := 312) (by decide +kernel)
theorem dX35_about_106 : decode cX35_about 106 = .ok (.ireturn, 1) := dc_172 (by decide +kernel)
theorem dX35_about_107 : decode cX35_about 107 = .ok (.aload_n 0, 1) := dc_42 (by decide +kernel)
theorem dX35_about_108 : decode cX35_about 108 = .ok (.getfield 315, 3) := dc_180 (a := 1) (b := 59) (n := 315) (by decide +kernel)
theorem dX35_about_111 : decode cX35_about 111 = .ok (.ireturn, 1) := dc_172 (by decide +kernel)
theorem dX35_about_112 : decode cX35_about 112 = .ok (.aload_n 0, 1) := dc_42 (by decide +kernel)
theorem dX35_about_113 : decode cX35_about 113 = .ok (.getfield 318, 3) := dc_180 (a := 1) (b := 62) (n := 318) (by decide +kernel)
theorem dX35_about_116 : decode cX35_about 116 = .ok (.ireturn, 1) := dc_172 (by decide +kernel)
theorem GX35_151 {w : eW} {d : Nat} {Y : eY} {pc : Nat} {ls : eL} {st : List Value} {h : eH} {Q : eO → eH → Prop} {a : Nat} {x : Nat} (hf : g_A 34 h a 66 = some x) (hd : decode Y.2.1 pc = .ok (.getfield 151, 3)) (hY : Y.1.cls = RX35) (kk : wp w d Y (pc + 3) ls (.ref x :: st) h Q) : wp w d Y pc ls (.ref a :: st) h Q := x_gA (ci := 34) (k := 66) hf hd rfl (by decide) (by rw [hY]; exact q4567) kk
theorem GX35_252 {w : eW} {d : Nat} {Y : eY} {pc : Nat} {ls : eL} {st : List Value} {h : eH} {Q : eO → eH → Prop} {a : Nat} {x : Int32} (hf : g_I 34 h a 0 = some x) (hd : decode Y.2.1 pc = .ok (.getfield 252, 3)) (hY : Y.1.cls = RX35) (kk : wp w d Y (pc + 3) ls (.int x :: st) h Q) : wp w d Y pc ls (.ref a :: st) h Q := x_gI (ci := 34) (k := 0) hf hd rfl (by decide) (by rw [hY]; exact q4502) kk
theorem GX35_300 {w : eW} {d : Nat} {Y : eY} {pc : Nat} {ls : eL} {st : List Value} {h : eH} {Q : eO → eH → Prop} {a : Nat} {x : Int32} (hf : g_I 34 h a 44 = some x) (hd : decode Y.2.1 pc = .ok (.getfield 300, 3)) (hY : Y.1.cls = RX35) (kk : wp w d Y (pc + 3) ls (.int x :: st) h Q) : wp w d Y pc ls (.ref a :: st) h Q := x_gI (ci := 34) (k := 44) hf hd rfl (by decide) (by rw [hY]; exact q4546) kk
theorem GX35_303 {w : eW} {d : Nat} {Y : eY} {pc : Nat} {ls : eL} {st : List Value} {h : eH} {Q : eO → eH → Prop} {a : Nat} {x : Int32} (hf : g_I 34 h a 101 = some x) (hd : decode Y.2.1 pc = .ok (.getfield 303, 3)) (hY : Y.1.cls = RX35) (kk : wp w d Y (pc + 3) ls (.int x :: st) h Q) : wp w d Y pc ls (.ref a :: st) h Q := x_gI (ci := 34) (k := 101) hf hd rfl (by decide) (by rw [hY]; exact q4602) kk
theorem GX35_306 {w : eW} {d : Nat} {Y : eY} {pc : Nat} {ls : eL} {st : List Value} {h : eH} {Q : eO → eH → Prop} {a : Nat} {x : Int32} (hf : g_I 34 h a 65 = some x) (hd : decode Y.2.1 pc = .ok (.getfield 306, 3)) (hY : Y.1.cls = RX35) (kk : wp w d Y (pc + 3) ls (.int x :: st) h Q) : wp w d Y pc ls (.ref a :: st) h Q := x_gI (ci := 34) (k := 65) hf hd rfl (by decide) (by rw [hY]; exact q4566) kk
theorem GX35_309 {w : eW} {d : Nat} {Y : eY} {pc : Nat} {ls : eL} {st : List Value} {h : eH} {Q : eO → eH → Prop} {a : Nat} {x : Int32} (hf : g_I 34 h a 111 = some x) (hd : decode Y.2.1 pc = .ok (.getfield 309, 3)) (hY : Y.1.cls = RX35) (kk : wp w d Y (pc + 3) ls (.int x :: st) h Q) : wp w d Y pc ls (.ref a :: st) h Q := x_gI (ci := 34) (k := 111) hf hd rfl (by decide) (by rw [hY]; exact q4612) kk
theorem GX35_312 {w : eW} {d : Nat} {Y : eY} {pc : Nat} {ls : eL} {st : List Value} {h : eH} {Q : eO → eH → Prop} {a : Nat} {x : Int32} (hf : g_I 34 h a 110 = some x) (hd : decode Y.2.1 pc = .ok (.getfield 312, 3)) (hY : Y.1.cls = RX35) (kk : wp w d Y (pc + 3) ls (.int x :: st) h Q) : wp w d Y pc ls (.ref a :: st) h Q := x_gI (ci := 34) (k := 110) hf hd rfl (by decide) (by rw [hY]; exact q4611) kk
theorem GX35_315 {w : eW} {d : Nat} {Y : eY} {pc : Nat} {ls : eL} {st : List Value} {h : eH} {Q : eO → eH → Prop} {a : Nat} {x : Int32} (hf : g_I 34 h a 112 = some x) (hd : decode Y.2.1 pc = .ok (.getfield 315, 3)) (hY : Y.1.cls = RX35) (kk : wp w d Y (pc + 3) ls (.int x :: st) h Q) : wp w d Y pc ls (.ref a :: st) h Q := x_gI (ci := 34) (k := 112) hf hd rfl (by decide) (by rw [hY]; exact q4613) kk
theorem GX35_318 {w : eW} {d : Nat} {Y : eY} {pc : Nat} {ls : eL} {st : List Value} {h : eH} {Q : eO → eH → Prop} {a : Nat} {x : Int32} (hf : g_I 34 h a 113 = some x) (hd : decode Y.2.1 pc = .ok (.getfield 318, 3)) (hY : Y.1.cls = RX35) (kk : wp w d Y (pc + 3) ls (.int x :: st) h Q) : wp w d Y pc ls (.ref a :: st) h Q := x_gI (ci := 34) (k := 113) hf hd rfl (by decide) (by rw [hY]; exact q4614) kk
theorem SX35_252 {w : eW} {d : Nat} {Y : eY} {pc : Nat} {ls : eL} {st : List Value} {h : eH} {Q : eO → eH → Prop} {a : Nat} {h' : eH} {x : Int32} (hf : p_V 34 h a 0 (.int x) = some h') (hd : decode Y.2.1 pc = .ok (.putfield 252, 3)) (hY : Y.1.cls = RX35) (kk : wp w d Y (pc + 3) ls st h' Q) : wp w d Y pc ls (.int x :: .ref a :: st) h Q := x_pI (ci := 34) (k := 0) hf hd rfl (by decide) (by rw [hY]; exact q4502) rfl rfl kk
def fX35_about_b16 (l0 : Nat) (l1 : Int32) (s0 : Nat) (s1 : Int32) (h : eH) : Option (Int32 × eH) :=
  (p_V 34 h s0 0 (.int s1)).bind fun h1 =>
  (g_I 34 h1 l0 0).bind fun x3 =>
  if x3 ≤ 0 then
    if l1 = (0 : Int32) then
      (g_I 34 h1 l0 44).bind fun x7 =>
      some (x7, h1)
    else
    if l1 = (1 : Int32) then
      (g_I 34 h1 l0 101).bind fun x10 =>
      some (x10, h1)
    else
    if l1 = (2 : Int32) then
      (g_I 34 h1 l0 65).bind fun x13 =>
      some (x13, h1)
    else
    if l1 = (3 : Int32) then
      (g_A 34 h1 l0 66).bind fun a16 =>
      (g_I 34 h1 l0 65).bind fun x18 =>
      (r_I 100 h1 a16 x18).bind fun x20 =>
      some (x20, h1)
    else
    if l1 = (4 : Int32) then
      (g_I 34 h1 l0 111).bind fun x23 =>
      some (x23, h1)
    else
    if l1 = (5 : Int32) then
      (g_I 34 h1 l0 110).bind fun x26 =>
      some (x26, h1)
    else
    if l1 = (6 : Int32) then
      (g_I 34 h1 l0 112).bind fun x29 =>
      some (x29, h1)
    else
    (g_I 34 h1 l0 113).bind fun x31 =>
    some (x31, h1)
  else
    some ((0 : Int32), h1)
theorem pX35_about_b16 {w : eW} {d : Nat} (hd : 0 ≤ d) {l0 : Nat} {l1 : Int32} {s0 : Nat} {s1 : Int32} {h : eH} {q} (hf : fX35_about_b16 l0 l1 s0 s1 h = some q) : wp w d YX35_about 16 [some (.ref l0), some (.int l1)] [.int s1, .ref s0] h (e_is (e_rn c_I q)) := by
  unfold fX35_about_b16 at hf
  obtain ⟨h1, b2, hf⟩ := Option.bind_eq_some_iff.mp hf
  refine SX35_252 b2 dX35_about_16 rfl ?_
  refine w_aload_n dX35_about_19 rfl rfl ?_
  obtain ⟨x3, b4, hf⟩ := Option.bind_eq_some_iff.mp hf
  refine GX35_252 b4 dX35_about_20 rfl ?_
  refine w_if_le 28 dX35_about_23 (by decide) (fun c5 => ?_) (fun c5 => ?_)
  · replace hf := (if_pos (show x3 ≤ 0 from c5)).symm.trans hf
    refine w_iload_n dX35_about_28 rfl rfl ?_
    by_cases c6 : l1 = (0 : Int32)
    · replace hf := (if_pos c6).symm.trans hf
      refine w_tableIn 72 dX35_about_29 (by rw [c6]; decide) (by rw [c6]; decide) (by rw [c6]; rfl) (by decide) ?_
      refine w_aload_n dX35_about_72 rfl rfl ?_
      obtain ⟨x7, b8, hf⟩ := Option.bind_eq_some_iff.mp hf
      refine GX35_300 b8 dX35_about_73 rfl ?_
      cases hf
      exact w_iret dX35_about_76 rfl rfl rfl
    replace hf := (if_neg c6).symm.trans hf
    by_cases c9 : l1 = (1 : Int32)
    · replace hf := (if_pos c9).symm.trans hf
      refine w_tableIn 77 dX35_about_29 (by rw [c9]; decide) (by rw [c9]; decide) (by rw [c9]; rfl) (by decide) ?_
      refine w_aload_n dX35_about_77 rfl rfl ?_
      obtain ⟨x10, b11, hf⟩ := Option.bind_eq_some_iff.mp hf
      refine GX35_303 b11 dX35_about_78 rfl ?_
      cases hf
      exact w_iret dX35_about_81 rfl rfl rfl
    replace hf := (if_neg c9).symm.trans hf
    by_cases c12 : l1 = (2 : Int32)
    · replace hf := (if_pos c12).symm.trans hf
      refine w_tableIn 82 dX35_about_29 (by rw [c12]; decide) (by rw [c12]; decide) (by rw [c12]; rfl) (by decide) ?_
      refine w_aload_n dX35_about_82 rfl rfl ?_
      obtain ⟨x13, b14, hf⟩ := Option.bind_eq_some_iff.mp hf
      refine GX35_306 b14 dX35_about_83 rfl ?_
      cases hf
      exact w_iret dX35_about_86 rfl rfl rfl
    replace hf := (if_neg c12).symm.trans hf
    by_cases c15 : l1 = (3 : Int32)
    · replace hf := (if_pos c15).symm.trans hf
      refine w_tableIn 87 dX35_about_29 (by rw [c15]; decide) (by rw [c15]; decide) (by rw [c15]; rfl) (by decide) ?_
      refine w_aload_n dX35_about_87 rfl rfl ?_
      obtain ⟨a16, b17, hf⟩ := Option.bind_eq_some_iff.mp hf
      refine GX35_151 b17 dX35_about_88 rfl ?_
      refine w_aload_n dX35_about_91 rfl rfl ?_
      obtain ⟨x18, b19, hf⟩ := Option.bind_eq_some_iff.mp hf
      refine GX35_306 b19 dX35_about_92 rfl ?_
      obtain ⟨x20, b21, hf⟩ := Option.bind_eq_some_iff.mp hf
      refine x_rI b21 dX35_about_95 ?_
      cases hf
      exact w_iret dX35_about_96 rfl rfl rfl
    replace hf := (if_neg c15).symm.trans hf
    by_cases c22 : l1 = (4 : Int32)
    · replace hf := (if_pos c22).symm.trans hf
      refine w_tableIn 97 dX35_about_29 (by rw [c22]; decide) (by rw [c22]; decide) (by rw [c22]; rfl) (by decide) ?_
      refine w_aload_n dX35_about_97 rfl rfl ?_
      obtain ⟨x23, b24, hf⟩ := Option.bind_eq_some_iff.mp hf
      refine GX35_309 b24 dX35_about_98 rfl ?_
      cases hf
      exact w_iret dX35_about_101 rfl rfl rfl
    replace hf := (if_neg c22).symm.trans hf
    by_cases c25 : l1 = (5 : Int32)
    · replace hf := (if_pos c25).symm.trans hf
      refine w_tableIn 102 dX35_about_29 (by rw [c25]; decide) (by rw [c25]; decide) (by rw [c25]; rfl) (by decide) ?_
      refine w_aload_n dX35_about_102 rfl rfl ?_
      obtain ⟨x26, b27, hf⟩ := Option.bind_eq_some_iff.mp hf
      refine GX35_312 b27 dX35_about_103 rfl ?_
      cases hf
      exact w_iret dX35_about_106 rfl rfl rfl
    replace hf := (if_neg c25).symm.trans hf
    by_cases c28 : l1 = (6 : Int32)
    · replace hf := (if_pos c28).symm.trans hf
      refine w_tableIn 107 dX35_about_29 (by rw [c28]; decide) (by rw [c28]; decide) (by rw [c28]; rfl) (by decide) ?_
      refine w_aload_n dX35_about_107 rfl rfl ?_
      obtain ⟨x29, b30, hf⟩ := Option.bind_eq_some_iff.mp hf
      refine GX35_315 b30 dX35_about_108 rfl ?_
      cases hf
      exact w_iret dX35_about_111 rfl rfl rfl
    replace hf := (if_neg c28).symm.trans hf
    refine w_tableOut 112 dX35_about_29 (by have n0 := sw_ne c6 (by decide : (0 : Int32).toInt = 0); have n1 := sw_ne c9 (by decide : (1 : Int32).toInt = 1); have n2 := sw_ne c12 (by decide : (2 : Int32).toInt = 2); have n3 := sw_ne c15 (by decide : (3 : Int32).toInt = 3); have n4 := sw_ne c22 (by decide : (4 : Int32).toInt = 4); have n5 := sw_ne c25 (by decide : (5 : Int32).toInt = 5); have n6 := sw_ne c28 (by decide : (6 : Int32).toInt = 6); omega) (by decide) ?_
    refine w_aload_n dX35_about_112 rfl rfl ?_
    obtain ⟨x31, b32, hf⟩ := Option.bind_eq_some_iff.mp hf
    refine GX35_318 b32 dX35_about_113 rfl ?_
    cases hf
    exact w_iret dX35_about_116 rfl rfl rfl
  · replace hf := (if_neg (show ¬ (x3 ≤ 0) from c5)).symm.trans hf
    refine w_iconst dX35_about_26 (v := 0) (by decide) ?_
    cases hf
    exact w_iret dX35_about_27 rfl rfl rfl
def fX35_about_b11 (l0 : Nat) (l1 : Int32) (s0 : Nat) (h : eH) : Option (Int32 × eH) :=
  fX35_about_b16 l0 l1 s0 (1 : Int32) h
theorem pX35_about_b11 {w : eW} {d : Nat} (hd : 0 ≤ d) {l0 : Nat} {l1 : Int32} {s0 : Nat} {h : eH} {q} (hf : fX35_about_b11 l0 l1 s0 h = some q) : wp w d YX35_about 11 [some (.ref l0), some (.int l1)] [.ref s0] h (e_is (e_rn c_I q)) := by
  unfold fX35_about_b11 at hf
  refine w_iconst dX35_about_11 (v := 1) (by decide) ?_
  refine w_goto 16 dX35_about_12 (by decide) ?_
  exact (pX35_about_b16 hd hf).to ⟨rfl, rfl, trivial⟩
def fX35_about (this : Nat) (p0 : Int32) (h : eH) : Option (Int32 × eH) :=
  if p0 < 0 then
    fX35_about_b11 this p0 this h
  else
    if p0 ≤ (7 : Int32) then
      fX35_about_b16 this p0 this (0 : Int32) h
    else
      fX35_about_b11 this p0 this h
theorem pX35_about {w : eW} {d : Nat} (hd : 0 ≤ d) {this : Nat} {p0 : Int32} {h : eH} {q} (hf : fX35_about this p0 h = some q) : wm w d YX35_about [.ref this, .int p0] h (e_is (e_rn c_I q)) := by
  show wp w d YX35_about 0 [some (.ref this), some (.int p0)] [] h _
  unfold fX35_about at hf
  refine w_aload_n dX35_about_0 rfl rfl ?_
  refine w_iload_n dX35_about_1 rfl rfl ?_
  refine w_if_lt 11 dX35_about_2 (by decide) (fun c1 => ?_) (fun c1 => ?_)
  · replace hf := (if_pos (show p0 < 0 from c1)).symm.trans hf
    exact (pX35_about_b11 hd hf).to ⟨rfl, rfl, trivial⟩
  · replace hf := (if_neg (show ¬ (p0 < 0) from c1)).symm.trans hf
    refine w_iload_n dX35_about_5 rfl rfl ?_
    refine w_bipush dX35_about_6 (v := 7) (by decide) ?_
    refine w_icmp_le 15 dX35_about_8 (by decide) (fun c2 => ?_) (fun c2 => ?_)
    · replace hf := (if_pos (show p0 ≤ (7 : Int32) from c2)).symm.trans hf
      refine w_iconst dX35_about_15 (v := 0) (by decide) ?_
      exact (pX35_about_b16 hd hf).to ⟨rfl, rfl, trivial⟩
    · replace hf := (if_neg (show ¬ (p0 ≤ (7 : Int32)) from c2)).symm.trans hf
      exact (pX35_about_b11 hd hf).to ⟨rfl, rfl, trivial⟩
abbrev cX35_isSolid : ByteArray := prog_37_method_134_code
def yX35_isSolid : MethodName := ⟨RX35, "isSolid", "(I)Z"⟩
def YX35_isSolid : eY := (yX35_isSolid, cX35_isSolid, 1, (Option.some FieldType.boolean), [])
theorem mX35_isSolid : e_ms YX35_isSolid 1 := ⟨q5540, q466, q5541, by decide, by decide +kernel, (e_sig (by decide +kernel))⟩
theorem dX35_isSolid_0 : decode cX35_isSolid 0 = .ok (.iload_n 0, 1) := dc_26 (by decide +kernel)
theorem dX35_isSolid_1 : decode cX35_isSolid 1 = .ok (.ifCond .eq 13, 3) := dc_153 (a := 0) (b := 13) (v := 13) (by decide +kernel)
theorem dX35_isSolid_4 : decode cX35_isSolid 4 = .ok (.iload_n 0, 1) := dc_26 (by decide +kernel)
theorem dX35_isSolid_5 : decode cX35_isSolid 5 = .ok (.iconst 1, 1) := dc_4 (by decide +kernel)
theorem dX35_isSolid_6 : decode cX35_isSolid 6 = .ok (.if_icmp .eq 8, 3) := dc_159 (a := 0) (b := 8) (v := 8) (by decide +kernel)
theorem dX35_isSolid_9 : decode cX35_isSolid 9 = .ok (.iload_n 0, 1) := dc_26 (by decide +kernel)
theorem dX35_isSolid_10 : decode cX35_isSolid 10 = .ok (.iconst 5, 1) := dc_8 (by decide +kernel)
theorem dX35_isSolid_11 : decode cX35_isSolid 11 = .ok (.if_icmp .ne 7, 3) := dc_160 (a := 0) (b := 7) (v := 7) (by decide +kernel)
theorem dX35_isSolid_14 : decode cX35_isSolid 14 = .ok (.iconst 1, 1) := dc_4 (by decide +kernel)
theorem dX35_isSolid_15 : decode cX35_isSolid 15 = .ok (.goto 4, 3) := dc_167 (a := 0) (b := 4) (v := 4) (by decide +kernel)
theorem dX35_isSolid_18 : decode cX35_isSolid 18 = .ok (.iconst 0, 1) := dc_3 (by decide +kernel)
theorem dX35_isSolid_19 : decode cX35_isSolid 19 = .ok (.ireturn, 1) := dc_172 (by decide +kernel)
def fX35_isSolid_b19 (s0 : Int32) (h : eH) : Option (Int32 × eH) :=
  z_r s0 (s0, h)
theorem pX35_isSolid_b19 {w : eW} {d : Nat} (hd : 0 ≤ d) {s0 : Int32} {h : eH} {q} (hf : fX35_isSolid_b19 s0 h = some q) : wp w d YX35_isSolid 19 [none] [.int s0] h (e_is (e_rn c_I q)) := by
  unfold fX35_isSolid_b19 at hf
  obtain ⟨b1, rfl⟩ := z_r_some hf
  exact w_iret dX35_isSolid_19 rfl b1 rfl
def fX35_isSolid_b14  (h : eH) : Option (Int32 × eH) :=
  fX35_isSolid_b19 (1 : Int32) h
theorem pX35_isSolid_b14 {w : eW} {d : Nat} (hd : 0 ≤ d)  {h : eH} {q} (hf : fX35_isSolid_b14  h = some q) : wp w d YX35_isSolid 14 [none] [] h (e_is (e_rn c_I q)) := by
  unfold fX35_isSolid_b14 at hf
  refine w_iconst dX35_isSolid_14 (v := 1) (by decide) ?_
  refine w_goto 19 dX35_isSolid_15 (by decide) ?_
  exact (pX35_isSolid_b19 hd hf).to trivial
def fX35_isSolid (p0 : Int32) (h : eH) : Option (Int32 × eH) :=
  if p0 = 0 then
    fX35_isSolid_b14 h
  else
    if p0 = (1 : Int32) then
      fX35_isSolid_b14 h
    else
      if ¬ p0 = (5 : Int32) then
        fX35_isSolid_b19 (0 : Int32) h
      else
        fX35_isSolid_b14 h
theorem pX35_isSolid {w : eW} {d : Nat} (hd : 0 ≤ d) {p0 : Int32} {h : eH} {q} (hf : fX35_isSolid p0 h = some q) : wm w d YX35_isSolid [.int p0] h (e_is (e_rn c_I q)) := by
  show wp w d YX35_isSolid 0 [some (.int p0)] [] h _
  unfold fX35_isSolid at hf
  refine w_iload_n dX35_isSolid_0 rfl rfl ?_
  refine w_if_eq 14 dX35_isSolid_1 (by decide) (fun c1 => ?_) (fun c1 => ?_)
  · replace hf := (if_pos (show p0 = 0 from c1)).symm.trans hf
    exact (pX35_isSolid_b14 hd hf).to trivial
  · replace hf := (if_neg (show ¬ (p0 = 0) from c1)).symm.trans hf
    refine w_iload_n dX35_isSolid_4 rfl rfl ?_
    refine w_iconst dX35_isSolid_5 (v := 1) (by decide) ?_
    refine w_icmp_eq 14 dX35_isSolid_6 (by decide) (fun c2 => ?_) (fun c2 => ?_)
    · replace hf := (if_pos (show p0 = (1 : Int32) from c2)).symm.trans hf
      exact (pX35_isSolid_b14 hd hf).to trivial
    · replace hf := (if_neg (show ¬ (p0 = (1 : Int32)) from c2)).symm.trans hf
      refine w_iload_n dX35_isSolid_9 rfl rfl ?_
      refine w_iconst dX35_isSolid_10 (v := 5) (by decide) ?_
      refine w_icmp_ne 18 dX35_isSolid_11 (by decide) (fun c3 => ?_) (fun c3 => ?_)
      · replace hf := (if_pos (show ¬ p0 = (5 : Int32) from c3)).symm.trans hf
        refine w_iconst dX35_isSolid_18 (v := 0) (by decide) ?_
        exact (pX35_isSolid_b19 hd hf).to trivial
      · replace hf := (if_neg (show ¬ (¬ p0 = (5 : Int32)) from (fun z => z c3))).symm.trans hf
        exact (pX35_isSolid_b14 hd hf).to trivial
abbrev cX35_isSize : ByteArray := prog_37_method_93_code
def yX35_isSize : MethodName := ⟨RX35, "isSize", "(J)Z"⟩
def YX35_isSize : eY := (yX35_isSize, cX35_isSize, 2, (Option.some FieldType.boolean), [])
theorem mX35_isSize : e_ms YX35_isSize 1 := ⟨q5413, q466, q5414, by decide, by decide +kernel, (e_sig (by decide +kernel))⟩
theorem dX35_isSize_0 : decode cX35_isSize 0 = .ok (.lload_n 0, 1) := dc_30 (by decide +kernel)
theorem dX35_isSize_1 : decode cX35_isSize 1 = .ok (.ldc2_w 736, 3) := dc_20 (a := 2) (b := 224) (n := 736) (by decide +kernel)
theorem dX35_isSize_4 : decode cX35_isSize 4 = .ok (.lcmp, 1) := dc_148 (by decide +kernel)
theorem dX35_isSize_5 : decode cX35_isSize 5 = .ok (.ifCond .lt 15, 3) := dc_155 (a := 0) (b := 15) (v := 15) (by decide +kernel)
theorem dX35_isSize_8 : decode cX35_isSize 8 = .ok (.lload_n 0, 1) := dc_30 (by decide +kernel)
theorem dX35_isSize_9 : decode cX35_isSize 9 = .ok (.ldc2_w 738, 3) := dc_20 (a := 2) (b := 226) (n := 738) (by decide +kernel)
theorem dX35_isSize_12 : decode cX35_isSize 12 = .ok (.lcmp, 1) := dc_148 (by decide +kernel)
theorem dX35_isSize_13 : decode cX35_isSize 13 = .ok (.ifCond .gt 7, 3) := dc_157 (a := 0) (b := 7) (v := 7) (by decide +kernel)
theorem dX35_isSize_16 : decode cX35_isSize 16 = .ok (.iconst 1, 1) := dc_4 (by decide +kernel)
theorem dX35_isSize_17 : decode cX35_isSize 17 = .ok (.goto 4, 3) := dc_167 (a := 0) (b := 4) (v := 4) (by decide +kernel)
theorem dX35_isSize_20 : decode cX35_isSize 20 = .ok (.iconst 0, 1) := dc_3 (by decide +kernel)
theorem dX35_isSize_21 : decode cX35_isSize 21 = .ok (.ireturn, 1) := dc_172 (by decide +kernel)
def fX35_isSize_b21 (s0 : Int32) (h : eH) : Option (Int32 × eH) :=
  z_r s0 (s0, h)
theorem pX35_isSize_b21 {w : eW} {d : Nat} (hd : 0 ≤ d) {s0 : Int32} {h : eH} {q} (hf : fX35_isSize_b21 s0 h = some q) : wp w d YX35_isSize 21 [none, none] [.int s0] h (e_is (e_rn c_I q)) := by
  unfold fX35_isSize_b21 at hf
  obtain ⟨b1, rfl⟩ := z_r_some hf
  exact w_iret dX35_isSize_21 rfl b1 rfl
def fX35_isSize_b20  (h : eH) : Option (Int32 × eH) :=
  fX35_isSize_b21 (0 : Int32) h
theorem pX35_isSize_b20 {w : eW} {d : Nat} (hd : 0 ≤ d)  {h : eH} {q} (hf : fX35_isSize_b20  h = some q) : wp w d YX35_isSize 20 [none, none] [] h (e_is (e_rn c_I q)) := by
  unfold fX35_isSize_b20 at hf
  refine w_iconst dX35_isSize_20 (v := 0) (by decide) ?_
  exact (pX35_isSize_b21 hd hf).to trivial
def fX35_isSize (p0 : Int64) (h : eH) : Option (Int32 × eH) :=
  if (lg_cmp p0 (-1073741823 : Int64)) < 0 then
    fX35_isSize_b20 h
  else
    if 0 < (lg_cmp p0 (1073741823 : Int64)) then
      fX35_isSize_b20 h
    else
      fX35_isSize_b21 (1 : Int32) h
theorem pX35_isSize {w : eW} {d : Nat} (hd : 0 ≤ d) {p0 : Int64} {h : eH} {q} (hf : fX35_isSize p0 h = some q) : wm w d YX35_isSize [.long p0] h (e_is (e_rn c_I q)) := by
  show wp w d YX35_isSize 0 [some (.long p0), none] [] h _
  unfold fX35_isSize at hf
  refine w_lload_n dX35_isSize_0 rfl rfl ?_
  refine w_ldc2 dX35_isSize_1 q5415 ?_
  refine w_lcmp dX35_isSize_4 ?_
  refine w_if_lt 20 dX35_isSize_5 (by decide) (fun c1 => ?_) (fun c1 => ?_)
  · replace hf := (if_pos (show (lg_cmp p0 (-1073741823 : Int64)) < 0 from c1)).symm.trans hf
    exact (pX35_isSize_b20 hd hf).to trivial
  · replace hf := (if_neg (show ¬ ((lg_cmp p0 (-1073741823 : Int64)) < 0) from c1)).symm.trans hf
    refine w_lload_n dX35_isSize_8 rfl rfl ?_
    refine w_ldc2 dX35_isSize_9 q5416 ?_
    refine w_lcmp dX35_isSize_12 ?_
    refine w_if_gt 20 dX35_isSize_13 (by decide) (fun c2 => ?_) (fun c2 => ?_)
    · replace hf := (if_pos (show 0 < (lg_cmp p0 (1073741823 : Int64)) from c2)).symm.trans hf
      exact (pX35_isSize_b20 hd hf).to trivial
    · replace hf := (if_neg (show ¬ (0 < (lg_cmp p0 (1073741823 : Int64))) from c2)).symm.trans hf
      refine w_iconst dX35_isSize_16 (v := 1) (by decide) ?_
      refine w_goto 21 dX35_isSize_17 (by decide) ?_
      exact (pX35_isSize_b21 hd hf).to trivial
abbrev cX35_grow : ByteArray := prog_37_method_131_code
def yX35_grow : MethodName := ⟨RX35, "grow", "(J)V"⟩
def YX35_grow : eY := (yX35_grow, cX35_grow, 3, none, [])
theorem mX35_grow : e_mv YX35_grow RX35 1 := ⟨q5556, qs331, q5557, by decide, by decide +kernel, (e_sig (by decide +kernel))⟩
theorem dX35_grow_0 : decode cX35_grow 0 = .ok (.aload_n 0, 1) := dc_42 (by decide +kernel)
theorem dX35_grow_1 : decode cX35_grow 1 = .ok (.aload_n 0, 1) := dc_42 (by decide +kernel)
theorem dX35_grow_2 : decode cX35_grow 2 = .ok (.getfield 952, 3) := dc_180 (a := 3) (b := 184) (n := 952) (by decide +kernel)
theorem dX35_grow_5 : decode cX35_grow 5 = .ok (.lload_n 1, 1) := dc_31 (by decide +kernel)
theorem dX35_grow_6 : decode cX35_grow 6 = .ok (.ladd, 1) := dc_97 (by decide +kernel)
theorem dX35_grow_7 : decode cX35_grow 7 = .ok (.putfield 952, 3) := dc_181 (a := 3) (b := 184) (n := 952) (by decide +kernel)
theorem dX35_grow_10 : decode cX35_grow 10 = .ok (.aload_n 0, 1) := dc_42 (by decide +kernel)
theorem dX35_grow_11 : decode cX35_grow 11 = .ok (.aload_n 0, 1) := dc_42 (by decide +kernel)
theorem dX35_grow_12 : decode cX35_grow 12 = .ok (.getfield 954, 3) := dc_180 (a := 3) (b := 186) (n := 954) (by decide +kernel)
theorem dX35_grow_15 : decode cX35_grow 15 = .ok (.ifCond .eq 17, 3) := dc_153 (a := 0) (b := 17) (v := 17) (by decide +kernel)
theorem dX35_grow_18 : decode cX35_grow 18 = .ok (.aload_n 0, 1) := dc_42 (by decide +kernel)
theorem dX35_grow_19 : decode cX35_grow 19 = .ok (.getfield 952, 3) := dc_180 (a := 3) (b := 184) (n := 952) (by decide +kernel)
theorem dX35_grow_22 : decode cX35_grow 22 = .ok (.invokestatic 740, 3) := dc_184 (a := 2) (b := 228) (n := 740) (by decide +kernel)
theorem dX35_grow_25 : decode cX35_grow 25 = .ok (.ifCond .eq 7, 3) := dc_153 (a := 0) (b := 7) (v := 7) (by decide +kernel)
theorem dX35_grow_28 : decode cX35_grow 28 = .ok (.iconst 1, 1) := dc_4 (by decide +kernel)
theorem dX35_grow_29 : decode cX35_grow 29 = .ok (.goto 4, 3) := dc_167 (a := 0) (b := 4) (v := 4) (by decide +kernel)
theorem dX35_grow_32 : decode cX35_grow 32 = .ok (.iconst 0, 1) := dc_3 (by decide +kernel)
theorem dX35_grow_33 : decode cX35_grow 33 = .ok (.putfield 954, 3) := dc_181 (a := 3) (b := 186) (n := 954) (by decide +kernel)
theorem dX35_grow_36 : decode cX35_grow 36 = .ok (.return_, 1) := dc_177 (by decide +kernel)
theorem GX35_952 {w : eW} {d : Nat} {Y : eY} {pc : Nat} {ls : eL} {st : List Value} {h : eH} {Q : eO → eH → Prop} {a : Nat} {x : Int64} (hf : g_J 34 h a 79 = some x) (hd : decode Y.2.1 pc = .ok (.getfield 952, 3)) (hY : Y.1.cls = RX35) (kk : wp w d Y (pc + 3) ls (.long x :: st) h Q) : wp w d Y pc ls (.ref a :: st) h Q := x_gJ (ci := 34) (k := 79) hf hd rfl (by decide) (by rw [hY]; exact q4580) kk
theorem GX35_954 {w : eW} {d : Nat} {Y : eY} {pc : Nat} {ls : eL} {st : List Value} {h : eH} {Q : eO → eH → Prop} {a : Nat} {x : Int32} (hf : g_I 34 h a 78 = some x) (hd : decode Y.2.1 pc = .ok (.getfield 954, 3)) (hY : Y.1.cls = RX35) (kk : wp w d Y (pc + 3) ls (.int x :: st) h Q) : wp w d Y pc ls (.ref a :: st) h Q := x_gI (ci := 34) (k := 78) hf hd rfl (by decide) (by rw [hY]; exact q4579) kk
theorem SX35_952 {w : eW} {d : Nat} {Y : eY} {pc : Nat} {ls : eL} {st : List Value} {h : eH} {Q : eO → eH → Prop} {a : Nat} {h' : eH} {x : Int64} (hf : p_V 34 h a 79 (.long x) = some h') (hd : decode Y.2.1 pc = .ok (.putfield 952, 3)) (hY : Y.1.cls = RX35) (kk : wp w d Y (pc + 3) ls st h' Q) : wp w d Y pc ls (.long x :: .ref a :: st) h Q := x_pJ (ci := 34) (k := 79) hf hd rfl (by decide) (by rw [hY]; exact q4580) rfl rfl kk
theorem SX35_954 {w : eW} {d : Nat} {Y : eY} {pc : Nat} {ls : eL} {st : List Value} {h : eH} {Q : eO → eH → Prop} {a : Nat} {h' : eH} {x : Int32} (hf : p_Z 34 h a 78 x = some h') (hd : decode Y.2.1 pc = .ok (.putfield 954, 3)) (hY : Y.1.cls = RX35) (kk : wp w d Y (pc + 3) ls st h' Q) : wp w d Y pc ls (.int x :: .ref a :: st) h Q := x_pZ (ci := 34) (k := 78) hf hd rfl (by decide) (by rw [hY]; exact q4579) rfl rfl kk
def fX35_grow_b33 (s0 : Nat) (s1 : Int32) (h : eH) : Option (Unit × eH) :=
  (p_Z 34 h s0 78 s1).bind fun h1 =>
  some ((), h1)
theorem pX35_grow_b33 {w : eW} {d : Nat} (hd : 1 ≤ d + 1) {s0 : Nat} {s1 : Int32} {h : eH} {q} (hf : fX35_grow_b33 s0 s1 h = some q) : wp w (d + 1) YX35_grow 33 [none, none, none] [.int s1, .ref s0] h (e_is (e_rn c_V q)) := by
  unfold fX35_grow_b33 at hf
  obtain ⟨h1, b2, hf⟩ := Option.bind_eq_some_iff.mp hf
  refine SX35_954 b2 dX35_grow_33 rfl ?_
  cases hf
  exact w_vret dX35_grow_36 rfl rfl
def fX35_grow_b32 (s0 : Nat) (h : eH) : Option (Unit × eH) :=
  fX35_grow_b33 s0 (0 : Int32) h
theorem pX35_grow_b32 {w : eW} {d : Nat} (hd : 1 ≤ d + 1) {s0 : Nat} {h : eH} {q} (hf : fX35_grow_b32 s0 h = some q) : wp w (d + 1) YX35_grow 32 [none, none, none] [.ref s0] h (e_is (e_rn c_V q)) := by
  unfold fX35_grow_b32 at hf
  refine w_iconst dX35_grow_32 (v := 0) (by decide) ?_
  exact (pX35_grow_b33 hd hf).to trivial
def fX35_grow (this : Nat) (p0 : Int64) (h : eH) : Option (Unit × eH) :=
  (g_J 34 h this 79).bind fun x1 =>
  (p_V 34 h this 79 (.long (x1 + p0))).bind fun h3 =>
  (g_I 34 h3 this 78).bind fun x5 =>
  if x5 = 0 then
    fX35_grow_b32 this h3
  else
    (g_J 34 h3 this 79).bind fun x8 =>
    (fX35_isSize x8 h3).bind fun q10 =>
    if q10.1 = 0 then
      fX35_grow_b32 this q10.2
    else
      fX35_grow_b33 this (1 : Int32) q10.2
theorem pX35_grow {w : eW} {d : Nat} (hd : 1 ≤ d) {this : Nat} {p0 : Int64} {h : eH} {q} (hf : fX35_grow this p0 h = some q) : wm w d YX35_grow [.ref this, .long p0] h (e_is (e_rn c_V q)) := by
  obtain ⟨d, rfl⟩ : ∃ e, d = e + 1 := ⟨d - 1, by omega⟩
  show wp w (d + 1) YX35_grow 0 [some (.ref this), some (.long p0), none] [] h _
  unfold fX35_grow at hf
  refine w_aload_n dX35_grow_0 rfl rfl ?_
  refine w_aload_n dX35_grow_1 rfl rfl ?_
  obtain ⟨x1, b2, hf⟩ := Option.bind_eq_some_iff.mp hf
  refine GX35_952 b2 dX35_grow_2 rfl ?_
  refine w_lload_n dX35_grow_5 rfl rfl ?_
  refine w_ladd dX35_grow_6 ?_
  obtain ⟨h3, b4, hf⟩ := Option.bind_eq_some_iff.mp hf
  refine SX35_952 b4 dX35_grow_7 rfl ?_
  refine w_aload_n dX35_grow_10 rfl rfl ?_
  refine w_aload_n dX35_grow_11 rfl rfl ?_
  obtain ⟨x5, b6, hf⟩ := Option.bind_eq_some_iff.mp hf
  refine GX35_954 b6 dX35_grow_12 rfl ?_
  refine w_if_eq 32 dX35_grow_15 (by decide) (fun c7 => ?_) (fun c7 => ?_)
  · replace hf := (if_pos (show x5 = 0 from c7)).symm.trans hf
    exact (pX35_grow_b32 hd hf).to trivial
  · replace hf := (if_neg (show ¬ (x5 = 0) from c7)).symm.trans hf
    refine w_aload_n dX35_grow_18 rfl rfl ?_
    obtain ⟨x8, b9, hf⟩ := Option.bind_eq_some_iff.mp hf
    refine GX35_952 b9 dX35_grow_19 rfl ?_
    refine x_cnI hf (e_stS (Yc := YX35_isSize) (av := [.long x8]) (st := [.ref this]) dX35_grow_22 q5412 mX35_isSize) mX35_isSize.2.2.1 mX35_isSize.2.2.2.2.1 (Nat.le_of_ble_eq_true rfl) (Nat.le_of_ble_eq_true rfl) (fun q hq => pX35_isSize (by omega) hq) (fun q10 hf => ?_)
    refine w_if_eq 32 dX35_grow_25 (by decide) (fun c11 => ?_) (fun c11 => ?_)
    · replace hf := (if_pos (show q10.1 = 0 from c11)).symm.trans hf
      exact (pX35_grow_b32 hd hf).to trivial
    · replace hf := (if_neg (show ¬ (q10.1 = 0) from c11)).symm.trans hf
      refine w_iconst dX35_grow_28 (v := 1) (by decide) ?_
      refine w_goto 33 dX35_grow_29 (by decide) ?_
      exact (pX35_grow_b33 hd hf).to trivial
abbrev cX35_sizeOf : ByteArray := prog_37_method_135_code
def yX35_sizeOf : MethodName := ⟨RX35, "sizeOf", "([III)I"⟩
def YX35_sizeOf : eY := (yX35_sizeOf, cX35_sizeOf, 5, (Option.some FieldType.int), [])
theorem mX35_sizeOf : e_mv YX35_sizeOf RX35 3 := ⟨q5560, qs332, q5561, by decide, by decide +kernel, (e_sig (by decide +kernel))⟩
theorem dX35_sizeOf_0 : decode cX35_sizeOf 0 = .ok (.aload_n 1, 1) := dc_43 (by decide +kernel)
theorem dX35_sizeOf_1 : decode cX35_sizeOf 1 = .ok (.iload_n 2, 1) := dc_28 (by decide +kernel)
theorem dX35_sizeOf_2 : decode cX35_sizeOf 2 = .ok (.iaload, 1) := dc_46 (by decide +kernel)
theorem dX35_sizeOf_3 : decode cX35_sizeOf 3 = .ok (.ifCond .ne 11, 3) := dc_154 (a := 0) (b := 11) (v := 11) (by decide +kernel)
theorem dX35_sizeOf_6 : decode cX35_sizeOf 6 = .ok (.aload_n 1, 1) := dc_43 (by decide +kernel)
theorem dX35_sizeOf_7 : decode cX35_sizeOf 7 = .ok (.iload_n 2, 1) := dc_28 (by decide +kernel)
theorem dX35_sizeOf_8 : decode cX35_sizeOf 8 = .ok (.iconst 3, 1) := dc_6 (by decide +kernel)
theorem dX35_sizeOf_9 : decode cX35_sizeOf 9 = .ok (.iadd, 1) := dc_96 (by decide +kernel)
theorem dX35_sizeOf_10 : decode cX35_sizeOf 10 = .ok (.iload_n 3, 1) := dc_29 (by decide +kernel)
theorem dX35_sizeOf_11 : decode cX35_sizeOf 11 = .ok (.iadd, 1) := dc_96 (by decide +kernel)
theorem dX35_sizeOf_12 : decode cX35_sizeOf 12 = .ok (.iaload, 1) := dc_46 (by decide +kernel)
theorem dX35_sizeOf_13 : decode cX35_sizeOf 13 = .ok (.ireturn, 1) := dc_172 (by decide +kernel)
theorem dX35_sizeOf_14 : decode cX35_sizeOf 14 = .ok (.aload_n 1, 1) := dc_43 (by decide +kernel)
theorem dX35_sizeOf_15 : decode cX35_sizeOf 15 = .ok (.iload_n 2, 1) := dc_28 (by decide +kernel)
theorem dX35_sizeOf_16 : decode cX35_sizeOf 16 = .ok (.iaload, 1) := dc_46 (by decide +kernel)
theorem dX35_sizeOf_17 : decode cX35_sizeOf 17 = .ok (.iconst 1, 1) := dc_4 (by decide +kernel)
theorem dX35_sizeOf_18 : decode cX35_sizeOf 18 = .ok (.if_icmp .ne 28, 3) := dc_160 (a := 0) (b := 28) (v := 28) (by decide +kernel)
theorem dX35_sizeOf_21 : decode cX35_sizeOf 21 = .ok (.aload_n 1, 1) := dc_43 (by decide +kernel)
theorem dX35_sizeOf_22 : decode cX35_sizeOf 22 = .ok (.iload_n 2, 1) := dc_28 (by decide +kernel)
theorem dX35_sizeOf_23 : decode cX35_sizeOf 23 = .ok (.iconst 1, 1) := dc_4 (by decide +kernel)
theorem dX35_sizeOf_24 : decode cX35_sizeOf 24 = .ok (.iadd, 1) := dc_96 (by decide +kernel)
theorem dX35_sizeOf_25 : decode cX35_sizeOf 25 = .ok (.iload_n 3, 1) := dc_29 (by decide +kernel)
theorem dX35_sizeOf_26 : decode cX35_sizeOf 26 = .ok (.iadd, 1) := dc_96 (by decide +kernel)
theorem dX35_sizeOf_27 : decode cX35_sizeOf 27 = .ok (.iaload, 1) := dc_46 (by decide +kernel)
theorem dX35_sizeOf_28 : decode cX35_sizeOf 28 = .ok (.ldc_w 816, 3) := dc_19 (a := 3) (b := 48) (n := 816) (by decide +kernel)
theorem dX35_sizeOf_31 : decode cX35_sizeOf 31 = .ok (.if_icmp .ne 7, 3) := dc_160 (a := 0) (b := 7) (v := 7) (by decide +kernel)
theorem dX35_sizeOf_34 : decode cX35_sizeOf 34 = .ok (.iconst 0, 1) := dc_3 (by decide +kernel)
theorem dX35_sizeOf_35 : decode cX35_sizeOf 35 = .ok (.goto 10, 3) := dc_167 (a := 0) (b := 10) (v := 10) (by decide +kernel)
theorem dX35_sizeOf_38 : decode cX35_sizeOf 38 = .ok (.aload_n 1, 1) := dc_43 (by decide +kernel)
theorem dX35_sizeOf_39 : decode cX35_sizeOf 39 = .ok (.iload_n 2, 1) := dc_28 (by decide +kernel)
theorem dX35_sizeOf_40 : decode cX35_sizeOf 40 = .ok (.iconst 1, 1) := dc_4 (by decide +kernel)
theorem dX35_sizeOf_41 : decode cX35_sizeOf 41 = .ok (.iadd, 1) := dc_96 (by decide +kernel)
theorem dX35_sizeOf_42 : decode cX35_sizeOf 42 = .ok (.iload_n 3, 1) := dc_29 (by decide +kernel)
theorem dX35_sizeOf_43 : decode cX35_sizeOf 43 = .ok (.iadd, 1) := dc_96 (by decide +kernel)
theorem dX35_sizeOf_44 : decode cX35_sizeOf 44 = .ok (.iaload, 1) := dc_46 (by decide +kernel)
theorem dX35_sizeOf_45 : decode cX35_sizeOf 45 = .ok (.ireturn, 1) := dc_172 (by decide +kernel)
theorem dX35_sizeOf_46 : decode cX35_sizeOf 46 = .ok (.aload_n 1, 1) := dc_43 (by decide +kernel)
theorem dX35_sizeOf_47 : decode cX35_sizeOf 47 = .ok (.iload_n 2, 1) := dc_28 (by decide +kernel)
theorem dX35_sizeOf_48 : decode cX35_sizeOf 48 = .ok (.iconst 1, 1) := dc_4 (by decide +kernel)
theorem dX35_sizeOf_49 : decode cX35_sizeOf 49 = .ok (.iadd, 1) := dc_96 (by decide +kernel)
theorem dX35_sizeOf_50 : decode cX35_sizeOf 50 = .ok (.iaload, 1) := dc_46 (by decide +kernel)
theorem dX35_sizeOf_51 : decode cX35_sizeOf 51 = .ok (.istore 4, 2) := dc_54 (a := 4) (by decide +kernel)
theorem dX35_sizeOf_53 : decode cX35_sizeOf 53 = .ok (.iload_n 3, 1) := dc_29 (by decide +kernel)
theorem dX35_sizeOf_54 : decode cX35_sizeOf 54 = .ok (.ifCond .ne 13, 3) := dc_154 (a := 0) (b := 13) (v := 13) (by decide +kernel)
theorem dX35_sizeOf_57 : decode cX35_sizeOf 57 = .ok (.aload_n 0, 1) := dc_42 (by decide +kernel)
theorem dX35_sizeOf_58 : decode cX35_sizeOf 58 = .ok (.getfield 157, 3) := dc_180 (a := 0) (b := 157) (n := 157) (by decide +kernel)
theorem dX35_sizeOf_61 : decode cX35_sizeOf 61 = .ok (.iload 4, 2) := dc_21 (a := 4) (by decide +kernel)
theorem dX35_sizeOf_63 : decode cX35_sizeOf 63 = .ok (.iaload, 1) := dc_46 (by decide +kernel)
theorem dX35_sizeOf_64 : decode cX35_sizeOf 64 = .ok (.goto 25, 3) := dc_167 (a := 0) (b := 25) (v := 25) (by decide +kernel)
theorem dX35_sizeOf_67 : decode cX35_sizeOf 67 = .ok (.iload_n 3, 1) := dc_29 (by decide +kernel)
theorem dX35_sizeOf_68 : decode cX35_sizeOf 68 = .ok (.iconst 1, 1) := dc_4 (by decide +kernel)
theorem dX35_sizeOf_69 : decode cX35_sizeOf 69 = .ok (.if_icmp .ne 13, 3) := dc_160 (a := 0) (b := 13) (v := 13) (by decide +kernel)
theorem dX35_sizeOf_72 : decode cX35_sizeOf 72 = .ok (.aload_n 0, 1) := dc_42 (by decide +kernel)
theorem dX35_sizeOf_73 : decode cX35_sizeOf 73 = .ok (.getfield 160, 3) := dc_180 (a := 0) (b := 160) (n := 160) (by decide +kernel)
theorem dX35_sizeOf_76 : decode cX35_sizeOf 76 = .ok (.iload 4, 2) := dc_21 (a := 4) (by decide +kernel)
theorem dX35_sizeOf_78 : decode cX35_sizeOf 78 = .ok (.iaload, 1) := dc_46 (by decide +kernel)
theorem dX35_sizeOf_79 : decode cX35_sizeOf 79 = .ok (.goto 10, 3) := dc_167 (a := 0) (b := 10) (v := 10) (by decide +kernel)
theorem dX35_sizeOf_82 : decode cX35_sizeOf 82 = .ok (.aload_n 0, 1) := dc_42 (by decide +kernel)
theorem dX35_sizeOf_83 : decode cX35_sizeOf 83 = .ok (.getfield 163, 3) := dc_180 (a := 0) (b := 163) (n := 163) (by decide +kernel)
theorem dX35_sizeOf_86 : decode cX35_sizeOf 86 = .ok (.iload 4, 2) := dc_21 (a := 4) (by decide +kernel)
theorem dX35_sizeOf_88 : decode cX35_sizeOf 88 = .ok (.iaload, 1) := dc_46 (by decide +kernel)
theorem dX35_sizeOf_89 : decode cX35_sizeOf 89 = .ok (.ireturn, 1) := dc_172 (by decide +kernel)
theorem GX35_157 {w : eW} {d : Nat} {Y : eY} {pc : Nat} {ls : eL} {st : List Value} {h : eH} {Q : eO → eH → Prop} {a : Nat} {x : Nat} (hf : g_A 34 h a 68 = some x) (hd : decode Y.2.1 pc = .ok (.getfield 157, 3)) (hY : Y.1.cls = RX35) (kk : wp w d Y (pc + 3) ls (.ref x :: st) h Q) : wp w d Y pc ls (.ref a :: st) h Q := x_gA (ci := 34) (k := 68) hf hd rfl (by decide) (by rw [hY]; exact q4569) kk
theorem GX35_160 {w : eW} {d : Nat} {Y : eY} {pc : Nat} {ls : eL} {st : List Value} {h : eH} {Q : eO → eH → Prop} {a : Nat} {x : Nat} (hf : g_A 34 h a 69 = some x) (hd : decode Y.2.1 pc = .ok (.getfield 160, 3)) (hY : Y.1.cls = RX35) (kk : wp w d Y (pc + 3) ls (.ref x :: st) h Q) : wp w d Y pc ls (.ref a :: st) h Q := x_gA (ci := 34) (k := 69) hf hd rfl (by decide) (by rw [hY]; exact q4570) kk
theorem GX35_163 {w : eW} {d : Nat} {Y : eY} {pc : Nat} {ls : eL} {st : List Value} {h : eH} {Q : eO → eH → Prop} {a : Nat} {x : Nat} (hf : g_A 34 h a 70 = some x) (hd : decode Y.2.1 pc = .ok (.getfield 163, 3)) (hY : Y.1.cls = RX35) (kk : wp w d Y (pc + 3) ls (.ref x :: st) h Q) : wp w d Y pc ls (.ref a :: st) h Q := x_gA (ci := 34) (k := 70) hf hd rfl (by decide) (by rw [hY]; exact q4571) kk
def fX35_sizeOf_b45 (s0 : Int32) (h : eH) : Option (Int32 × eH) :=
  some (s0, h)
theorem pX35_sizeOf_b45 {w : eW} {d : Nat} (hd : 0 ≤ d) {s0 : Int32} {h : eH} {q} (hf : fX35_sizeOf_b45 s0 h = some q) : wp w d YX35_sizeOf 45 [none, none, none, none, none] [.int s0] h (e_is (e_rn c_I q)) := by
  unfold fX35_sizeOf_b45 at hf
  cases hf
  exact w_iret dX35_sizeOf_45 rfl rfl rfl
def fX35_sizeOf_b89 (s0 : Int32) (h : eH) : Option (Int32 × eH) :=
  some (s0, h)
theorem pX35_sizeOf_b89 {w : eW} {d : Nat} (hd : 0 ≤ d) {s0 : Int32} {h : eH} {q} (hf : fX35_sizeOf_b89 s0 h = some q) : wp w d YX35_sizeOf 89 [none, none, none, none, none] [.int s0] h (e_is (e_rn c_I q)) := by
  unfold fX35_sizeOf_b89 at hf
  cases hf
  exact w_iret dX35_sizeOf_89 rfl rfl rfl
def fX35_sizeOf (this : Nat) (p0 : Nat) (p1 : Int32) (p2 : Int32) (h : eH) : Option (Int32 × eH) :=
  (r_I 100 h p0 p1).bind fun x1 =>
  if ¬ x1 = 0 then
    (r_I 100 h p0 p1).bind fun x4 =>
    if ¬ x4 = (1 : Int32) then
      (r_I 100 h p0 (p1 + (1 : Int32))).bind fun x7 =>
      if ¬ p2 = 0 then
        if ¬ p2 = (1 : Int32) then
          (g_A 34 h this 70).bind fun a11 =>
          (r_I 100 h a11 x7).bind fun x13 =>
          fX35_sizeOf_b89 x13 h
        else
          (g_A 34 h this 69).bind fun a15 =>
          (r_I 100 h a15 x7).bind fun x17 =>
          fX35_sizeOf_b89 x17 h
      else
        (g_A 34 h this 68).bind fun a19 =>
        (r_I 100 h a19 x7).bind fun x21 =>
        fX35_sizeOf_b89 x21 h
    else
      (r_I 100 h p0 ((p1 + (1 : Int32)) + p2)).bind fun x23 =>
      if ¬ x23 = (-1073741824 : Int32) then
        (r_I 100 h p0 ((p1 + (1 : Int32)) + p2)).bind fun x26 =>
        fX35_sizeOf_b45 x26 h
      else
        fX35_sizeOf_b45 (0 : Int32) h
  else
    (r_I 100 h p0 ((p1 + (3 : Int32)) + p2)).bind fun x28 =>
    some (x28, h)
theorem pX35_sizeOf {w : eW} {d : Nat} (hd : 0 ≤ d) {this : Nat} {p0 : Nat} {p1 : Int32} {p2 : Int32} {h : eH} {q} (hf : fX35_sizeOf this p0 p1 p2 h = some q) : wm w d YX35_sizeOf [.ref this, .ref p0, .int p1, .int p2] h (e_is (e_rn c_I q)) := by
  show wp w d YX35_sizeOf 0 [some (.ref this), some (.ref p0), some (.int p1), some (.int p2), none] [] h _
  unfold fX35_sizeOf at hf
  refine w_aload_n dX35_sizeOf_0 rfl rfl ?_
  refine w_iload_n dX35_sizeOf_1 rfl rfl ?_
  obtain ⟨x1, b2, hf⟩ := Option.bind_eq_some_iff.mp hf
  refine x_rI b2 dX35_sizeOf_2 ?_
  refine w_if_ne 14 dX35_sizeOf_3 (by decide) (fun c3 => ?_) (fun c3 => ?_)
  · replace hf := (if_pos (show ¬ x1 = 0 from c3)).symm.trans hf
    refine w_aload_n dX35_sizeOf_14 rfl rfl ?_
    refine w_iload_n dX35_sizeOf_15 rfl rfl ?_
    obtain ⟨x4, b5, hf⟩ := Option.bind_eq_some_iff.mp hf
    refine x_rI b5 dX35_sizeOf_16 ?_
    refine w_iconst dX35_sizeOf_17 (v := 1) (by decide) ?_
    refine w_icmp_ne 46 dX35_sizeOf_18 (by decide) (fun c6 => ?_) (fun c6 => ?_)
    · replace hf := (if_pos (show ¬ x4 = (1 : Int32) from c6)).symm.trans hf
      refine w_aload_n dX35_sizeOf_46 rfl rfl ?_
      refine w_iload_n dX35_sizeOf_47 rfl rfl ?_
      refine w_iconst dX35_sizeOf_48 (v := 1) (by decide) ?_
      refine w_iadd dX35_sizeOf_49 ?_
      obtain ⟨x7, b8, hf⟩ := Option.bind_eq_some_iff.mp hf
      refine x_rI b8 dX35_sizeOf_50 ?_
      refine w_istore dX35_sizeOf_51 (by decide) (ls' := [some (.ref this), some (.ref p0), some (.int p1), some (.int p2), some (.int x7)]) rfl ?_
      refine w_iload_n dX35_sizeOf_53 rfl rfl ?_
      refine w_if_ne 67 dX35_sizeOf_54 (by decide) (fun c9 => ?_) (fun c9 => ?_)
      · replace hf := (if_pos (show ¬ p2 = 0 from c9)).symm.trans hf
        refine w_iload_n dX35_sizeOf_67 rfl rfl ?_
        refine w_iconst dX35_sizeOf_68 (v := 1) (by decide) ?_
        refine w_icmp_ne 82 dX35_sizeOf_69 (by decide) (fun c10 => ?_) (fun c10 => ?_)
        · replace hf := (if_pos (show ¬ p2 = (1 : Int32) from c10)).symm.trans hf
          refine w_aload_n dX35_sizeOf_82 rfl rfl ?_
          obtain ⟨a11, b12, hf⟩ := Option.bind_eq_some_iff.mp hf
          refine GX35_163 b12 dX35_sizeOf_83 rfl ?_
          refine w_iload dX35_sizeOf_86 rfl ?_
          obtain ⟨x13, b14, hf⟩ := Option.bind_eq_some_iff.mp hf
          refine x_rI b14 dX35_sizeOf_88 ?_
          exact (pX35_sizeOf_b89 hd hf).to trivial
        · replace hf := (if_neg (show ¬ (¬ p2 = (1 : Int32)) from (fun z => z c10))).symm.trans hf
          refine w_aload_n dX35_sizeOf_72 rfl rfl ?_
          obtain ⟨a15, b16, hf⟩ := Option.bind_eq_some_iff.mp hf
          refine GX35_160 b16 dX35_sizeOf_73 rfl ?_
          refine w_iload dX35_sizeOf_76 rfl ?_
          obtain ⟨x17, b18, hf⟩ := Option.bind_eq_some_iff.mp hf
          refine x_rI b18 dX35_sizeOf_78 ?_
          refine w_goto 89 dX35_sizeOf_79 (by decide) ?_
          exact (pX35_sizeOf_b89 hd hf).to trivial
      · replace hf := (if_neg (show ¬ (¬ p2 = 0) from (fun z => z c9))).symm.trans hf
        refine w_aload_n dX35_sizeOf_57 rfl rfl ?_
        obtain ⟨a19, b20, hf⟩ := Option.bind_eq_some_iff.mp hf
        refine GX35_157 b20 dX35_sizeOf_58 rfl ?_
        refine w_iload dX35_sizeOf_61 rfl ?_
        obtain ⟨x21, b22, hf⟩ := Option.bind_eq_some_iff.mp hf
        refine x_rI b22 dX35_sizeOf_63 ?_
        refine w_goto 89 dX35_sizeOf_64 (by decide) ?_
        exact (pX35_sizeOf_b89 hd hf).to trivial
    · replace hf := (if_neg (show ¬ (¬ x4 = (1 : Int32)) from (fun z => z c6))).symm.trans hf
      refine w_aload_n dX35_sizeOf_21 rfl rfl ?_
      refine w_iload_n dX35_sizeOf_22 rfl rfl ?_
      refine w_iconst dX35_sizeOf_23 (v := 1) (by decide) ?_
      refine w_iadd dX35_sizeOf_24 ?_
      refine w_iload_n dX35_sizeOf_25 rfl rfl ?_
      refine w_iadd dX35_sizeOf_26 ?_
      obtain ⟨x23, b24, hf⟩ := Option.bind_eq_some_iff.mp hf
      refine x_rI b24 dX35_sizeOf_27 ?_
      refine w_ldc_w dX35_sizeOf_28 q5562 ?_
      refine w_icmp_ne 38 dX35_sizeOf_31 (by decide) (fun c25 => ?_) (fun c25 => ?_)
      · replace hf := (if_pos (show ¬ x23 = (-1073741824 : Int32) from c25)).symm.trans hf
        refine w_aload_n dX35_sizeOf_38 rfl rfl ?_
        refine w_iload_n dX35_sizeOf_39 rfl rfl ?_
        refine w_iconst dX35_sizeOf_40 (v := 1) (by decide) ?_
        refine w_iadd dX35_sizeOf_41 ?_
        refine w_iload_n dX35_sizeOf_42 rfl rfl ?_
        refine w_iadd dX35_sizeOf_43 ?_
        obtain ⟨x26, b27, hf⟩ := Option.bind_eq_some_iff.mp hf
        refine x_rI b27 dX35_sizeOf_44 ?_
        exact (pX35_sizeOf_b45 hd hf).to trivial
      · replace hf := (if_neg (show ¬ (¬ x23 = (-1073741824 : Int32)) from (fun z => z c25))).symm.trans hf
        refine w_iconst dX35_sizeOf_34 (v := 0) (by decide) ?_
        refine w_goto 45 dX35_sizeOf_35 (by decide) ?_
        exact (pX35_sizeOf_b45 hd hf).to trivial
  · replace hf := (if_neg (show ¬ (¬ x1 = 0) from (fun z => z c3))).symm.trans hf
    refine w_aload_n dX35_sizeOf_6 rfl rfl ?_
    refine w_iload_n dX35_sizeOf_7 rfl rfl ?_
    refine w_iconst dX35_sizeOf_8 (v := 3) (by decide) ?_
    refine w_iadd dX35_sizeOf_9 ?_
    refine w_iload_n dX35_sizeOf_10 rfl rfl ?_
    refine w_iadd dX35_sizeOf_11 ?_
    obtain ⟨x28, b29, hf⟩ := Option.bind_eq_some_iff.mp hf
    refine x_rI b29 dX35_sizeOf_12 ?_
    cases hf
    exact w_iret dX35_sizeOf_13 rfl rfl rfl
abbrev cX35_isRunning : ByteArray := prog_37_method_136_code
def yX35_isRunning : MethodName := ⟨RX35, "isRunning", "([III)Z"⟩
def YX35_isRunning : eY := (yX35_isRunning, cX35_isRunning, 4, (Option.some FieldType.boolean), [])
theorem mX35_isRunning : e_mv YX35_isRunning RX35 3 := ⟨q5565, qs333, q5566, by decide, by decide +kernel, (e_sig (by decide +kernel))⟩
theorem dX35_isRunning_0 : decode cX35_isRunning 0 = .ok (.aload_n 1, 1) := dc_43 (by decide +kernel)
theorem dX35_isRunning_1 : decode cX35_isRunning 1 = .ok (.iload_n 2, 1) := dc_28 (by decide +kernel)
theorem dX35_isRunning_2 : decode cX35_isRunning 2 = .ok (.iaload, 1) := dc_46 (by decide +kernel)
theorem dX35_isRunning_3 : decode cX35_isRunning 3 = .ok (.iconst 1, 1) := dc_4 (by decide +kernel)
theorem dX35_isRunning_4 : decode cX35_isRunning 4 = .ok (.if_icmp .ne 20, 3) := dc_160 (a := 0) (b := 20) (v := 20) (by decide +kernel)
theorem dX35_isRunning_7 : decode cX35_isRunning 7 = .ok (.aload_n 1, 1) := dc_43 (by decide +kernel)
theorem dX35_isRunning_8 : decode cX35_isRunning 8 = .ok (.iload_n 2, 1) := dc_28 (by decide +kernel)
theorem dX35_isRunning_9 : decode cX35_isRunning 9 = .ok (.iconst 1, 1) := dc_4 (by decide +kernel)
theorem dX35_isRunning_10 : decode cX35_isRunning 10 = .ok (.iadd, 1) := dc_96 (by decide +kernel)
theorem dX35_isRunning_11 : decode cX35_isRunning 11 = .ok (.iload_n 3, 1) := dc_29 (by decide +kernel)
theorem dX35_isRunning_12 : decode cX35_isRunning 12 = .ok (.iadd, 1) := dc_96 (by decide +kernel)
theorem dX35_isRunning_13 : decode cX35_isRunning 13 = .ok (.iaload, 1) := dc_46 (by decide +kernel)
theorem dX35_isRunning_14 : decode cX35_isRunning 14 = .ok (.ldc_w 816, 3) := dc_19 (a := 3) (b := 48) (n := 816) (by decide +kernel)
theorem dX35_isRunning_17 : decode cX35_isRunning 17 = .ok (.if_icmp .ne 7, 3) := dc_160 (a := 0) (b := 7) (v := 7) (by decide +kernel)
theorem dX35_isRunning_20 : decode cX35_isRunning 20 = .ok (.iconst 1, 1) := dc_4 (by decide +kernel)
theorem dX35_isRunning_21 : decode cX35_isRunning 21 = .ok (.goto 4, 3) := dc_167 (a := 0) (b := 4) (v := 4) (by decide +kernel)
theorem dX35_isRunning_24 : decode cX35_isRunning 24 = .ok (.iconst 0, 1) := dc_3 (by decide +kernel)
theorem dX35_isRunning_25 : decode cX35_isRunning 25 = .ok (.ireturn, 1) := dc_172 (by decide +kernel)
def fX35_isRunning_b25 (s0 : Int32) (h : eH) : Option (Int32 × eH) :=
  z_r s0 (s0, h)
theorem pX35_isRunning_b25 {w : eW} {d : Nat} (hd : 0 ≤ d) {s0 : Int32} {h : eH} {q} (hf : fX35_isRunning_b25 s0 h = some q) : wp w d YX35_isRunning 25 [none, none, none, none] [.int s0] h (e_is (e_rn c_I q)) := by
  unfold fX35_isRunning_b25 at hf
  obtain ⟨b1, rfl⟩ := z_r_some hf
  exact w_iret dX35_isRunning_25 rfl b1 rfl
def fX35_isRunning_b24  (h : eH) : Option (Int32 × eH) :=
  fX35_isRunning_b25 (0 : Int32) h
theorem pX35_isRunning_b24 {w : eW} {d : Nat} (hd : 0 ≤ d)  {h : eH} {q} (hf : fX35_isRunning_b24  h = some q) : wp w d YX35_isRunning 24 [none, none, none, none] [] h (e_is (e_rn c_I q)) := by
  unfold fX35_isRunning_b24 at hf
  refine w_iconst dX35_isRunning_24 (v := 0) (by decide) ?_
  exact (pX35_isRunning_b25 hd hf).to trivial
def fX35_isRunning (this : Nat) (p0 : Nat) (p1 : Int32) (p2 : Int32) (h : eH) : Option (Int32 × eH) :=
  (r_I 100 h p0 p1).bind fun x1 =>
  if ¬ x1 = (1 : Int32) then
    fX35_isRunning_b24 h
  else
    (r_I 100 h p0 ((p1 + (1 : Int32)) + p2)).bind fun x4 =>
    if ¬ x4 = (-1073741824 : Int32) then
      fX35_isRunning_b24 h
    else
      fX35_isRunning_b25 (1 : Int32) h
theorem pX35_isRunning {w : eW} {d : Nat} (hd : 0 ≤ d) {this : Nat} {p0 : Nat} {p1 : Int32} {p2 : Int32} {h : eH} {q} (hf : fX35_isRunning this p0 p1 p2 h = some q) : wm w d YX35_isRunning [.ref this, .ref p0, .int p1, .int p2] h (e_is (e_rn c_I q)) := by
  show wp w d YX35_isRunning 0 [some (.ref this), some (.ref p0), some (.int p1), some (.int p2)] [] h _
  unfold fX35_isRunning at hf
  refine w_aload_n dX35_isRunning_0 rfl rfl ?_
  refine w_iload_n dX35_isRunning_1 rfl rfl ?_
  obtain ⟨x1, b2, hf⟩ := Option.bind_eq_some_iff.mp hf
  refine x_rI b2 dX35_isRunning_2 ?_
  refine w_iconst dX35_isRunning_3 (v := 1) (by decide) ?_
  refine w_icmp_ne 24 dX35_isRunning_4 (by decide) (fun c3 => ?_) (fun c3 => ?_)
  · replace hf := (if_pos (show ¬ x1 = (1 : Int32) from c3)).symm.trans hf
    exact (pX35_isRunning_b24 hd hf).to trivial
  · replace hf := (if_neg (show ¬ (¬ x1 = (1 : Int32)) from (fun z => z c3))).symm.trans hf
    refine w_aload_n dX35_isRunning_7 rfl rfl ?_
    refine w_iload_n dX35_isRunning_8 rfl rfl ?_
    refine w_iconst dX35_isRunning_9 (v := 1) (by decide) ?_
    refine w_iadd dX35_isRunning_10 ?_
    refine w_iload_n dX35_isRunning_11 rfl rfl ?_
    refine w_iadd dX35_isRunning_12 ?_
    obtain ⟨x4, b5, hf⟩ := Option.bind_eq_some_iff.mp hf
    refine x_rI b5 dX35_isRunning_13 ?_
    refine w_ldc_w dX35_isRunning_14 q5562 ?_
    refine w_icmp_ne 24 dX35_isRunning_17 (by decide) (fun c6 => ?_) (fun c6 => ?_)
    · replace hf := (if_pos (show ¬ x4 = (-1073741824 : Int32) from c6)).symm.trans hf
      exact (pX35_isRunning_b24 hd hf).to trivial
    · replace hf := (if_neg (show ¬ (¬ x4 = (-1073741824 : Int32)) from (fun z => z c6))).symm.trans hf
      refine w_iconst dX35_isRunning_20 (v := 1) (by decide) ?_
      refine w_goto 25 dX35_isRunning_21 (by decide) ?_
      exact (pX35_isRunning_b25 hd hf).to trivial
abbrev cX35_greater : ByteArray := prog_37_method_132_code
def yX35_greater : MethodName := ⟨RX35, "greater", "(JJZ)J"⟩
def YX35_greater : eY := (yX35_greater, cX35_greater, 6, (Option.some FieldType.long), [])
theorem mX35_greater : e_mv YX35_greater RX35 3 := ⟨q5569, qs334, q5570, by decide, by decide +kernel, (e_sig (by decide +kernel))⟩
theorem dX35_greater_0 : decode cX35_greater 0 = .ok (.aload_n 0, 1) := dc_42 (by decide +kernel)
theorem dX35_greater_1 : decode cX35_greater 1 = .ok (.aload_n 0, 1) := dc_42 (by decide +kernel)
theorem dX35_greater_2 : decode cX35_greater 2 = .ok (.getfield 954, 3) := dc_180 (a := 3) (b := 186) (n := 954) (by decide +kernel)
theorem dX35_greater_5 : decode cX35_greater 5 = .ok (.ifCond .eq 19, 3) := dc_153 (a := 0) (b := 19) (v := 19) (by decide +kernel)
theorem dX35_greater_8 : decode cX35_greater 8 = .ok (.iload 5, 2) := dc_21 (a := 5) (by decide +kernel)
theorem dX35_greater_10 : decode cX35_greater 10 = .ok (.ifCond .eq 10, 3) := dc_153 (a := 0) (b := 10) (v := 10) (by decide +kernel)
theorem dX35_greater_13 : decode cX35_greater 13 = .ok (.lload_n 3, 1) := dc_33 (by decide +kernel)
theorem dX35_greater_14 : decode cX35_greater 14 = .ok (.invokestatic 740, 3) := dc_184 (a := 2) (b := 228) (n := 740) (by decide +kernel)
theorem dX35_greater_17 : decode cX35_greater 17 = .ok (.ifCond .eq 7, 3) := dc_153 (a := 0) (b := 7) (v := 7) (by decide +kernel)
theorem dX35_greater_20 : decode cX35_greater 20 = .ok (.iconst 1, 1) := dc_4 (by decide +kernel)
theorem dX35_greater_21 : decode cX35_greater 21 = .ok (.goto 4, 3) := dc_167 (a := 0) (b := 4) (v := 4) (by decide +kernel)
theorem dX35_greater_24 : decode cX35_greater 24 = .ok (.iconst 0, 1) := dc_3 (by decide +kernel)
theorem dX35_greater_25 : decode cX35_greater 25 = .ok (.putfield 954, 3) := dc_181 (a := 3) (b := 186) (n := 954) (by decide +kernel)
theorem dX35_greater_28 : decode cX35_greater 28 = .ok (.lload_n 3, 1) := dc_33 (by decide +kernel)
theorem dX35_greater_29 : decode cX35_greater 29 = .ok (.lload_n 1, 1) := dc_31 (by decide +kernel)
theorem dX35_greater_30 : decode cX35_greater 30 = .ok (.lcmp, 1) := dc_148 (by decide +kernel)
theorem dX35_greater_31 : decode cX35_greater 31 = .ok (.ifCond .le 7, 3) := dc_158 (a := 0) (b := 7) (v := 7) (by decide +kernel)
theorem dX35_greater_34 : decode cX35_greater 34 = .ok (.lload_n 3, 1) := dc_33 (by decide +kernel)
theorem dX35_greater_35 : decode cX35_greater 35 = .ok (.goto 4, 3) := dc_167 (a := 0) (b := 4) (v := 4) (by decide +kernel)
theorem dX35_greater_38 : decode cX35_greater 38 = .ok (.lload_n 1, 1) := dc_31 (by decide +kernel)
theorem dX35_greater_39 : decode cX35_greater 39 = .ok (.lreturn, 1) := dc_173 (by decide +kernel)
def fX35_greater_b39 (s0 : Int64) (h : eH) : Option (Int64 × eH) :=
  some (s0, h)
theorem pX35_greater_b39 {w : eW} {d : Nat} (hd : 1 ≤ d + 1) {s0 : Int64} {h : eH} {q} (hf : fX35_greater_b39 s0 h = some q) : wp w (d + 1) YX35_greater 39 [none, none, none, none, none, none] [.long s0] h (e_is (e_rn c_J q)) := by
  unfold fX35_greater_b39 at hf
  cases hf
  exact w_lret dX35_greater_39 rfl rfl
def fX35_greater_b25 (l1 : Int64) (l3 : Int64) (s0 : Nat) (s1 : Int32) (h : eH) : Option (Int64 × eH) :=
  (p_Z 34 h s0 78 s1).bind fun h1 =>
  if (lg_cmp l3 l1) ≤ 0 then
    fX35_greater_b39 l1 h1
  else
    fX35_greater_b39 l3 h1
theorem pX35_greater_b25 {w : eW} {d : Nat} (hd : 1 ≤ d + 1) {l1 : Int64} {l3 : Int64} {s0 : Nat} {s1 : Int32} {h : eH} {q} (hf : fX35_greater_b25 l1 l3 s0 s1 h = some q) : wp w (d + 1) YX35_greater 25 [none, some (.long l1), none, some (.long l3), none, none] [.int s1, .ref s0] h (e_is (e_rn c_J q)) := by
  unfold fX35_greater_b25 at hf
  obtain ⟨h1, b2, hf⟩ := Option.bind_eq_some_iff.mp hf
  refine SX35_954 b2 dX35_greater_25 rfl ?_
  refine w_lload_n dX35_greater_28 rfl rfl ?_
  refine w_lload_n dX35_greater_29 rfl rfl ?_
  refine w_lcmp dX35_greater_30 ?_
  refine w_if_le 38 dX35_greater_31 (by decide) (fun c3 => ?_) (fun c3 => ?_)
  · replace hf := (if_pos (show (lg_cmp l3 l1) ≤ 0 from c3)).symm.trans hf
    refine w_lload_n dX35_greater_38 rfl rfl ?_
    exact (pX35_greater_b39 hd hf).to trivial
  · replace hf := (if_neg (show ¬ ((lg_cmp l3 l1) ≤ 0) from c3)).symm.trans hf
    refine w_lload_n dX35_greater_34 rfl rfl ?_
    refine w_goto 39 dX35_greater_35 (by decide) ?_
    exact (pX35_greater_b39 hd hf).to trivial
def fX35_greater_b20 (l1 : Int64) (l3 : Int64) (s0 : Nat) (h : eH) : Option (Int64 × eH) :=
  fX35_greater_b25 l1 l3 s0 (1 : Int32) h
theorem pX35_greater_b20 {w : eW} {d : Nat} (hd : 1 ≤ d + 1) {l1 : Int64} {l3 : Int64} {s0 : Nat} {h : eH} {q} (hf : fX35_greater_b20 l1 l3 s0 h = some q) : wp w (d + 1) YX35_greater 20 [none, some (.long l1), none, some (.long l3), none, none] [.ref s0] h (e_is (e_rn c_J q)) := by
  unfold fX35_greater_b20 at hf
  refine w_iconst dX35_greater_20 (v := 1) (by decide) ?_
  refine w_goto 25 dX35_greater_21 (by decide) ?_
  exact (pX35_greater_b25 hd hf).to ⟨rfl, rfl, trivial⟩
def fX35_greater_b24 (l1 : Int64) (l3 : Int64) (s0 : Nat) (h : eH) : Option (Int64 × eH) :=
  fX35_greater_b25 l1 l3 s0 (0 : Int32) h
theorem pX35_greater_b24 {w : eW} {d : Nat} (hd : 1 ≤ d + 1) {l1 : Int64} {l3 : Int64} {s0 : Nat} {h : eH} {q} (hf : fX35_greater_b24 l1 l3 s0 h = some q) : wp w (d + 1) YX35_greater 24 [none, some (.long l1), none, some (.long l3), none, none] [.ref s0] h (e_is (e_rn c_J q)) := by
  unfold fX35_greater_b24 at hf
  refine w_iconst dX35_greater_24 (v := 0) (by decide) ?_
  exact (pX35_greater_b25 hd hf).to ⟨rfl, rfl, trivial⟩
def fX35_greater (this : Nat) (p0 : Int64) (p1 : Int64) (p2 : Int32) (h : eH) : Option (Int64 × eH) :=
  (g_I 34 h this 78).bind fun x1 =>
  if x1 = 0 then
    fX35_greater_b24 p0 p1 this h
  else
    if p2 = 0 then
      fX35_greater_b20 p0 p1 this h
    else
      (fX35_isSize p1 h).bind fun q5 =>
      if q5.1 = 0 then
        fX35_greater_b24 p0 p1 this q5.2
      else
        fX35_greater_b20 p0 p1 this q5.2
theorem pX35_greater {w : eW} {d : Nat} (hd : 1 ≤ d) {this : Nat} {p0 : Int64} {p1 : Int64} {p2 : Int32} {h : eH} {q} (hf : fX35_greater this p0 p1 p2 h = some q) : wm w d YX35_greater [.ref this, .long p0, .long p1, .int p2] h (e_is (e_rn c_J q)) := by
  obtain ⟨d, rfl⟩ : ∃ e, d = e + 1 := ⟨d - 1, by omega⟩
  show wp w (d + 1) YX35_greater 0 [some (.ref this), some (.long p0), none, some (.long p1), none, some (.int p2)] [] h _
  unfold fX35_greater at hf
  refine w_aload_n dX35_greater_0 rfl rfl ?_
  refine w_aload_n dX35_greater_1 rfl rfl ?_
  obtain ⟨x1, b2, hf⟩ := Option.bind_eq_some_iff.mp hf
  refine GX35_954 b2 dX35_greater_2 rfl ?_
  refine w_if_eq 24 dX35_greater_5 (by decide) (fun c3 => ?_) (fun c3 => ?_)
  · replace hf := (if_pos (show x1 = 0 from c3)).symm.trans hf
    exact (pX35_greater_b24 hd hf).to ⟨rfl, rfl, trivial⟩
  · replace hf := (if_neg (show ¬ (x1 = 0) from c3)).symm.trans hf
    refine w_iload dX35_greater_8 rfl ?_
    refine w_if_eq 20 dX35_greater_10 (by decide) (fun c4 => ?_) (fun c4 => ?_)
    · replace hf := (if_pos (show p2 = 0 from c4)).symm.trans hf
      exact (pX35_greater_b20 hd hf).to ⟨rfl, rfl, trivial⟩
    · replace hf := (if_neg (show ¬ (p2 = 0) from c4)).symm.trans hf
      refine w_lload_n dX35_greater_13 rfl rfl ?_
      refine x_cnI hf (e_stS (Yc := YX35_isSize) (av := [.long p1]) (st := [.ref this]) dX35_greater_14 q5412 mX35_isSize) mX35_isSize.2.2.1 mX35_isSize.2.2.2.2.1 (Nat.le_of_ble_eq_true rfl) (Nat.le_of_ble_eq_true rfl) (fun q hq => pX35_isSize (by omega) hq) (fun q5 hf => ?_)
      refine w_if_eq 24 dX35_greater_17 (by decide) (fun c6 => ?_) (fun c6 => ?_)
      · replace hf := (if_pos (show q5.1 = 0 from c6)).symm.trans hf
        exact (pX35_greater_b24 hd hf).to ⟨rfl, rfl, trivial⟩
      · replace hf := (if_neg (show ¬ (q5.1 = 0) from c6)).symm.trans hf
        exact (pX35_greater_b20 hd hf).to ⟨rfl, rfl, trivial⟩
abbrev cX35_addSolid : ByteArray := prog_37_method_137_code
def yX35_addSolid : MethodName := ⟨RX35, "addSolid", "([IIZ)V"⟩
def YX35_addSolid : eY := (yX35_addSolid, cX35_addSolid, 5, none, [])
theorem mX35_addSolid : e_mv YX35_addSolid RX35 3 := ⟨q5552, qs330, q5553, by decide, by decide +kernel, (e_sig (by decide +kernel))⟩
theorem dX35_addSolid_0 : decode cX35_addSolid 0 = .ok (.aload_n 1, 1) := dc_43 (by decide +kernel)
theorem dX35_addSolid_1 : decode cX35_addSolid 1 = .ok (.iload_n 2, 1) := dc_28 (by decide +kernel)
theorem dX35_addSolid_2 : decode cX35_addSolid 2 = .ok (.iaload, 1) := dc_46 (by decide +kernel)
theorem dX35_addSolid_3 : decode cX35_addSolid 3 = .ok (.iconst 5, 1) := dc_8 (by decide +kernel)
theorem dX35_addSolid_4 : decode cX35_addSolid 4 = .ok (.if_icmp .ne 11, 3) := dc_160 (a := 0) (b := 11) (v := 11) (by decide +kernel)
theorem dX35_addSolid_7 : decode cX35_addSolid 7 = .ok (.aload_n 1, 1) := dc_43 (by decide +kernel)
theorem dX35_addSolid_8 : decode cX35_addSolid 8 = .ok (.iload_n 2, 1) := dc_28 (by decide +kernel)
theorem dX35_addSolid_9 : decode cX35_addSolid 9 = .ok (.iconst 2, 1) := dc_5 (by decide +kernel)
theorem dX35_addSolid_10 : decode cX35_addSolid 10 = .ok (.iadd, 1) := dc_96 (by decide +kernel)
theorem dX35_addSolid_11 : decode cX35_addSolid 11 = .ok (.iaload, 1) := dc_46 (by decide +kernel)
theorem dX35_addSolid_12 : decode cX35_addSolid 12 = .ok (.goto 4, 3) := dc_167 (a := 0) (b := 4) (v := 4) (by decide +kernel)
theorem dX35_addSolid_15 : decode cX35_addSolid 15 = .ok (.iconst 0, 1) := dc_3 (by decide +kernel)
theorem dX35_addSolid_16 : decode cX35_addSolid 16 = .ok (.istore 4, 2) := dc_54 (a := 4) (by decide +kernel)
theorem dX35_addSolid_18 : decode cX35_addSolid 18 = .ok (.iload_n 3, 1) := dc_29 (by decide +kernel)
theorem dX35_addSolid_19 : decode cX35_addSolid 19 = .ok (.ifCond .eq 89, 3) := dc_153 (a := 0) (b := 89) (v := 89) (by decide +kernel)
theorem dX35_addSolid_22 : decode cX35_addSolid 22 = .ok (.aload_n 0, 1) := dc_42 (by decide +kernel)
theorem dX35_addSolid_23 : decode cX35_addSolid 23 = .ok (.aload_n 0, 1) := dc_42 (by decide +kernel)
theorem dX35_addSolid_24 : decode cX35_addSolid 24 = .ok (.getfield 957, 3) := dc_180 (a := 3) (b := 189) (n := 957) (by decide +kernel)
theorem dX35_addSolid_27 : decode cX35_addSolid 27 = .ok (.invokevirtual 969, 3) := dc_182 (a := 3) (b := 201) (n := 969) (by decide +kernel)
theorem dX35_addSolid_30 : decode cX35_addSolid 30 = .ok (.aload_n 0, 1) := dc_42 (by decide +kernel)
theorem dX35_addSolid_31 : decode cX35_addSolid 31 = .ok (.aload_n 0, 1) := dc_42 (by decide +kernel)
theorem dX35_addSolid_32 : decode cX35_addSolid 32 = .ok (.aload_n 1, 1) := dc_43 (by decide +kernel)
theorem dX35_addSolid_33 : decode cX35_addSolid 33 = .ok (.iload_n 2, 1) := dc_28 (by decide +kernel)
theorem dX35_addSolid_34 : decode cX35_addSolid 34 = .ok (.iconst 1, 1) := dc_4 (by decide +kernel)
theorem dX35_addSolid_35 : decode cX35_addSolid 35 = .ok (.invokevirtual 972, 3) := dc_182 (a := 3) (b := 204) (n := 972) (by decide +kernel)
theorem dX35_addSolid_38 : decode cX35_addSolid 38 = .ok (.i2l, 1) := dc_133 (by decide +kernel)
theorem dX35_addSolid_39 : decode cX35_addSolid 39 = .ok (.invokevirtual 969, 3) := dc_182 (a := 3) (b := 201) (n := 969) (by decide +kernel)
theorem dX35_addSolid_42 : decode cX35_addSolid 42 = .ok (.aload_n 0, 1) := dc_42 (by decide +kernel)
theorem dX35_addSolid_43 : decode cX35_addSolid 43 = .ok (.aload_n 0, 1) := dc_42 (by decide +kernel)
theorem dX35_addSolid_44 : decode cX35_addSolid 44 = .ok (.aload_n 1, 1) := dc_43 (by decide +kernel)
theorem dX35_addSolid_45 : decode cX35_addSolid 45 = .ok (.iload_n 2, 1) := dc_28 (by decide +kernel)
theorem dX35_addSolid_46 : decode cX35_addSolid 46 = .ok (.iconst 2, 1) := dc_5 (by decide +kernel)
theorem dX35_addSolid_47 : decode cX35_addSolid 47 = .ok (.invokevirtual 972, 3) := dc_182 (a := 3) (b := 204) (n := 972) (by decide +kernel)
theorem dX35_addSolid_50 : decode cX35_addSolid 50 = .ok (.i2l, 1) := dc_133 (by decide +kernel)
theorem dX35_addSolid_51 : decode cX35_addSolid 51 = .ok (.putfield 957, 3) := dc_181 (a := 3) (b := 189) (n := 957) (by decide +kernel)
theorem dX35_addSolid_54 : decode cX35_addSolid 54 = .ok (.aload_n 0, 1) := dc_42 (by decide +kernel)
theorem dX35_addSolid_55 : decode cX35_addSolid 55 = .ok (.aload_n 0, 1) := dc_42 (by decide +kernel)
theorem dX35_addSolid_56 : decode cX35_addSolid 56 = .ok (.aload_n 1, 1) := dc_43 (by decide +kernel)
theorem dX35_addSolid_57 : decode cX35_addSolid 57 = .ok (.iload_n 2, 1) := dc_28 (by decide +kernel)
theorem dX35_addSolid_58 : decode cX35_addSolid 58 = .ok (.iconst 0, 1) := dc_3 (by decide +kernel)
theorem dX35_addSolid_59 : decode cX35_addSolid 59 = .ok (.invokevirtual 976, 3) := dc_182 (a := 3) (b := 208) (n := 976) (by decide +kernel)
theorem dX35_addSolid_62 : decode cX35_addSolid 62 = .ok (.ifCond .eq 10, 3) := dc_153 (a := 0) (b := 10) (v := 10) (by decide +kernel)
theorem dX35_addSolid_65 : decode cX35_addSolid 65 = .ok (.aload_n 0, 1) := dc_42 (by decide +kernel)
theorem dX35_addSolid_66 : decode cX35_addSolid 66 = .ok (.getfield 960, 3) := dc_180 (a := 3) (b := 192) (n := 960) (by decide +kernel)
theorem dX35_addSolid_69 : decode cX35_addSolid 69 = .ok (.goto 35, 3) := dc_167 (a := 0) (b := 35) (v := 35) (by decide +kernel)
theorem dX35_addSolid_72 : decode cX35_addSolid 72 = .ok (.aload_n 0, 1) := dc_42 (by decide +kernel)
theorem dX35_addSolid_73 : decode cX35_addSolid 73 = .ok (.aload_n 0, 1) := dc_42 (by decide +kernel)
theorem dX35_addSolid_74 : decode cX35_addSolid 74 = .ok (.getfield 960, 3) := dc_180 (a := 3) (b := 192) (n := 960) (by decide +kernel)
theorem dX35_addSolid_77 : decode cX35_addSolid 77 = .ok (.aload_n 0, 1) := dc_42 (by decide +kernel)
theorem dX35_addSolid_78 : decode cX35_addSolid 78 = .ok (.aload_n 1, 1) := dc_43 (by decide +kernel)
theorem dX35_addSolid_79 : decode cX35_addSolid 79 = .ok (.iload_n 2, 1) := dc_28 (by decide +kernel)
theorem dX35_addSolid_80 : decode cX35_addSolid 80 = .ok (.iconst 0, 1) := dc_3 (by decide +kernel)
theorem dX35_addSolid_81 : decode cX35_addSolid 81 = .ok (.invokevirtual 972, 3) := dc_182 (a := 3) (b := 204) (n := 972) (by decide +kernel)
theorem dX35_addSolid_84 : decode cX35_addSolid 84 = .ok (.i2l, 1) := dc_133 (by decide +kernel)
theorem dX35_addSolid_85 : decode cX35_addSolid 85 = .ok (.iload 4, 2) := dc_21 (a := 4) (by decide +kernel)
theorem dX35_addSolid_87 : decode cX35_addSolid 87 = .ok (.i2l, 1) := dc_133 (by decide +kernel)
theorem dX35_addSolid_88 : decode cX35_addSolid 88 = .ok (.ladd, 1) := dc_97 (by decide +kernel)
theorem dX35_addSolid_89 : decode cX35_addSolid 89 = .ok (.aload_n 1, 1) := dc_43 (by decide +kernel)
theorem dX35_addSolid_90 : decode cX35_addSolid 90 = .ok (.iload_n 2, 1) := dc_28 (by decide +kernel)
theorem dX35_addSolid_91 : decode cX35_addSolid 91 = .ok (.iaload, 1) := dc_46 (by decide +kernel)
theorem dX35_addSolid_92 : decode cX35_addSolid 92 = .ok (.iconst 5, 1) := dc_8 (by decide +kernel)
theorem dX35_addSolid_93 : decode cX35_addSolid 93 = .ok (.if_icmp .ne 7, 3) := dc_160 (a := 0) (b := 7) (v := 7) (by decide +kernel)
theorem dX35_addSolid_96 : decode cX35_addSolid 96 = .ok (.iconst 1, 1) := dc_4 (by decide +kernel)
theorem dX35_addSolid_97 : decode cX35_addSolid 97 = .ok (.goto 4, 3) := dc_167 (a := 0) (b := 4) (v := 4) (by decide +kernel)
theorem dX35_addSolid_100 : decode cX35_addSolid 100 = .ok (.iconst 0, 1) := dc_3 (by decide +kernel)
theorem dX35_addSolid_101 : decode cX35_addSolid 101 = .ok (.invokevirtual 980, 3) := dc_182 (a := 3) (b := 212) (n := 980) (by decide +kernel)
theorem dX35_addSolid_104 : decode cX35_addSolid 104 = .ok (.putfield 960, 3) := dc_181 (a := 3) (b := 192) (n := 960) (by decide +kernel)
theorem dX35_addSolid_107 : decode cX35_addSolid 107 = .ok (.return_, 1) := dc_177 (by decide +kernel)
theorem dX35_addSolid_108 : decode cX35_addSolid 108 = .ok (.aload_n 0, 1) := dc_42 (by decide +kernel)
theorem dX35_addSolid_109 : decode cX35_addSolid 109 = .ok (.aload_n 0, 1) := dc_42 (by decide +kernel)
theorem dX35_addSolid_110 : decode cX35_addSolid 110 = .ok (.aload_n 1, 1) := dc_43 (by decide +kernel)
theorem dX35_addSolid_111 : decode cX35_addSolid 111 = .ok (.iload_n 2, 1) := dc_28 (by decide +kernel)
theorem dX35_addSolid_112 : decode cX35_addSolid 112 = .ok (.iconst 0, 1) := dc_3 (by decide +kernel)
theorem dX35_addSolid_113 : decode cX35_addSolid 113 = .ok (.invokevirtual 972, 3) := dc_182 (a := 3) (b := 204) (n := 972) (by decide +kernel)
theorem dX35_addSolid_116 : decode cX35_addSolid 116 = .ok (.i2l, 1) := dc_133 (by decide +kernel)
theorem dX35_addSolid_117 : decode cX35_addSolid 117 = .ok (.invokevirtual 969, 3) := dc_182 (a := 3) (b := 201) (n := 969) (by decide +kernel)
theorem dX35_addSolid_120 : decode cX35_addSolid 120 = .ok (.aload_n 0, 1) := dc_42 (by decide +kernel)
theorem dX35_addSolid_121 : decode cX35_addSolid 121 = .ok (.aload_n 0, 1) := dc_42 (by decide +kernel)
theorem dX35_addSolid_122 : decode cX35_addSolid 122 = .ok (.aload_n 1, 1) := dc_43 (by decide +kernel)
theorem dX35_addSolid_123 : decode cX35_addSolid 123 = .ok (.iload_n 2, 1) := dc_28 (by decide +kernel)
theorem dX35_addSolid_124 : decode cX35_addSolid 124 = .ok (.iconst 1, 1) := dc_4 (by decide +kernel)
theorem dX35_addSolid_125 : decode cX35_addSolid 125 = .ok (.invokevirtual 976, 3) := dc_182 (a := 3) (b := 208) (n := 976) (by decide +kernel)
theorem dX35_addSolid_128 : decode cX35_addSolid 128 = .ok (.ifCond .eq 10, 3) := dc_153 (a := 0) (b := 10) (v := 10) (by decide +kernel)
theorem dX35_addSolid_131 : decode cX35_addSolid 131 = .ok (.aload_n 0, 1) := dc_42 (by decide +kernel)
theorem dX35_addSolid_132 : decode cX35_addSolid 132 = .ok (.getfield 960, 3) := dc_180 (a := 3) (b := 192) (n := 960) (by decide +kernel)
theorem dX35_addSolid_135 : decode cX35_addSolid 135 = .ok (.goto 35, 3) := dc_167 (a := 0) (b := 35) (v := 35) (by decide +kernel)
theorem dX35_addSolid_138 : decode cX35_addSolid 138 = .ok (.aload_n 0, 1) := dc_42 (by decide +kernel)
theorem dX35_addSolid_139 : decode cX35_addSolid 139 = .ok (.aload_n 0, 1) := dc_42 (by decide +kernel)
theorem dX35_addSolid_140 : decode cX35_addSolid 140 = .ok (.getfield 960, 3) := dc_180 (a := 3) (b := 192) (n := 960) (by decide +kernel)
theorem dX35_addSolid_143 : decode cX35_addSolid 143 = .ok (.aload_n 0, 1) := dc_42 (by decide +kernel)
theorem dX35_addSolid_144 : decode cX35_addSolid 144 = .ok (.aload_n 1, 1) := dc_43 (by decide +kernel)
theorem dX35_addSolid_145 : decode cX35_addSolid 145 = .ok (.iload_n 2, 1) := dc_28 (by decide +kernel)
theorem dX35_addSolid_146 : decode cX35_addSolid 146 = .ok (.iconst 1, 1) := dc_4 (by decide +kernel)
theorem dX35_addSolid_147 : decode cX35_addSolid 147 = .ok (.invokevirtual 972, 3) := dc_182 (a := 3) (b := 204) (n := 972) (by decide +kernel)
theorem dX35_addSolid_150 : decode cX35_addSolid 150 = .ok (.i2l, 1) := dc_133 (by decide +kernel)
theorem dX35_addSolid_151 : decode cX35_addSolid 151 = .ok (.iload 4, 2) := dc_21 (a := 4) (by decide +kernel)
theorem dX35_addSolid_153 : decode cX35_addSolid 153 = .ok (.i2l, 1) := dc_133 (by decide +kernel)
theorem dX35_addSolid_154 : decode cX35_addSolid 154 = .ok (.lsub, 1) := dc_101 (by decide +kernel)
theorem dX35_addSolid_155 : decode cX35_addSolid 155 = .ok (.aload_n 1, 1) := dc_43 (by decide +kernel)
theorem dX35_addSolid_156 : decode cX35_addSolid 156 = .ok (.iload_n 2, 1) := dc_28 (by decide +kernel)
theorem dX35_addSolid_157 : decode cX35_addSolid 157 = .ok (.iaload, 1) := dc_46 (by decide +kernel)
theorem dX35_addSolid_158 : decode cX35_addSolid 158 = .ok (.iconst 5, 1) := dc_8 (by decide +kernel)
theorem dX35_addSolid_159 : decode cX35_addSolid 159 = .ok (.if_icmp .ne 7, 3) := dc_160 (a := 0) (b := 7) (v := 7) (by decide +kernel)
theorem dX35_addSolid_162 : decode cX35_addSolid 162 = .ok (.iconst 1, 1) := dc_4 (by decide +kernel)
theorem dX35_addSolid_163 : decode cX35_addSolid 163 = .ok (.goto 4, 3) := dc_167 (a := 0) (b := 4) (v := 4) (by decide +kernel)
theorem dX35_addSolid_166 : decode cX35_addSolid 166 = .ok (.iconst 0, 1) := dc_3 (by decide +kernel)
theorem dX35_addSolid_167 : decode cX35_addSolid 167 = .ok (.invokevirtual 980, 3) := dc_182 (a := 3) (b := 212) (n := 980) (by decide +kernel)
theorem dX35_addSolid_170 : decode cX35_addSolid 170 = .ok (.putfield 960, 3) := dc_181 (a := 3) (b := 192) (n := 960) (by decide +kernel)
theorem dX35_addSolid_173 : decode cX35_addSolid 173 = .ok (.aload_n 0, 1) := dc_42 (by decide +kernel)
theorem dX35_addSolid_174 : decode cX35_addSolid 174 = .ok (.aload_n 0, 1) := dc_42 (by decide +kernel)
theorem dX35_addSolid_175 : decode cX35_addSolid 175 = .ok (.aload_n 1, 1) := dc_43 (by decide +kernel)
theorem dX35_addSolid_176 : decode cX35_addSolid 176 = .ok (.iload_n 2, 1) := dc_28 (by decide +kernel)
theorem dX35_addSolid_177 : decode cX35_addSolid 177 = .ok (.iconst 2, 1) := dc_5 (by decide +kernel)
theorem dX35_addSolid_178 : decode cX35_addSolid 178 = .ok (.invokevirtual 976, 3) := dc_182 (a := 3) (b := 208) (n := 976) (by decide +kernel)
theorem dX35_addSolid_181 : decode cX35_addSolid 181 = .ok (.ifCond .eq 10, 3) := dc_153 (a := 0) (b := 10) (v := 10) (by decide +kernel)
theorem dX35_addSolid_184 : decode cX35_addSolid 184 = .ok (.aload_n 0, 1) := dc_42 (by decide +kernel)
theorem dX35_addSolid_185 : decode cX35_addSolid 185 = .ok (.getfield 963, 3) := dc_180 (a := 3) (b := 195) (n := 963) (by decide +kernel)
theorem dX35_addSolid_188 : decode cX35_addSolid 188 = .ok (.goto 35, 3) := dc_167 (a := 0) (b := 35) (v := 35) (by decide +kernel)
theorem dX35_addSolid_191 : decode cX35_addSolid 191 = .ok (.aload_n 0, 1) := dc_42 (by decide +kernel)
theorem dX35_addSolid_192 : decode cX35_addSolid 192 = .ok (.aload_n 0, 1) := dc_42 (by decide +kernel)
theorem dX35_addSolid_193 : decode cX35_addSolid 193 = .ok (.getfield 963, 3) := dc_180 (a := 3) (b := 195) (n := 963) (by decide +kernel)
theorem dX35_addSolid_196 : decode cX35_addSolid 196 = .ok (.aload_n 0, 1) := dc_42 (by decide +kernel)
theorem dX35_addSolid_197 : decode cX35_addSolid 197 = .ok (.aload_n 1, 1) := dc_43 (by decide +kernel)
theorem dX35_addSolid_198 : decode cX35_addSolid 198 = .ok (.iload_n 2, 1) := dc_28 (by decide +kernel)
theorem dX35_addSolid_199 : decode cX35_addSolid 199 = .ok (.iconst 2, 1) := dc_5 (by decide +kernel)
theorem dX35_addSolid_200 : decode cX35_addSolid 200 = .ok (.invokevirtual 972, 3) := dc_182 (a := 3) (b := 204) (n := 972) (by decide +kernel)
theorem dX35_addSolid_203 : decode cX35_addSolid 203 = .ok (.i2l, 1) := dc_133 (by decide +kernel)
theorem dX35_addSolid_204 : decode cX35_addSolid 204 = .ok (.iload 4, 2) := dc_21 (a := 4) (by decide +kernel)
theorem dX35_addSolid_206 : decode cX35_addSolid 206 = .ok (.i2l, 1) := dc_133 (by decide +kernel)
theorem dX35_addSolid_207 : decode cX35_addSolid 207 = .ok (.ladd, 1) := dc_97 (by decide +kernel)
theorem dX35_addSolid_208 : decode cX35_addSolid 208 = .ok (.aload_n 1, 1) := dc_43 (by decide +kernel)
theorem dX35_addSolid_209 : decode cX35_addSolid 209 = .ok (.iload_n 2, 1) := dc_28 (by decide +kernel)
theorem dX35_addSolid_210 : decode cX35_addSolid 210 = .ok (.iaload, 1) := dc_46 (by decide +kernel)
theorem dX35_addSolid_211 : decode cX35_addSolid 211 = .ok (.iconst 5, 1) := dc_8 (by decide +kernel)
theorem dX35_addSolid_212 : decode cX35_addSolid 212 = .ok (.if_icmp .ne 7, 3) := dc_160 (a := 0) (b := 7) (v := 7) (by decide +kernel)
theorem dX35_addSolid_215 : decode cX35_addSolid 215 = .ok (.iconst 1, 1) := dc_4 (by decide +kernel)
theorem dX35_addSolid_216 : decode cX35_addSolid 216 = .ok (.goto 4, 3) := dc_167 (a := 0) (b := 4) (v := 4) (by decide +kernel)
theorem dX35_addSolid_219 : decode cX35_addSolid 219 = .ok (.iconst 0, 1) := dc_3 (by decide +kernel)
theorem dX35_addSolid_220 : decode cX35_addSolid 220 = .ok (.invokevirtual 980, 3) := dc_182 (a := 3) (b := 212) (n := 980) (by decide +kernel)
theorem dX35_addSolid_223 : decode cX35_addSolid 223 = .ok (.putfield 963, 3) := dc_181 (a := 3) (b := 195) (n := 963) (by decide +kernel)
theorem dX35_addSolid_226 : decode cX35_addSolid 226 = .ok (.return_, 1) := dc_177 (by decide +kernel)
theorem GX35_957 {w : eW} {d : Nat} {Y : eY} {pc : Nat} {ls : eL} {st : List Value} {h : eH} {Q : eO → eH → Prop} {a : Nat} {x : Int64} (hf : g_J 34 h a 80 = some x) (hd : decode Y.2.1 pc = .ok (.getfield 957, 3)) (hY : Y.1.cls = RX35) (kk : wp w d Y (pc + 3) ls (.long x :: st) h Q) : wp w d Y pc ls (.ref a :: st) h Q := x_gJ (ci := 34) (k := 80) hf hd rfl (by decide) (by rw [hY]; exact q4581) kk
theorem GX35_960 {w : eW} {d : Nat} {Y : eY} {pc : Nat} {ls : eL} {st : List Value} {h : eH} {Q : eO → eH → Prop} {a : Nat} {x : Int64} (hf : g_J 34 h a 81 = some x) (hd : decode Y.2.1 pc = .ok (.getfield 960, 3)) (hY : Y.1.cls = RX35) (kk : wp w d Y (pc + 3) ls (.long x :: st) h Q) : wp w d Y pc ls (.ref a :: st) h Q := x_gJ (ci := 34) (k := 81) hf hd rfl (by decide) (by rw [hY]; exact q4582) kk
theorem GX35_963 {w : eW} {d : Nat} {Y : eY} {pc : Nat} {ls : eL} {st : List Value} {h : eH} {Q : eO → eH → Prop} {a : Nat} {x : Int64} (hf : g_J 34 h a 82 = some x) (hd : decode Y.2.1 pc = .ok (.getfield 963, 3)) (hY : Y.1.cls = RX35) (kk : wp w d Y (pc + 3) ls (.long x :: st) h Q) : wp w d Y pc ls (.ref a :: st) h Q := x_gJ (ci := 34) (k := 82) hf hd rfl (by decide) (by rw [hY]; exact q4583) kk
theorem SX35_957 {w : eW} {d : Nat} {Y : eY} {pc : Nat} {ls : eL} {st : List Value} {h : eH} {Q : eO → eH → Prop} {a : Nat} {h' : eH} {x : Int64} (hf : p_V 34 h a 80 (.long x) = some h') (hd : decode Y.2.1 pc = .ok (.putfield 957, 3)) (hY : Y.1.cls = RX35) (kk : wp w d Y (pc + 3) ls st h' Q) : wp w d Y pc ls (.long x :: .ref a :: st) h Q := x_pJ (ci := 34) (k := 80) hf hd rfl (by decide) (by rw [hY]; exact q4581) rfl rfl kk
theorem SX35_960 {w : eW} {d : Nat} {Y : eY} {pc : Nat} {ls : eL} {st : List Value} {h : eH} {Q : eO → eH → Prop} {a : Nat} {h' : eH} {x : Int64} (hf : p_V 34 h a 81 (.long x) = some h') (hd : decode Y.2.1 pc = .ok (.putfield 960, 3)) (hY : Y.1.cls = RX35) (kk : wp w d Y (pc + 3) ls st h' Q) : wp w d Y pc ls (.long x :: .ref a :: st) h Q := x_pJ (ci := 34) (k := 81) hf hd rfl (by decide) (by rw [hY]; exact q4582) rfl rfl kk
theorem SX35_963 {w : eW} {d : Nat} {Y : eY} {pc : Nat} {ls : eL} {st : List Value} {h : eH} {Q : eO → eH → Prop} {a : Nat} {h' : eH} {x : Int64} (hf : p_V 34 h a 82 (.long x) = some h') (hd : decode Y.2.1 pc = .ok (.putfield 963, 3)) (hY : Y.1.cls = RX35) (kk : wp w d Y (pc + 3) ls st h' Q) : wp w d Y pc ls (.long x :: .ref a :: st) h Q := x_pJ (ci := 34) (k := 82) hf hd rfl (by decide) (by rw [hY]; exact q4583) rfl rfl kk
def fX35_addSolid_b104 (s0 : Nat) (s1 : Int64) (h : eH) : Option (Unit × eH) :=
  (p_V 34 h s0 81 (.long s1)).bind fun h1 =>
  some ((), h1)
theorem pX35_addSolid_b104 {w : eW} {d : Nat} (hd : 2 ≤ d + 1) {s0 : Nat} {s1 : Int64} {h : eH} {q} (hf : fX35_addSolid_b104 s0 s1 h = some q) : wp w (d + 1) YX35_addSolid 104 [none, none, none, none, none] [.long s1, .ref s0] h (e_is (e_rn c_V q)) := by
  unfold fX35_addSolid_b104 at hf
  obtain ⟨h1, b2, hf⟩ := Option.bind_eq_some_iff.mp hf
  refine SX35_960 b2 dX35_addSolid_104 rfl ?_
  cases hf
  exact w_vret dX35_addSolid_107 rfl rfl
def fX35_addSolid_b101 (s0 : Nat) (s1 : Nat) (s2 : Int64) (s3 : Int64) (s4 : Int32) (h : eH) : Option (Unit × eH) :=
  (k_ok 34 h s1).bind fun _ =>
  (fX35_greater s1 s2 s3 s4 h).bind fun q2 =>
  fX35_addSolid_b104 s0 q2.1 q2.2
theorem pX35_addSolid_b101 {w : eW} {d : Nat} (hd : 2 ≤ d + 1) {s0 : Nat} {s1 : Nat} {s2 : Int64} {s3 : Int64} {s4 : Int32} {h : eH} {q} (hf : fX35_addSolid_b101 s0 s1 s2 s3 s4 h = some q) : wp w (d + 1) YX35_addSolid 101 [none, none, none, none, none] [.int s4, .long s3, .long s2, .ref s1, .ref s0] h (e_is (e_rn c_V q)) := by
  unfold fX35_addSolid_b101 at hf
  obtain ⟨_, b1, hf⟩ := Option.bind_eq_some_iff.mp hf
  refine x_cnJ hf (e_stV (Yc := YX35_greater) (ci := 34) (av := [.long s2, .long s3, .int s4]) (st := [.ref s0]) dX35_addSolid_101 q5567 mX35_greater rfl (k_ok_some b1).1 (k_ok_some b1).2) mX35_greater.2.2.1 mX35_greater.2.2.2.2.1 (Nat.le_of_ble_eq_true rfl) (Nat.le_of_ble_eq_true rfl) (fun q hq => pX35_greater (by omega) hq) (fun q2 hf => ?_)
  exact (pX35_addSolid_b104 hd hf).to trivial
def fX35_addSolid_b223 (s0 : Nat) (s1 : Int64) (h : eH) : Option (Unit × eH) :=
  (p_V 34 h s0 82 (.long s1)).bind fun h1 =>
  some ((), h1)
theorem pX35_addSolid_b223 {w : eW} {d : Nat} (hd : 2 ≤ d + 1) {s0 : Nat} {s1 : Int64} {h : eH} {q} (hf : fX35_addSolid_b223 s0 s1 h = some q) : wp w (d + 1) YX35_addSolid 223 [none, none, none, none, none] [.long s1, .ref s0] h (e_is (e_rn c_V q)) := by
  unfold fX35_addSolid_b223 at hf
  obtain ⟨h1, b2, hf⟩ := Option.bind_eq_some_iff.mp hf
  refine SX35_963 b2 dX35_addSolid_223 rfl ?_
  cases hf
  exact w_vret dX35_addSolid_226 rfl rfl
def fX35_addSolid_b220 (s0 : Nat) (s1 : Nat) (s2 : Int64) (s3 : Int64) (s4 : Int32) (h : eH) : Option (Unit × eH) :=
  (k_ok 34 h s1).bind fun _ =>
  (fX35_greater s1 s2 s3 s4 h).bind fun q2 =>
  fX35_addSolid_b223 s0 q2.1 q2.2
theorem pX35_addSolid_b220 {w : eW} {d : Nat} (hd : 2 ≤ d + 1) {s0 : Nat} {s1 : Nat} {s2 : Int64} {s3 : Int64} {s4 : Int32} {h : eH} {q} (hf : fX35_addSolid_b220 s0 s1 s2 s3 s4 h = some q) : wp w (d + 1) YX35_addSolid 220 [none, none, none, none, none] [.int s4, .long s3, .long s2, .ref s1, .ref s0] h (e_is (e_rn c_V q)) := by
  unfold fX35_addSolid_b220 at hf
  obtain ⟨_, b1, hf⟩ := Option.bind_eq_some_iff.mp hf
  refine x_cnJ hf (e_stV (Yc := YX35_greater) (ci := 34) (av := [.long s2, .long s3, .int s4]) (st := [.ref s0]) dX35_addSolid_220 q5567 mX35_greater rfl (k_ok_some b1).1 (k_ok_some b1).2) mX35_greater.2.2.1 mX35_greater.2.2.2.2.1 (Nat.le_of_ble_eq_true rfl) (Nat.le_of_ble_eq_true rfl) (fun q hq => pX35_greater (by omega) hq) (fun q2 hf => ?_)
  exact (pX35_addSolid_b223 hd hf).to trivial
def fX35_addSolid_b170 (l0 : Nat) (l1 : Nat) (l2 : Int32) (l4 : Int32) (s0 : Nat) (s1 : Int64) (h : eH) : Option (Unit × eH) :=
  (p_V 34 h s0 81 (.long s1)).bind fun h1 =>
  (k_ok 34 h1 l0).bind fun _ =>
  (fX35_isRunning l0 l1 l2 (2 : Int32) h1).bind fun q4 =>
  if q4.1 = 0 then
    (g_J 34 q4.2 l0 82).bind fun x6 =>
    (k_ok 34 q4.2 l0).bind fun _ =>
    (fX35_sizeOf l0 l1 l2 (2 : Int32) q4.2).bind fun q9 =>
    (r_I 100 q9.2 l1 l2).bind fun x10 =>
    if ¬ x10 = (5 : Int32) then
      fX35_addSolid_b220 l0 l0 x6 ((q9.1).toInt64 + (l4).toInt64) (0 : Int32) q9.2
    else
      fX35_addSolid_b220 l0 l0 x6 ((q9.1).toInt64 + (l4).toInt64) (1 : Int32) q9.2
  else
    (g_J 34 q4.2 l0 82).bind fun x13 =>
    fX35_addSolid_b223 l0 x13 q4.2
theorem pX35_addSolid_b170 {w : eW} {d : Nat} (hd : 2 ≤ d + 1) {l0 : Nat} {l1 : Nat} {l2 : Int32} {l4 : Int32} {s0 : Nat} {s1 : Int64} {h : eH} {q} (hf : fX35_addSolid_b170 l0 l1 l2 l4 s0 s1 h = some q) : wp w (d + 1) YX35_addSolid 170 [some (.ref l0), some (.ref l1), some (.int l2), none, some (.int l4)] [.long s1, .ref s0] h (e_is (e_rn c_V q)) := by
  unfold fX35_addSolid_b170 at hf
  obtain ⟨h1, b2, hf⟩ := Option.bind_eq_some_iff.mp hf
  refine SX35_960 b2 dX35_addSolid_170 rfl ?_
  refine w_aload_n dX35_addSolid_173 rfl rfl ?_
  refine w_aload_n dX35_addSolid_174 rfl rfl ?_
  refine w_aload_n dX35_addSolid_175 rfl rfl ?_
  refine w_iload_n dX35_addSolid_176 rfl rfl ?_
  refine w_iconst dX35_addSolid_177 (v := 2) (by decide) ?_
  obtain ⟨_, b3, hf⟩ := Option.bind_eq_some_iff.mp hf
  refine x_cnI hf (e_stV (Yc := YX35_isRunning) (ci := 34) (av := [.ref l1, .int l2, .int (2 : Int32)]) (st := [.ref l0]) dX35_addSolid_178 q5563 mX35_isRunning rfl (k_ok_some b3).1 (k_ok_some b3).2) mX35_isRunning.2.2.1 mX35_isRunning.2.2.2.2.1 (Nat.le_of_ble_eq_true rfl) (Nat.le_of_ble_eq_true rfl) (fun q hq => pX35_isRunning (by omega) hq) (fun q4 hf => ?_)
  refine w_if_eq 191 dX35_addSolid_181 (by decide) (fun c5 => ?_) (fun c5 => ?_)
  · replace hf := (if_pos (show q4.1 = 0 from c5)).symm.trans hf
    refine w_aload_n dX35_addSolid_191 rfl rfl ?_
    refine w_aload_n dX35_addSolid_192 rfl rfl ?_
    obtain ⟨x6, b7, hf⟩ := Option.bind_eq_some_iff.mp hf
    refine GX35_963 b7 dX35_addSolid_193 rfl ?_
    refine w_aload_n dX35_addSolid_196 rfl rfl ?_
    refine w_aload_n dX35_addSolid_197 rfl rfl ?_
    refine w_iload_n dX35_addSolid_198 rfl rfl ?_
    refine w_iconst dX35_addSolid_199 (v := 2) (by decide) ?_
    obtain ⟨_, b8, hf⟩ := Option.bind_eq_some_iff.mp hf
    refine x_cnI hf (e_stV (Yc := YX35_sizeOf) (ci := 34) (av := [.ref l1, .int l2, .int (2 : Int32)]) (st := [.long x6, .ref l0, .ref l0]) dX35_addSolid_200 q5558 mX35_sizeOf rfl (k_ok_some b8).1 (k_ok_some b8).2) mX35_sizeOf.2.2.1 mX35_sizeOf.2.2.2.2.1 (Nat.le_of_ble_eq_true rfl) (Nat.le_of_ble_eq_true rfl) (fun q hq => pX35_sizeOf (by omega) hq) (fun q9 hf => ?_)
    refine w_i2l dX35_addSolid_203 ?_
    refine w_iload dX35_addSolid_204 rfl ?_
    refine w_i2l dX35_addSolid_206 ?_
    refine w_ladd dX35_addSolid_207 ?_
    refine w_aload_n dX35_addSolid_208 rfl rfl ?_
    refine w_iload_n dX35_addSolid_209 rfl rfl ?_
    obtain ⟨x10, b11, hf⟩ := Option.bind_eq_some_iff.mp hf
    refine x_rI b11 dX35_addSolid_210 ?_
    refine w_iconst dX35_addSolid_211 (v := 5) (by decide) ?_
    refine w_icmp_ne 219 dX35_addSolid_212 (by decide) (fun c12 => ?_) (fun c12 => ?_)
    · replace hf := (if_pos (show ¬ x10 = (5 : Int32) from c12)).symm.trans hf
      refine w_iconst dX35_addSolid_219 (v := 0) (by decide) ?_
      exact (pX35_addSolid_b220 hd hf).to trivial
    · replace hf := (if_neg (show ¬ (¬ x10 = (5 : Int32)) from (fun z => z c12))).symm.trans hf
      refine w_iconst dX35_addSolid_215 (v := 1) (by decide) ?_
      refine w_goto 220 dX35_addSolid_216 (by decide) ?_
      exact (pX35_addSolid_b220 hd hf).to trivial
  · replace hf := (if_neg (show ¬ (q4.1 = 0) from c5)).symm.trans hf
    refine w_aload_n dX35_addSolid_184 rfl rfl ?_
    obtain ⟨x13, b14, hf⟩ := Option.bind_eq_some_iff.mp hf
    refine GX35_963 b14 dX35_addSolid_185 rfl ?_
    refine w_goto 223 dX35_addSolid_188 (by decide) ?_
    exact (pX35_addSolid_b223 hd hf).to trivial
def fX35_addSolid_b167 (l0 : Nat) (l1 : Nat) (l2 : Int32) (l4 : Int32) (s0 : Nat) (s1 : Nat) (s2 : Int64) (s3 : Int64) (s4 : Int32) (h : eH) : Option (Unit × eH) :=
  (k_ok 34 h s1).bind fun _ =>
  (fX35_greater s1 s2 s3 s4 h).bind fun q2 =>
  fX35_addSolid_b170 l0 l1 l2 l4 s0 q2.1 q2.2
theorem pX35_addSolid_b167 {w : eW} {d : Nat} (hd : 2 ≤ d + 1) {l0 : Nat} {l1 : Nat} {l2 : Int32} {l4 : Int32} {s0 : Nat} {s1 : Nat} {s2 : Int64} {s3 : Int64} {s4 : Int32} {h : eH} {q} (hf : fX35_addSolid_b167 l0 l1 l2 l4 s0 s1 s2 s3 s4 h = some q) : wp w (d + 1) YX35_addSolid 167 [some (.ref l0), some (.ref l1), some (.int l2), none, some (.int l4)] [.int s4, .long s3, .long s2, .ref s1, .ref s0] h (e_is (e_rn c_V q)) := by
  unfold fX35_addSolid_b167 at hf
  obtain ⟨_, b1, hf⟩ := Option.bind_eq_some_iff.mp hf
  refine x_cnJ hf (e_stV (Yc := YX35_greater) (ci := 34) (av := [.long s2, .long s3, .int s4]) (st := [.ref s0]) dX35_addSolid_167 q5567 mX35_greater rfl (k_ok_some b1).1 (k_ok_some b1).2) mX35_greater.2.2.1 mX35_greater.2.2.2.2.1 (Nat.le_of_ble_eq_true rfl) (Nat.le_of_ble_eq_true rfl) (fun q hq => pX35_greater (by omega) hq) (fun q2 hf => ?_)
  exact (pX35_addSolid_b170 hd hf).to ⟨rfl, rfl, rfl, rfl, trivial⟩
def fX35_addSolid_b16 (l0 : Nat) (l1 : Nat) (l2 : Int32) (l3 : Int32) (s0 : Int32) (h : eH) : Option (Unit × eH) :=
  if l3 = 0 then
    (k_ok 34 h l0).bind fun _ =>
    (fX35_sizeOf l0 l1 l2 (0 : Int32) h).bind fun q3 =>
    (k_ok 34 q3.2 l0).bind fun _ =>
    (fX35_grow l0 (q3.1).toInt64 q3.2).bind fun q5 =>
    (k_ok 34 q5.2 l0).bind fun _ =>
    (fX35_isRunning l0 l1 l2 (1 : Int32) q5.2).bind fun q7 =>
    if q7.1 = 0 then
      (g_J 34 q7.2 l0 81).bind fun x9 =>
      (k_ok 34 q7.2 l0).bind fun _ =>
      (fX35_sizeOf l0 l1 l2 (1 : Int32) q7.2).bind fun q12 =>
      (r_I 100 q12.2 l1 l2).bind fun x13 =>
      if ¬ x13 = (5 : Int32) then
        fX35_addSolid_b167 l0 l1 l2 s0 l0 l0 x9 ((q12.1).toInt64 - (s0).toInt64) (0 : Int32) q12.2
      else
        fX35_addSolid_b167 l0 l1 l2 s0 l0 l0 x9 ((q12.1).toInt64 - (s0).toInt64) (1 : Int32) q12.2
    else
      (g_J 34 q7.2 l0 81).bind fun x16 =>
      fX35_addSolid_b170 l0 l1 l2 s0 l0 x16 q7.2
  else
    (g_J 34 h l0 80).bind fun x18 =>
    (k_ok 34 h l0).bind fun _ =>
    (fX35_grow l0 x18 h).bind fun q21 =>
    (k_ok 34 q21.2 l0).bind fun _ =>
    (fX35_sizeOf l0 l1 l2 (1 : Int32) q21.2).bind fun q23 =>
    (k_ok 34 q23.2 l0).bind fun _ =>
    (fX35_grow l0 (q23.1).toInt64 q23.2).bind fun q25 =>
    (k_ok 34 q25.2 l0).bind fun _ =>
    (fX35_sizeOf l0 l1 l2 (2 : Int32) q25.2).bind fun q27 =>
    (p_V 34 q27.2 l0 80 (.long (q27.1).toInt64)).bind fun h28 =>
    (k_ok 34 h28 l0).bind fun _ =>
    (fX35_isRunning l0 l1 l2 (0 : Int32) h28).bind fun q31 =>
    if q31.1 = 0 then
      (g_J 34 q31.2 l0 81).bind fun x33 =>
      (k_ok 34 q31.2 l0).bind fun _ =>
      (fX35_sizeOf l0 l1 l2 (0 : Int32) q31.2).bind fun q36 =>
      (r_I 100 q36.2 l1 l2).bind fun x37 =>
      if ¬ x37 = (5 : Int32) then
        fX35_addSolid_b101 l0 l0 x33 ((q36.1).toInt64 + (s0).toInt64) (0 : Int32) q36.2
      else
        fX35_addSolid_b101 l0 l0 x33 ((q36.1).toInt64 + (s0).toInt64) (1 : Int32) q36.2
    else
      (g_J 34 q31.2 l0 81).bind fun x40 =>
      fX35_addSolid_b104 l0 x40 q31.2
theorem pX35_addSolid_b16 {w : eW} {d : Nat} (hd : 2 ≤ d + 1) {l0 : Nat} {l1 : Nat} {l2 : Int32} {l3 : Int32} {s0 : Int32} {h : eH} {q} (hf : fX35_addSolid_b16 l0 l1 l2 l3 s0 h = some q) : wp w (d + 1) YX35_addSolid 16 [some (.ref l0), some (.ref l1), some (.int l2), some (.int l3), none] [.int s0] h (e_is (e_rn c_V q)) := by
  unfold fX35_addSolid_b16 at hf
  refine w_istore dX35_addSolid_16 (by decide) (ls' := [some (.ref l0), some (.ref l1), some (.int l2), some (.int l3), some (.int s0)]) rfl ?_
  refine w_iload_n dX35_addSolid_18 rfl rfl ?_
  refine w_if_eq 108 dX35_addSolid_19 (by decide) (fun c1 => ?_) (fun c1 => ?_)
  · replace hf := (if_pos (show l3 = 0 from c1)).symm.trans hf
    refine w_aload_n dX35_addSolid_108 rfl rfl ?_
    refine w_aload_n dX35_addSolid_109 rfl rfl ?_
    refine w_aload_n dX35_addSolid_110 rfl rfl ?_
    refine w_iload_n dX35_addSolid_111 rfl rfl ?_
    refine w_iconst dX35_addSolid_112 (v := 0) (by decide) ?_
    obtain ⟨_, b2, hf⟩ := Option.bind_eq_some_iff.mp hf
    refine x_cnI hf (e_stV (Yc := YX35_sizeOf) (ci := 34) (av := [.ref l1, .int l2, .int (0 : Int32)]) (st := [.ref l0]) dX35_addSolid_113 q5558 mX35_sizeOf rfl (k_ok_some b2).1 (k_ok_some b2).2) mX35_sizeOf.2.2.1 mX35_sizeOf.2.2.2.2.1 (Nat.le_of_ble_eq_true rfl) (Nat.le_of_ble_eq_true rfl) (fun q hq => pX35_sizeOf (by omega) hq) (fun q3 hf => ?_)
    refine w_i2l dX35_addSolid_116 ?_
    obtain ⟨_, b4, hf⟩ := Option.bind_eq_some_iff.mp hf
    refine x_cnV hf (e_stV (Yc := YX35_grow) (ci := 34) (av := [.long (q3.1).toInt64]) (st := []) dX35_addSolid_117 q5554 mX35_grow rfl (k_ok_some b4).1 (k_ok_some b4).2) mX35_grow.2.2.1 mX35_grow.2.2.2.2.1 (Nat.le_of_ble_eq_true rfl) (Nat.le_of_ble_eq_true rfl) (fun q hq => pX35_grow (by omega) hq) (fun q5 hf => ?_)
    refine w_aload_n dX35_addSolid_120 rfl rfl ?_
    refine w_aload_n dX35_addSolid_121 rfl rfl ?_
    refine w_aload_n dX35_addSolid_122 rfl rfl ?_
    refine w_iload_n dX35_addSolid_123 rfl rfl ?_
    refine w_iconst dX35_addSolid_124 (v := 1) (by decide) ?_
    obtain ⟨_, b6, hf⟩ := Option.bind_eq_some_iff.mp hf
    refine x_cnI hf (e_stV (Yc := YX35_isRunning) (ci := 34) (av := [.ref l1, .int l2, .int (1 : Int32)]) (st := [.ref l0]) dX35_addSolid_125 q5563 mX35_isRunning rfl (k_ok_some b6).1 (k_ok_some b6).2) mX35_isRunning.2.2.1 mX35_isRunning.2.2.2.2.1 (Nat.le_of_ble_eq_true rfl) (Nat.le_of_ble_eq_true rfl) (fun q hq => pX35_isRunning (by omega) hq) (fun q7 hf => ?_)
    refine w_if_eq 138 dX35_addSolid_128 (by decide) (fun c8 => ?_) (fun c8 => ?_)
    · replace hf := (if_pos (show q7.1 = 0 from c8)).symm.trans hf
      refine w_aload_n dX35_addSolid_138 rfl rfl ?_
      refine w_aload_n dX35_addSolid_139 rfl rfl ?_
      obtain ⟨x9, b10, hf⟩ := Option.bind_eq_some_iff.mp hf
      refine GX35_960 b10 dX35_addSolid_140 rfl ?_
      refine w_aload_n dX35_addSolid_143 rfl rfl ?_
      refine w_aload_n dX35_addSolid_144 rfl rfl ?_
      refine w_iload_n dX35_addSolid_145 rfl rfl ?_
      refine w_iconst dX35_addSolid_146 (v := 1) (by decide) ?_
      obtain ⟨_, b11, hf⟩ := Option.bind_eq_some_iff.mp hf
      refine x_cnI hf (e_stV (Yc := YX35_sizeOf) (ci := 34) (av := [.ref l1, .int l2, .int (1 : Int32)]) (st := [.long x9, .ref l0, .ref l0]) dX35_addSolid_147 q5558 mX35_sizeOf rfl (k_ok_some b11).1 (k_ok_some b11).2) mX35_sizeOf.2.2.1 mX35_sizeOf.2.2.2.2.1 (Nat.le_of_ble_eq_true rfl) (Nat.le_of_ble_eq_true rfl) (fun q hq => pX35_sizeOf (by omega) hq) (fun q12 hf => ?_)
      refine w_i2l dX35_addSolid_150 ?_
      refine w_iload dX35_addSolid_151 rfl ?_
      refine w_i2l dX35_addSolid_153 ?_
      refine w_lsub dX35_addSolid_154 ?_
      refine w_aload_n dX35_addSolid_155 rfl rfl ?_
      refine w_iload_n dX35_addSolid_156 rfl rfl ?_
      obtain ⟨x13, b14, hf⟩ := Option.bind_eq_some_iff.mp hf
      refine x_rI b14 dX35_addSolid_157 ?_
      refine w_iconst dX35_addSolid_158 (v := 5) (by decide) ?_
      refine w_icmp_ne 166 dX35_addSolid_159 (by decide) (fun c15 => ?_) (fun c15 => ?_)
      · replace hf := (if_pos (show ¬ x13 = (5 : Int32) from c15)).symm.trans hf
        refine w_iconst dX35_addSolid_166 (v := 0) (by decide) ?_
        exact (pX35_addSolid_b167 hd hf).to ⟨rfl, rfl, rfl, rfl, trivial⟩
      · replace hf := (if_neg (show ¬ (¬ x13 = (5 : Int32)) from (fun z => z c15))).symm.trans hf
        refine w_iconst dX35_addSolid_162 (v := 1) (by decide) ?_
        refine w_goto 167 dX35_addSolid_163 (by decide) ?_
        exact (pX35_addSolid_b167 hd hf).to ⟨rfl, rfl, rfl, rfl, trivial⟩
    · replace hf := (if_neg (show ¬ (q7.1 = 0) from c8)).symm.trans hf
      refine w_aload_n dX35_addSolid_131 rfl rfl ?_
      obtain ⟨x16, b17, hf⟩ := Option.bind_eq_some_iff.mp hf
      refine GX35_960 b17 dX35_addSolid_132 rfl ?_
      refine w_goto 170 dX35_addSolid_135 (by decide) ?_
      exact (pX35_addSolid_b170 hd hf).to ⟨rfl, rfl, rfl, rfl, trivial⟩
  · replace hf := (if_neg (show ¬ (l3 = 0) from c1)).symm.trans hf
    refine w_aload_n dX35_addSolid_22 rfl rfl ?_
    refine w_aload_n dX35_addSolid_23 rfl rfl ?_
    obtain ⟨x18, b19, hf⟩ := Option.bind_eq_some_iff.mp hf
    refine GX35_957 b19 dX35_addSolid_24 rfl ?_
    obtain ⟨_, b20, hf⟩ := Option.bind_eq_some_iff.mp hf
    refine x_cnV hf (e_stV (Yc := YX35_grow) (ci := 34) (av := [.long x18]) (st := []) dX35_addSolid_27 q5554 mX35_grow rfl (k_ok_some b20).1 (k_ok_some b20).2) mX35_grow.2.2.1 mX35_grow.2.2.2.2.1 (Nat.le_of_ble_eq_true rfl) (Nat.le_of_ble_eq_true rfl) (fun q hq => pX35_grow (by omega) hq) (fun q21 hf => ?_)
    refine w_aload_n dX35_addSolid_30 rfl rfl ?_
    refine w_aload_n dX35_addSolid_31 rfl rfl ?_
    refine w_aload_n dX35_addSolid_32 rfl rfl ?_
    refine w_iload_n dX35_addSolid_33 rfl rfl ?_
    refine w_iconst dX35_addSolid_34 (v := 1) (by decide) ?_
    obtain ⟨_, b22, hf⟩ := Option.bind_eq_some_iff.mp hf
    refine x_cnI hf (e_stV (Yc := YX35_sizeOf) (ci := 34) (av := [.ref l1, .int l2, .int (1 : Int32)]) (st := [.ref l0]) dX35_addSolid_35 q5558 mX35_sizeOf rfl (k_ok_some b22).1 (k_ok_some b22).2) mX35_sizeOf.2.2.1 mX35_sizeOf.2.2.2.2.1 (Nat.le_of_ble_eq_true rfl) (Nat.le_of_ble_eq_true rfl) (fun q hq => pX35_sizeOf (by omega) hq) (fun q23 hf => ?_)
    refine w_i2l dX35_addSolid_38 ?_
    obtain ⟨_, b24, hf⟩ := Option.bind_eq_some_iff.mp hf
    refine x_cnV hf (e_stV (Yc := YX35_grow) (ci := 34) (av := [.long (q23.1).toInt64]) (st := []) dX35_addSolid_39 q5554 mX35_grow rfl (k_ok_some b24).1 (k_ok_some b24).2) mX35_grow.2.2.1 mX35_grow.2.2.2.2.1 (Nat.le_of_ble_eq_true rfl) (Nat.le_of_ble_eq_true rfl) (fun q hq => pX35_grow (by omega) hq) (fun q25 hf => ?_)
    refine w_aload_n dX35_addSolid_42 rfl rfl ?_
    refine w_aload_n dX35_addSolid_43 rfl rfl ?_
    refine w_aload_n dX35_addSolid_44 rfl rfl ?_
    refine w_iload_n dX35_addSolid_45 rfl rfl ?_
    refine w_iconst dX35_addSolid_46 (v := 2) (by decide) ?_
    obtain ⟨_, b26, hf⟩ := Option.bind_eq_some_iff.mp hf
    refine x_cnI hf (e_stV (Yc := YX35_sizeOf) (ci := 34) (av := [.ref l1, .int l2, .int (2 : Int32)]) (st := [.ref l0]) dX35_addSolid_47 q5558 mX35_sizeOf rfl (k_ok_some b26).1 (k_ok_some b26).2) mX35_sizeOf.2.2.1 mX35_sizeOf.2.2.2.2.1 (Nat.le_of_ble_eq_true rfl) (Nat.le_of_ble_eq_true rfl) (fun q hq => pX35_sizeOf (by omega) hq) (fun q27 hf => ?_)
    refine w_i2l dX35_addSolid_50 ?_
    obtain ⟨h28, b29, hf⟩ := Option.bind_eq_some_iff.mp hf
    refine SX35_957 b29 dX35_addSolid_51 rfl ?_
    refine w_aload_n dX35_addSolid_54 rfl rfl ?_
    refine w_aload_n dX35_addSolid_55 rfl rfl ?_
    refine w_aload_n dX35_addSolid_56 rfl rfl ?_
    refine w_iload_n dX35_addSolid_57 rfl rfl ?_
    refine w_iconst dX35_addSolid_58 (v := 0) (by decide) ?_
    obtain ⟨_, b30, hf⟩ := Option.bind_eq_some_iff.mp hf
    refine x_cnI hf (e_stV (Yc := YX35_isRunning) (ci := 34) (av := [.ref l1, .int l2, .int (0 : Int32)]) (st := [.ref l0]) dX35_addSolid_59 q5563 mX35_isRunning rfl (k_ok_some b30).1 (k_ok_some b30).2) mX35_isRunning.2.2.1 mX35_isRunning.2.2.2.2.1 (Nat.le_of_ble_eq_true rfl) (Nat.le_of_ble_eq_true rfl) (fun q hq => pX35_isRunning (by omega) hq) (fun q31 hf => ?_)
    refine w_if_eq 72 dX35_addSolid_62 (by decide) (fun c32 => ?_) (fun c32 => ?_)
    · replace hf := (if_pos (show q31.1 = 0 from c32)).symm.trans hf
      refine w_aload_n dX35_addSolid_72 rfl rfl ?_
      refine w_aload_n dX35_addSolid_73 rfl rfl ?_
      obtain ⟨x33, b34, hf⟩ := Option.bind_eq_some_iff.mp hf
      refine GX35_960 b34 dX35_addSolid_74 rfl ?_
      refine w_aload_n dX35_addSolid_77 rfl rfl ?_
      refine w_aload_n dX35_addSolid_78 rfl rfl ?_
      refine w_iload_n dX35_addSolid_79 rfl rfl ?_
      refine w_iconst dX35_addSolid_80 (v := 0) (by decide) ?_
      obtain ⟨_, b35, hf⟩ := Option.bind_eq_some_iff.mp hf
      refine x_cnI hf (e_stV (Yc := YX35_sizeOf) (ci := 34) (av := [.ref l1, .int l2, .int (0 : Int32)]) (st := [.long x33, .ref l0, .ref l0]) dX35_addSolid_81 q5558 mX35_sizeOf rfl (k_ok_some b35).1 (k_ok_some b35).2) mX35_sizeOf.2.2.1 mX35_sizeOf.2.2.2.2.1 (Nat.le_of_ble_eq_true rfl) (Nat.le_of_ble_eq_true rfl) (fun q hq => pX35_sizeOf (by omega) hq) (fun q36 hf => ?_)
      refine w_i2l dX35_addSolid_84 ?_
      refine w_iload dX35_addSolid_85 rfl ?_
      refine w_i2l dX35_addSolid_87 ?_
      refine w_ladd dX35_addSolid_88 ?_
      refine w_aload_n dX35_addSolid_89 rfl rfl ?_
      refine w_iload_n dX35_addSolid_90 rfl rfl ?_
      obtain ⟨x37, b38, hf⟩ := Option.bind_eq_some_iff.mp hf
      refine x_rI b38 dX35_addSolid_91 ?_
      refine w_iconst dX35_addSolid_92 (v := 5) (by decide) ?_
      refine w_icmp_ne 100 dX35_addSolid_93 (by decide) (fun c39 => ?_) (fun c39 => ?_)
      · replace hf := (if_pos (show ¬ x37 = (5 : Int32) from c39)).symm.trans hf
        refine w_iconst dX35_addSolid_100 (v := 0) (by decide) ?_
        exact (pX35_addSolid_b101 hd hf).to trivial
      · replace hf := (if_neg (show ¬ (¬ x37 = (5 : Int32)) from (fun z => z c39))).symm.trans hf
        refine w_iconst dX35_addSolid_96 (v := 1) (by decide) ?_
        refine w_goto 101 dX35_addSolid_97 (by decide) ?_
        exact (pX35_addSolid_b101 hd hf).to trivial
    · replace hf := (if_neg (show ¬ (q31.1 = 0) from c32)).symm.trans hf
      refine w_aload_n dX35_addSolid_65 rfl rfl ?_
      obtain ⟨x40, b41, hf⟩ := Option.bind_eq_some_iff.mp hf
      refine GX35_960 b41 dX35_addSolid_66 rfl ?_
      refine w_goto 104 dX35_addSolid_69 (by decide) ?_
      exact (pX35_addSolid_b104 hd hf).to trivial
def fX35_addSolid (this : Nat) (p0 : Nat) (p1 : Int32) (p2 : Int32) (h : eH) : Option (Unit × eH) :=
  (r_I 100 h p0 p1).bind fun x1 =>
  if ¬ x1 = (5 : Int32) then
    fX35_addSolid_b16 this p0 p1 p2 (0 : Int32) h
  else
    (r_I 100 h p0 (p1 + (2 : Int32))).bind fun x4 =>
    fX35_addSolid_b16 this p0 p1 p2 x4 h
theorem pX35_addSolid {w : eW} {d : Nat} (hd : 2 ≤ d) {this : Nat} {p0 : Nat} {p1 : Int32} {p2 : Int32} {h : eH} {q} (hf : fX35_addSolid this p0 p1 p2 h = some q) : wm w d YX35_addSolid [.ref this, .ref p0, .int p1, .int p2] h (e_is (e_rn c_V q)) := by
  obtain ⟨d, rfl⟩ : ∃ e, d = e + 1 := ⟨d - 1, by omega⟩
  show wp w (d + 1) YX35_addSolid 0 [some (.ref this), some (.ref p0), some (.int p1), some (.int p2), none] [] h _
  unfold fX35_addSolid at hf
  refine w_aload_n dX35_addSolid_0 rfl rfl ?_
  refine w_iload_n dX35_addSolid_1 rfl rfl ?_
  obtain ⟨x1, b2, hf⟩ := Option.bind_eq_some_iff.mp hf
  refine x_rI b2 dX35_addSolid_2 ?_
  refine w_iconst dX35_addSolid_3 (v := 5) (by decide) ?_
  refine w_icmp_ne 15 dX35_addSolid_4 (by decide) (fun c3 => ?_) (fun c3 => ?_)
  · replace hf := (if_pos (show ¬ x1 = (5 : Int32) from c3)).symm.trans hf
    refine w_iconst dX35_addSolid_15 (v := 0) (by decide) ?_
    exact (pX35_addSolid_b16 hd hf).to ⟨rfl, rfl, rfl, rfl, trivial⟩
  · replace hf := (if_neg (show ¬ (¬ x1 = (5 : Int32)) from (fun z => z c3))).symm.trans hf
    refine w_aload_n dX35_addSolid_7 rfl rfl ?_
    refine w_iload_n dX35_addSolid_8 rfl rfl ?_
    refine w_iconst dX35_addSolid_9 (v := 2) (by decide) ?_
    refine w_iadd dX35_addSolid_10 ?_
    obtain ⟨x4, b5, hf⟩ := Option.bind_eq_some_iff.mp hf
    refine x_rI b5 dX35_addSolid_11 ?_
    refine w_goto 16 dX35_addSolid_12 (by decide) ?_
    exact (pX35_addSolid_b16 hd hf).to ⟨rfl, rfl, rfl, rfl, trivial⟩
abbrev cX35_add : ByteArray := prog_37_method_138_code
def yX35_add : MethodName := ⟨RX35, "add", "([IIZ)V"⟩
def YX35_add : eY := (yX35_add, cX35_add, 5, none, [])
theorem mX35_add : e_mv YX35_add RX35 3 := ⟨q5548, qs329, q5549, by decide, by decide +kernel, (e_sig (by decide +kernel))⟩
theorem dX35_add_0 : decode cX35_add 0 = .ok (.aload_n 1, 1) := dc_43 (by decide +kernel)
theorem dX35_add_1 : decode cX35_add 1 = .ok (.iload_n 2, 1) := dc_28 (by decide +kernel)
theorem dX35_add_2 : decode cX35_add 2 = .ok (.iaload, 1) := dc_46 (by decide +kernel)
theorem dX35_add_3 : decode cX35_add 3 = .ok (.invokestatic 984, 3) := dc_184 (a := 3) (b := 216) (n := 984) (by decide +kernel)
theorem dX35_add_6 : decode cX35_add 6 = .ok (.ifCond .eq 11, 3) := dc_153 (a := 0) (b := 11) (v := 11) (by decide +kernel)
theorem dX35_add_9 : decode cX35_add 9 = .ok (.aload_n 0, 1) := dc_42 (by decide +kernel)
theorem dX35_add_10 : decode cX35_add 10 = .ok (.aload_n 1, 1) := dc_43 (by decide +kernel)
theorem dX35_add_11 : decode cX35_add 11 = .ok (.iload_n 2, 1) := dc_28 (by decide +kernel)
theorem dX35_add_12 : decode cX35_add 12 = .ok (.iload_n 3, 1) := dc_29 (by decide +kernel)
theorem dX35_add_13 : decode cX35_add 13 = .ok (.invokevirtual 987, 3) := dc_182 (a := 3) (b := 219) (n := 987) (by decide +kernel)
theorem dX35_add_16 : decode cX35_add 16 = .ok (.return_, 1) := dc_177 (by decide +kernel)
theorem dX35_add_17 : decode cX35_add 17 = .ok (.iload_n 3, 1) := dc_29 (by decide +kernel)
theorem dX35_add_18 : decode cX35_add 18 = .ok (.ifCond .eq 16, 3) := dc_153 (a := 0) (b := 16) (v := 16) (by decide +kernel)
theorem dX35_add_21 : decode cX35_add 21 = .ok (.aload_n 0, 1) := dc_42 (by decide +kernel)
theorem dX35_add_22 : decode cX35_add 22 = .ok (.aload_n 0, 1) := dc_42 (by decide +kernel)
theorem dX35_add_23 : decode cX35_add 23 = .ok (.getfield 957, 3) := dc_180 (a := 3) (b := 189) (n := 957) (by decide +kernel)
theorem dX35_add_26 : decode cX35_add 26 = .ok (.invokevirtual 969, 3) := dc_182 (a := 3) (b := 201) (n := 969) (by decide +kernel)
theorem dX35_add_29 : decode cX35_add 29 = .ok (.aload_n 0, 1) := dc_42 (by decide +kernel)
theorem dX35_add_30 : decode cX35_add 30 = .ok (.lconst 0, 1) := dc_9 (by decide +kernel)
theorem dX35_add_31 : decode cX35_add 31 = .ok (.putfield 957, 3) := dc_181 (a := 3) (b := 189) (n := 957) (by decide +kernel)
theorem dX35_add_34 : decode cX35_add 34 = .ok (.aload_n 0, 1) := dc_42 (by decide +kernel)
theorem dX35_add_35 : decode cX35_add 35 = .ok (.aload_n 1, 1) := dc_43 (by decide +kernel)
theorem dX35_add_36 : decode cX35_add 36 = .ok (.iload_n 2, 1) := dc_28 (by decide +kernel)
theorem dX35_add_37 : decode cX35_add 37 = .ok (.iconst 1, 1) := dc_4 (by decide +kernel)
theorem dX35_add_38 : decode cX35_add 38 = .ok (.iadd, 1) := dc_96 (by decide +kernel)
theorem dX35_add_39 : decode cX35_add 39 = .ok (.iaload, 1) := dc_46 (by decide +kernel)
theorem dX35_add_40 : decode cX35_add 40 = .ok (.i2l, 1) := dc_133 (by decide +kernel)
theorem dX35_add_41 : decode cX35_add 41 = .ok (.invokevirtual 969, 3) := dc_182 (a := 3) (b := 201) (n := 969) (by decide +kernel)
theorem dX35_add_44 : decode cX35_add 44 = .ok (.aload_n 1, 1) := dc_43 (by decide +kernel)
theorem dX35_add_45 : decode cX35_add 45 = .ok (.iload_n 2, 1) := dc_28 (by decide +kernel)
theorem dX35_add_46 : decode cX35_add 46 = .ok (.iaload, 1) := dc_46 (by decide +kernel)
theorem dX35_add_47 : decode cX35_add 47 = .ok (.iconst 2, 1) := dc_5 (by decide +kernel)
theorem dX35_add_48 : decode cX35_add 48 = .ok (.if_icmp .ne 85, 3) := dc_160 (a := 0) (b := 85) (v := 85) (by decide +kernel)
theorem dX35_add_51 : decode cX35_add 51 = .ok (.aload_n 1, 1) := dc_43 (by decide +kernel)
theorem dX35_add_52 : decode cX35_add 52 = .ok (.iload_n 2, 1) := dc_28 (by decide +kernel)
theorem dX35_add_53 : decode cX35_add 53 = .ok (.iconst 3, 1) := dc_6 (by decide +kernel)
theorem dX35_add_54 : decode cX35_add 54 = .ok (.iadd, 1) := dc_96 (by decide +kernel)
theorem dX35_add_55 : decode cX35_add 55 = .ok (.iaload, 1) := dc_46 (by decide +kernel)
theorem dX35_add_56 : decode cX35_add 56 = .ok (.istore 4, 2) := dc_54 (a := 4) (by decide +kernel)
theorem dX35_add_58 : decode cX35_add 58 = .ok (.aload_n 0, 1) := dc_42 (by decide +kernel)
theorem dX35_add_59 : decode cX35_add 59 = .ok (.getfield 188, 3) := dc_180 (a := 0) (b := 188) (n := 188) (by decide +kernel)
theorem dX35_add_62 : decode cX35_add 62 = .ok (.iload 4, 2) := dc_21 (a := 4) (by decide +kernel)
theorem dX35_add_64 : decode cX35_add 64 = .ok (.aload_n 0, 1) := dc_42 (by decide +kernel)
theorem dX35_add_65 : decode cX35_add 65 = .ok (.getfield 188, 3) := dc_180 (a := 0) (b := 188) (n := 188) (by decide +kernel)
theorem dX35_add_68 : decode cX35_add 68 = .ok (.iload 4, 2) := dc_21 (a := 4) (by decide +kernel)
theorem dX35_add_70 : decode cX35_add 70 = .ok (.laload, 1) := dc_47 (by decide +kernel)
theorem dX35_add_71 : decode cX35_add 71 = .ok (.aload_n 1, 1) := dc_43 (by decide +kernel)
theorem dX35_add_72 : decode cX35_add 72 = .ok (.iload_n 2, 1) := dc_28 (by decide +kernel)
theorem dX35_add_73 : decode cX35_add 73 = .ok (.iconst 2, 1) := dc_5 (by decide +kernel)
theorem dX35_add_74 : decode cX35_add 74 = .ok (.iadd, 1) := dc_96 (by decide +kernel)
theorem dX35_add_75 : decode cX35_add 75 = .ok (.iaload, 1) := dc_46 (by decide +kernel)
theorem dX35_add_76 : decode cX35_add 76 = .ok (.i2l, 1) := dc_133 (by decide +kernel)
theorem dX35_add_77 : decode cX35_add 77 = .ok (.ladd, 1) := dc_97 (by decide +kernel)
theorem dX35_add_78 : decode cX35_add 78 = .ok (.lastore, 1) := dc_80 (by decide +kernel)
theorem dX35_add_79 : decode cX35_add 79 = .ok (.aload_n 0, 1) := dc_42 (by decide +kernel)
theorem dX35_add_80 : decode cX35_add 80 = .ok (.aload_n 0, 1) := dc_42 (by decide +kernel)
theorem dX35_add_81 : decode cX35_add 81 = .ok (.getfield 966, 3) := dc_180 (a := 3) (b := 198) (n := 966) (by decide +kernel)
theorem dX35_add_84 : decode cX35_add 84 = .ok (.aload_n 1, 1) := dc_43 (by decide +kernel)
theorem dX35_add_85 : decode cX35_add 85 = .ok (.iload_n 2, 1) := dc_28 (by decide +kernel)
theorem dX35_add_86 : decode cX35_add 86 = .ok (.iconst 4, 1) := dc_7 (by decide +kernel)
theorem dX35_add_87 : decode cX35_add 87 = .ok (.iadd, 1) := dc_96 (by decide +kernel)
theorem dX35_add_88 : decode cX35_add 88 = .ok (.iaload, 1) := dc_46 (by decide +kernel)
theorem dX35_add_89 : decode cX35_add 89 = .ok (.i2l, 1) := dc_133 (by decide +kernel)
theorem dX35_add_90 : decode cX35_add 90 = .ok (.ladd, 1) := dc_97 (by decide +kernel)
theorem dX35_add_91 : decode cX35_add 91 = .ok (.putfield 966, 3) := dc_181 (a := 3) (b := 198) (n := 966) (by decide +kernel)
theorem dX35_add_94 : decode cX35_add 94 = .ok (.aload_n 0, 1) := dc_42 (by decide +kernel)
theorem dX35_add_95 : decode cX35_add 95 = .ok (.aload_n 0, 1) := dc_42 (by decide +kernel)
theorem dX35_add_96 : decode cX35_add 96 = .ok (.getfield 954, 3) := dc_180 (a := 3) (b := 186) (n := 954) (by decide +kernel)
theorem dX35_add_99 : decode cX35_add 99 = .ok (.ifCond .eq 30, 3) := dc_153 (a := 0) (b := 30) (v := 30) (by decide +kernel)
theorem dX35_add_102 : decode cX35_add 102 = .ok (.aload_n 0, 1) := dc_42 (by decide +kernel)
theorem dX35_add_103 : decode cX35_add 103 = .ok (.getfield 188, 3) := dc_180 (a := 0) (b := 188) (n := 188) (by decide +kernel)
theorem dX35_add_106 : decode cX35_add 106 = .ok (.iload 4, 2) := dc_21 (a := 4) (by decide +kernel)
theorem dX35_add_108 : decode cX35_add 108 = .ok (.laload, 1) := dc_47 (by decide +kernel)
theorem dX35_add_109 : decode cX35_add 109 = .ok (.invokestatic 740, 3) := dc_184 (a := 2) (b := 228) (n := 740) (by decide +kernel)
theorem dX35_add_112 : decode cX35_add 112 = .ok (.ifCond .eq 17, 3) := dc_153 (a := 0) (b := 17) (v := 17) (by decide +kernel)
theorem dX35_add_115 : decode cX35_add 115 = .ok (.aload_n 0, 1) := dc_42 (by decide +kernel)
theorem dX35_add_116 : decode cX35_add 116 = .ok (.getfield 966, 3) := dc_180 (a := 3) (b := 198) (n := 966) (by decide +kernel)
theorem dX35_add_119 : decode cX35_add 119 = .ok (.invokestatic 740, 3) := dc_184 (a := 2) (b := 228) (n := 740) (by decide +kernel)
theorem dX35_add_122 : decode cX35_add 122 = .ok (.ifCond .eq 7, 3) := dc_153 (a := 0) (b := 7) (v := 7) (by decide +kernel)
theorem dX35_add_125 : decode cX35_add 125 = .ok (.iconst 1, 1) := dc_4 (by decide +kernel)
theorem dX35_add_126 : decode cX35_add 126 = .ok (.goto 4, 3) := dc_167 (a := 0) (b := 4) (v := 4) (by decide +kernel)
theorem dX35_add_129 : decode cX35_add 129 = .ok (.iconst 0, 1) := dc_3 (by decide +kernel)
theorem dX35_add_130 : decode cX35_add 130 = .ok (.putfield 954, 3) := dc_181 (a := 3) (b := 186) (n := 954) (by decide +kernel)
theorem dX35_add_133 : decode cX35_add 133 = .ok (.return_, 1) := dc_177 (by decide +kernel)
theorem GX35_188 {w : eW} {d : Nat} {Y : eY} {pc : Nat} {ls : eL} {st : List Value} {h : eH} {Q : eO → eH → Prop} {a : Nat} {x : Nat} (hf : g_A 34 h a 83 = some x) (hd : decode Y.2.1 pc = .ok (.getfield 188, 3)) (hY : Y.1.cls = RX35) (kk : wp w d Y (pc + 3) ls (.ref x :: st) h Q) : wp w d Y pc ls (.ref a :: st) h Q := x_gA (ci := 34) (k := 83) hf hd rfl (by decide) (by rw [hY]; exact q4584) kk
theorem GX35_966 {w : eW} {d : Nat} {Y : eY} {pc : Nat} {ls : eL} {st : List Value} {h : eH} {Q : eO → eH → Prop} {a : Nat} {x : Int64} (hf : g_J 34 h a 85 = some x) (hd : decode Y.2.1 pc = .ok (.getfield 966, 3)) (hY : Y.1.cls = RX35) (kk : wp w d Y (pc + 3) ls (.long x :: st) h Q) : wp w d Y pc ls (.ref a :: st) h Q := x_gJ (ci := 34) (k := 85) hf hd rfl (by decide) (by rw [hY]; exact q4586) kk
theorem SX35_966 {w : eW} {d : Nat} {Y : eY} {pc : Nat} {ls : eL} {st : List Value} {h : eH} {Q : eO → eH → Prop} {a : Nat} {h' : eH} {x : Int64} (hf : p_V 34 h a 85 (.long x) = some h') (hd : decode Y.2.1 pc = .ok (.putfield 966, 3)) (hY : Y.1.cls = RX35) (kk : wp w d Y (pc + 3) ls st h' Q) : wp w d Y pc ls (.long x :: .ref a :: st) h Q := x_pJ (ci := 34) (k := 85) hf hd rfl (by decide) (by rw [hY]; exact q4586) rfl rfl kk
def fX35_add_b133  (h : eH) : Option (Unit × eH) :=
  some ((), h)
theorem pX35_add_b133 {w : eW} {d : Nat} (hd : 3 ≤ d + 1)  {h : eH} {q} (hf : fX35_add_b133  h = some q) : wp w (d + 1) YX35_add 133 [none, none, none, none, none] [] h (e_is (e_rn c_V q)) := by
  unfold fX35_add_b133 at hf
  cases hf
  exact w_vret dX35_add_133 rfl rfl
def fX35_add_b130 (s0 : Nat) (s1 : Int32) (h : eH) : Option (Unit × eH) :=
  (p_Z 34 h s0 78 s1).bind fun h1 =>
  fX35_add_b133 h1
theorem pX35_add_b130 {w : eW} {d : Nat} (hd : 3 ≤ d + 1) {s0 : Nat} {s1 : Int32} {h : eH} {q} (hf : fX35_add_b130 s0 s1 h = some q) : wp w (d + 1) YX35_add 130 [none, none, none, none, none] [.int s1, .ref s0] h (e_is (e_rn c_V q)) := by
  unfold fX35_add_b130 at hf
  obtain ⟨h1, b2, hf⟩ := Option.bind_eq_some_iff.mp hf
  refine SX35_954 b2 dX35_add_130 rfl ?_
  exact (pX35_add_b133 hd hf).to trivial
def fX35_add_b129 (s0 : Nat) (h : eH) : Option (Unit × eH) :=
  fX35_add_b130 s0 (0 : Int32) h
theorem pX35_add_b129 {w : eW} {d : Nat} (hd : 3 ≤ d + 1) {s0 : Nat} {h : eH} {q} (hf : fX35_add_b129 s0 h = some q) : wp w (d + 1) YX35_add 129 [none, none, none, none, none] [.ref s0] h (e_is (e_rn c_V q)) := by
  unfold fX35_add_b129 at hf
  refine w_iconst dX35_add_129 (v := 0) (by decide) ?_
  exact (pX35_add_b130 hd hf).to trivial
def fX35_add_b34 (l0 : Nat) (l1 : Nat) (l2 : Int32) (h : eH) : Option (Unit × eH) :=
  (r_I 100 h l1 (l2 + (1 : Int32))).bind fun x1 =>
  (k_ok 34 h l0).bind fun _ =>
  (fX35_grow l0 (x1).toInt64 h).bind fun q4 =>
  (r_I 100 q4.2 l1 l2).bind fun x5 =>
  if ¬ x5 = (2 : Int32) then
    fX35_add_b133 q4.2
  else
    (r_I 100 q4.2 l1 (l2 + (3 : Int32))).bind fun x8 =>
    (g_A 34 q4.2 l0 83).bind fun a10 =>
    (g_A 34 q4.2 l0 83).bind fun a12 =>
    (r_J q4.2 a12 x8).bind fun x14 =>
    (r_I 100 q4.2 l1 (l2 + (2 : Int32))).bind fun x16 =>
    (q_V 101 q4.2 a10 x8 (.long (x14 + (x16).toInt64))).bind fun h18 =>
    (g_J 34 h18 l0 85).bind fun x20 =>
    (r_I 100 h18 l1 (l2 + (4 : Int32))).bind fun x22 =>
    (p_V 34 h18 l0 85 (.long (x20 + (x22).toInt64))).bind fun h24 =>
    (g_I 34 h24 l0 78).bind fun x26 =>
    if x26 = 0 then
      fX35_add_b129 l0 h24
    else
      (g_A 34 h24 l0 83).bind fun a29 =>
      (r_J h24 a29 x8).bind fun x31 =>
      (fX35_isSize x31 h24).bind fun q33 =>
      if q33.1 = 0 then
        fX35_add_b129 l0 q33.2
      else
        (g_J 34 q33.2 l0 85).bind fun x35 =>
        (fX35_isSize x35 q33.2).bind fun q37 =>
        if q37.1 = 0 then
          fX35_add_b129 l0 q37.2
        else
          fX35_add_b130 l0 (1 : Int32) q37.2
theorem pX35_add_b34 {w : eW} {d : Nat} (hd : 3 ≤ d + 1) {l0 : Nat} {l1 : Nat} {l2 : Int32} {h : eH} {q} (hf : fX35_add_b34 l0 l1 l2 h = some q) : wp w (d + 1) YX35_add 34 [some (.ref l0), some (.ref l1), some (.int l2), none, none] [] h (e_is (e_rn c_V q)) := by
  unfold fX35_add_b34 at hf
  refine w_aload_n dX35_add_34 rfl rfl ?_
  refine w_aload_n dX35_add_35 rfl rfl ?_
  refine w_iload_n dX35_add_36 rfl rfl ?_
  refine w_iconst dX35_add_37 (v := 1) (by decide) ?_
  refine w_iadd dX35_add_38 ?_
  obtain ⟨x1, b2, hf⟩ := Option.bind_eq_some_iff.mp hf
  refine x_rI b2 dX35_add_39 ?_
  refine w_i2l dX35_add_40 ?_
  obtain ⟨_, b3, hf⟩ := Option.bind_eq_some_iff.mp hf
  refine x_cnV hf (e_stV (Yc := YX35_grow) (ci := 34) (av := [.long (x1).toInt64]) (st := []) dX35_add_41 q5554 mX35_grow rfl (k_ok_some b3).1 (k_ok_some b3).2) mX35_grow.2.2.1 mX35_grow.2.2.2.2.1 (Nat.le_of_ble_eq_true rfl) (Nat.le_of_ble_eq_true rfl) (fun q hq => pX35_grow (by omega) hq) (fun q4 hf => ?_)
  refine w_aload_n dX35_add_44 rfl rfl ?_
  refine w_iload_n dX35_add_45 rfl rfl ?_
  obtain ⟨x5, b6, hf⟩ := Option.bind_eq_some_iff.mp hf
  refine x_rI b6 dX35_add_46 ?_
  refine w_iconst dX35_add_47 (v := 2) (by decide) ?_
  refine w_icmp_ne 133 dX35_add_48 (by decide) (fun c7 => ?_) (fun c7 => ?_)
  · replace hf := (if_pos (show ¬ x5 = (2 : Int32) from c7)).symm.trans hf
    exact (pX35_add_b133 hd hf).to trivial
  · replace hf := (if_neg (show ¬ (¬ x5 = (2 : Int32)) from (fun z => z c7))).symm.trans hf
    refine w_aload_n dX35_add_51 rfl rfl ?_
    refine w_iload_n dX35_add_52 rfl rfl ?_
    refine w_iconst dX35_add_53 (v := 3) (by decide) ?_
    refine w_iadd dX35_add_54 ?_
    obtain ⟨x8, b9, hf⟩ := Option.bind_eq_some_iff.mp hf
    refine x_rI b9 dX35_add_55 ?_
    refine w_istore dX35_add_56 (by decide) (ls' := [some (.ref l0), some (.ref l1), some (.int l2), none, some (.int x8)]) rfl ?_
    refine w_aload_n dX35_add_58 rfl rfl ?_
    obtain ⟨a10, b11, hf⟩ := Option.bind_eq_some_iff.mp hf
    refine GX35_188 b11 dX35_add_59 rfl ?_
    refine w_iload dX35_add_62 rfl ?_
    refine w_aload_n dX35_add_64 rfl rfl ?_
    obtain ⟨a12, b13, hf⟩ := Option.bind_eq_some_iff.mp hf
    refine GX35_188 b13 dX35_add_65 rfl ?_
    refine w_iload dX35_add_68 rfl ?_
    obtain ⟨x14, b15, hf⟩ := Option.bind_eq_some_iff.mp hf
    refine x_rJ b15 dX35_add_70 ?_
    refine w_aload_n dX35_add_71 rfl rfl ?_
    refine w_iload_n dX35_add_72 rfl rfl ?_
    refine w_iconst dX35_add_73 (v := 2) (by decide) ?_
    refine w_iadd dX35_add_74 ?_
    obtain ⟨x16, b17, hf⟩ := Option.bind_eq_some_iff.mp hf
    refine x_rI b17 dX35_add_75 ?_
    refine w_i2l dX35_add_76 ?_
    refine w_ladd dX35_add_77 ?_
    obtain ⟨h18, b19, hf⟩ := Option.bind_eq_some_iff.mp hf
    refine x_qJ b19 dX35_add_78 ?_
    refine w_aload_n dX35_add_79 rfl rfl ?_
    refine w_aload_n dX35_add_80 rfl rfl ?_
    obtain ⟨x20, b21, hf⟩ := Option.bind_eq_some_iff.mp hf
    refine GX35_966 b21 dX35_add_81 rfl ?_
    refine w_aload_n dX35_add_84 rfl rfl ?_
    refine w_iload_n dX35_add_85 rfl rfl ?_
    refine w_iconst dX35_add_86 (v := 4) (by decide) ?_
    refine w_iadd dX35_add_87 ?_
    obtain ⟨x22, b23, hf⟩ := Option.bind_eq_some_iff.mp hf
    refine x_rI b23 dX35_add_88 ?_
    refine w_i2l dX35_add_89 ?_
    refine w_ladd dX35_add_90 ?_
    obtain ⟨h24, b25, hf⟩ := Option.bind_eq_some_iff.mp hf
    refine SX35_966 b25 dX35_add_91 rfl ?_
    refine w_aload_n dX35_add_94 rfl rfl ?_
    refine w_aload_n dX35_add_95 rfl rfl ?_
    obtain ⟨x26, b27, hf⟩ := Option.bind_eq_some_iff.mp hf
    refine GX35_954 b27 dX35_add_96 rfl ?_
    refine w_if_eq 129 dX35_add_99 (by decide) (fun c28 => ?_) (fun c28 => ?_)
    · replace hf := (if_pos (show x26 = 0 from c28)).symm.trans hf
      exact (pX35_add_b129 hd hf).to trivial
    · replace hf := (if_neg (show ¬ (x26 = 0) from c28)).symm.trans hf
      refine w_aload_n dX35_add_102 rfl rfl ?_
      obtain ⟨a29, b30, hf⟩ := Option.bind_eq_some_iff.mp hf
      refine GX35_188 b30 dX35_add_103 rfl ?_
      refine w_iload dX35_add_106 rfl ?_
      obtain ⟨x31, b32, hf⟩ := Option.bind_eq_some_iff.mp hf
      refine x_rJ b32 dX35_add_108 ?_
      refine x_cnI hf (e_stS (Yc := YX35_isSize) (av := [.long x31]) (st := [.ref l0]) dX35_add_109 q5412 mX35_isSize) mX35_isSize.2.2.1 mX35_isSize.2.2.2.2.1 (Nat.le_of_ble_eq_true rfl) (Nat.le_of_ble_eq_true rfl) (fun q hq => pX35_isSize (by omega) hq) (fun q33 hf => ?_)
      refine w_if_eq 129 dX35_add_112 (by decide) (fun c34 => ?_) (fun c34 => ?_)
      · replace hf := (if_pos (show q33.1 = 0 from c34)).symm.trans hf
        exact (pX35_add_b129 hd hf).to trivial
      · replace hf := (if_neg (show ¬ (q33.1 = 0) from c34)).symm.trans hf
        refine w_aload_n dX35_add_115 rfl rfl ?_
        obtain ⟨x35, b36, hf⟩ := Option.bind_eq_some_iff.mp hf
        refine GX35_966 b36 dX35_add_116 rfl ?_
        refine x_cnI hf (e_stS (Yc := YX35_isSize) (av := [.long x35]) (st := [.ref l0]) dX35_add_119 q5412 mX35_isSize) mX35_isSize.2.2.1 mX35_isSize.2.2.2.2.1 (Nat.le_of_ble_eq_true rfl) (Nat.le_of_ble_eq_true rfl) (fun q hq => pX35_isSize (by omega) hq) (fun q37 hf => ?_)
        refine w_if_eq 129 dX35_add_122 (by decide) (fun c38 => ?_) (fun c38 => ?_)
        · replace hf := (if_pos (show q37.1 = 0 from c38)).symm.trans hf
          exact (pX35_add_b129 hd hf).to trivial
        · replace hf := (if_neg (show ¬ (q37.1 = 0) from c38)).symm.trans hf
          refine w_iconst dX35_add_125 (v := 1) (by decide) ?_
          refine w_goto 130 dX35_add_126 (by decide) ?_
          exact (pX35_add_b130 hd hf).to trivial
def fX35_add (this : Nat) (p0 : Nat) (p1 : Int32) (p2 : Int32) (h : eH) : Option (Unit × eH) :=
  (r_I 100 h p0 p1).bind fun x1 =>
  (fX35_isSolid x1 h).bind fun q3 =>
  if q3.1 = 0 then
    if p2 = 0 then
      fX35_add_b34 this p0 p1 q3.2
    else
      (g_J 34 q3.2 this 80).bind fun x6 =>
      (k_ok 34 q3.2 this).bind fun _ =>
      (fX35_grow this x6 q3.2).bind fun q9 =>
      (p_V 34 q9.2 this 80 (.long (0 : Int64))).bind fun h10 =>
      fX35_add_b34 this p0 p1 h10
  else
    (k_ok 34 q3.2 this).bind fun _ =>
    (fX35_addSolid this p0 p1 p2 q3.2).bind fun q13 =>
    some ((), q13.2)
theorem pX35_add {w : eW} {d : Nat} (hd : 3 ≤ d) {this : Nat} {p0 : Nat} {p1 : Int32} {p2 : Int32} {h : eH} {q} (hf : fX35_add this p0 p1 p2 h = some q) : wm w d YX35_add [.ref this, .ref p0, .int p1, .int p2] h (e_is (e_rn c_V q)) := by
  obtain ⟨d, rfl⟩ : ∃ e, d = e + 1 := ⟨d - 1, by omega⟩
  show wp w (d + 1) YX35_add 0 [some (.ref this), some (.ref p0), some (.int p1), some (.int p2), none] [] h _
  unfold fX35_add at hf
  refine w_aload_n dX35_add_0 rfl rfl ?_
  refine w_iload_n dX35_add_1 rfl rfl ?_
  obtain ⟨x1, b2, hf⟩ := Option.bind_eq_some_iff.mp hf
  refine x_rI b2 dX35_add_2 ?_
  refine x_cnI hf (e_stS (Yc := YX35_isSolid) (av := [.int x1]) (st := []) dX35_add_3 q5539 mX35_isSolid) mX35_isSolid.2.2.1 mX35_isSolid.2.2.2.2.1 (Nat.le_of_ble_eq_true rfl) (Nat.le_of_ble_eq_true rfl) (fun q hq => pX35_isSolid (by omega) hq) (fun q3 hf => ?_)
  refine w_if_eq 17 dX35_add_6 (by decide) (fun c4 => ?_) (fun c4 => ?_)
  · replace hf := (if_pos (show q3.1 = 0 from c4)).symm.trans hf
    refine w_iload_n dX35_add_17 rfl rfl ?_
    refine w_if_eq 34 dX35_add_18 (by decide) (fun c5 => ?_) (fun c5 => ?_)
    · replace hf := (if_pos (show p2 = 0 from c5)).symm.trans hf
      exact (pX35_add_b34 hd hf).to ⟨rfl, rfl, rfl, trivial⟩
    · replace hf := (if_neg (show ¬ (p2 = 0) from c5)).symm.trans hf
      refine w_aload_n dX35_add_21 rfl rfl ?_
      refine w_aload_n dX35_add_22 rfl rfl ?_
      obtain ⟨x6, b7, hf⟩ := Option.bind_eq_some_iff.mp hf
      refine GX35_957 b7 dX35_add_23 rfl ?_
      obtain ⟨_, b8, hf⟩ := Option.bind_eq_some_iff.mp hf
      refine x_cnV hf (e_stV (Yc := YX35_grow) (ci := 34) (av := [.long x6]) (st := []) dX35_add_26 q5554 mX35_grow rfl (k_ok_some b8).1 (k_ok_some b8).2) mX35_grow.2.2.1 mX35_grow.2.2.2.2.1 (Nat.le_of_ble_eq_true rfl) (Nat.le_of_ble_eq_true rfl) (fun q hq => pX35_grow (by omega) hq) (fun q9 hf => ?_)
      refine w_aload_n dX35_add_29 rfl rfl ?_
      refine w_lconst dX35_add_30 (v := 0) (by decide) ?_
      obtain ⟨h10, b11, hf⟩ := Option.bind_eq_some_iff.mp hf
      refine SX35_957 b11 dX35_add_31 rfl ?_
      exact (pX35_add_b34 hd hf).to ⟨rfl, rfl, rfl, trivial⟩
  · replace hf := (if_neg (show ¬ (q3.1 = 0) from c4)).symm.trans hf
    refine w_aload_n dX35_add_9 rfl rfl ?_
    refine w_aload_n dX35_add_10 rfl rfl ?_
    refine w_iload_n dX35_add_11 rfl rfl ?_
    refine w_iload_n dX35_add_12 rfl rfl ?_
    obtain ⟨_, b12, hf⟩ := Option.bind_eq_some_iff.mp hf
    refine x_cnV hf (e_stV (Yc := YX35_addSolid) (ci := 34) (av := [.ref p0, .int p1, .int p2]) (st := []) dX35_add_13 q5550 mX35_addSolid rfl (k_ok_some b12).1 (k_ok_some b12).2) mX35_addSolid.2.2.1 mX35_addSolid.2.2.2.2.1 (Nat.le_of_ble_eq_true rfl) (Nat.le_of_ble_eq_true rfl) (fun q hq => pX35_addSolid (by omega) hq) (fun q13 hf => ?_)
    cases hf
    exact w_vret dX35_add_16 rfl rfl
