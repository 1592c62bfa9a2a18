set_option maxRecDepth 100000
set_option maxHeartbeats 4000000
theorem q426 : (Jvm.Cond.initialized "TypeHouse") ∈ lw_all := lw_g (lw_at lw_m1 1 rfl) rfl
theorem q429 : (Jvm.Cond.initialized "TypeHouse$Trouble") ∈ lw_all := lw_g (lw_at lw_m1 4 rfl) rfl
theorem q430 : (Jvm.Cond.initialized "TypeHouse$FontTable") ∈ lw_all := lw_g (lw_at lw_m1 5 rfl) rfl
theorem q431 : (Jvm.Cond.initialized "TypeHouse$Font") ∈ lw_all := lw_g (lw_at lw_m1 6 rfl) rfl
theorem q432 : (Jvm.Cond.initialized "TypeHouse$Pool") ∈ lw_all := lw_g (lw_at lw_m1 7 rfl) rfl
theorem q433 : (Jvm.Cond.initialized "TypeHouse$Expander") ∈ lw_all := lw_g (lw_at lw_m1 8 rfl) rfl
theorem q434 : (Jvm.Cond.initialized "TypeHouse$Settings") ∈ lw_all := lw_g (lw_at lw_m1 9 rfl) rfl
theorem q435 : (Jvm.Cond.initialized "TypeHouse$Names") ∈ lw_all := lw_g (lw_at lw_m1 10 rfl) rfl
theorem q436 : (Jvm.Cond.initialized "TypeHouse$SourceLines") ∈ lw_all := lw_g (lw_at lw_m1 11 rfl) rfl
theorem q437 : (Jvm.Cond.initialized "TypeHouse$Macros") ∈ lw_all := lw_g (lw_at lw_m1 12 rfl) rfl
theorem q438 : (Jvm.Cond.initialized "TypeHouse$Tokens") ∈ lw_all := lw_g (lw_at lw_m1 13 rfl) rfl
theorem q439 : (Jvm.Cond.initialized "TypeHouse$Hyphenator") ∈ lw_all := lw_g (lw_at lw_m1 14 rfl) rfl
theorem q440 : (Jvm.Cond.initialized "TypeHouse$Trie") ∈ lw_all := lw_g (lw_at lw_m1 15 rfl) rfl
theorem q441 : (Jvm.Cond.initialized "java/lang/System") ∈ lw_all := lw_g (lw_at lw_m1 16 rfl) rfl
theorem q442 : (Jvm.Cond.initialized "TypeHouse$ToldWords") ∈ lw_all := lw_g (lw_at lw_m1 17 rfl) rfl
theorem q443 : (Jvm.Cond.initialized "TypeHouse$Letters") ∈ lw_all := lw_g (lw_at lw_m1 18 rfl) rfl
theorem q444 : (Jvm.Cond.initialized "TypeHouse$Setter") ∈ lw_all := lw_g (lw_at lw_m1 19 rfl) rfl
theorem q445 : (Jvm.Cond.initialized "TypeHouse$Packer") ∈ lw_all := lw_g (lw_at lw_m1 20 rfl) rfl
theorem q446 : (Jvm.Cond.initialized "TypeHouse$Layout") ∈ lw_all := lw_g (lw_at lw_m1 21 rfl) rfl
theorem q447 : (Jvm.Cond.initialized "TypeHouse$Breaker") ∈ lw_all := lw_g (lw_at lw_m1 22 rfl) rfl
theorem q448 : (Jvm.Cond.initialized "TypeHouse$Paragraph") ∈ lw_all := lw_g (lw_at lw_m1 23 rfl) rfl
theorem q449 : (Jvm.Cond.initialized "TypeHouse$Measure") ∈ lw_all := lw_g (lw_at lw_m1 24 rfl) rfl
theorem q450 : (Jvm.Cond.initialized "TypeHouse$Pass") ∈ lw_all := lw_g (lw_at lw_m1 25 rfl) rfl
theorem q451 : (Jvm.Cond.initialized "TypeHouse$Nodes") ∈ lw_all := lw_g (lw_at lw_m1 26 rfl) rfl
theorem q452 : (Jvm.Cond.initialized "TypeHouse$Fitting") ∈ lw_all := lw_g (lw_at lw_m1 27 rfl) rfl
theorem q453 : (Jvm.Cond.initialized "TypeHouse$PageItems") ∈ lw_all := lw_g (lw_at lw_m1 28 rfl) rfl
theorem q454 : (Jvm.Cond.initialized "TypeHouse$PageBuilder") ∈ lw_all := lw_g (lw_at lw_m1 29 rfl) rfl
theorem q455 : (Jvm.Cond.initialized "TypeHouse$Sums") ∈ lw_all := lw_g (lw_at lw_m1 30 rfl) rfl
theorem q456 : (Jvm.Cond.initialized "TypeHouse$Page") ∈ lw_all := lw_g (lw_at lw_m1 31 rfl) rfl
theorem q457 : (Jvm.Cond.initialized "TypeHouse$Writer") ∈ lw_all := lw_g (lw_at lw_m1 32 rfl) rfl
theorem q458 : (Jvm.Cond.initialized "TypeHouse$FileBytes") ∈ lw_all := lw_g (lw_at lw_m1 33 rfl) rfl
theorem q459 : (Jvm.Cond.initialized "TypeHouse$Moves") ∈ lw_all := lw_g (lw_at lw_m1 34 rfl) rfl
theorem q460 : (Jvm.Cond.initialized "TypeHouse$Lists") ∈ lw_all := lw_g (lw_at lw_m1 35 rfl) rfl
theorem q490 : (Jvm.Cond.instanceMethod ({ cls := "java/lang/Object", name := "<init>", desc := "()V" } : Jvm.MethodName)) ∈ lw_all := lw_g (lw_at lw_m1 65 rfl) rfl
theorem q491 : (Jvm.Cond.code ({ cls := "java/lang/Object", name := "<init>", desc := "()V" } : Jvm.MethodName) object_method_1_code (1 : Nat) (Option.none : Option Jvm.ClassFile.FieldType)) ∈ lw_all := lw_g (lw_at lw_m1 66 rfl) rfl
theorem q496 : (Jvm.Cond.instanceMethod ({ cls := "TypeHouse$FontFile", name := "<init>", desc := "()V" } : Jvm.MethodName)) ∈ lw_all := lw_g (lw_at lw_m1 71 rfl) rfl
theorem q497 : (Jvm.Cond.code ({ cls := "TypeHouse$FontFile", name := "<init>", desc := "()V" } : Jvm.MethodName) prog_8_method_1_code (1 : Nat) (Option.none : Option Jvm.ClassFile.FieldType)) ∈ lw_all := lw_g (lw_at lw_m1 72 rfl) rfl
theorem q498 : (Jvm.Cond.methodLink "TypeHouse$FontFile" (3 : Nat) ({ cls := "java/lang/Object", name := "<init>", desc := "()V" } : Jvm.MethodName)) ∈ lw_all := lw_g (lw_at lw_m1 73 rfl) rfl
theorem q499 : (Jvm.Cond.fieldLink "TypeHouse$FontFile" (9 : Nat) "TypeHouse$FontFile" "bytes" "[B") ∈ lw_all := lw_g (lw_at lw_m1 74 rfl) rfl
theorem q507 : (Jvm.Cond.arrayClass Jvm.ClassFile.FieldType.byte) ∈ lw_all := lw_g (lw_at lw_m1 82 rfl) rfl
theorem q511 : (Jvm.Cond.instanceMethod ({ cls := "TypeHouse$Press", name := "<init>", desc := "()V" } : Jvm.MethodName)) ∈ lw_all := lw_g (lw_at lw_m1 86 rfl) rfl
theorem q512 : (Jvm.Cond.code ({ cls := "TypeHouse$Press", name := "<init>", desc := "()V" } : Jvm.MethodName) prog_26_method_1_code (1 : Nat) (Option.none : Option Jvm.ClassFile.FieldType)) ∈ lw_all := lw_g (lw_at lw_m1 87 rfl) rfl
theorem q513 : (Jvm.Cond.methodLink "TypeHouse$Press" (5 : Nat) ({ cls := "java/lang/Object", name := "<init>", desc := "()V" } : Jvm.MethodName)) ∈ lw_all := lw_g (lw_at lw_m1 88 rfl) rfl
theorem q514 : (Jvm.Cond.classLink "TypeHouse$Press" (11 : Nat) "TypeHouse$Trouble") ∈ lw_all := lw_g (lw_at lw_m1 89 rfl) rfl
theorem q515 : (Jvm.Cond.instantiable "TypeHouse$Trouble" (1 : Nat)) ∈ lw_all := lw_g (lw_at lw_m1 90 rfl) rfl
theorem q516 : (Jvm.Cond.methodLinkNest "TypeHouse$Press" (13 : Nat) ({ cls := "TypeHouse$Trouble", name := "<init>", desc := "()V" } : Jvm.MethodName) "TypeHouse") ∈ lw_tbl := lw_at lw_m1 91 rfl
theorem q517 : (Jvm.Cond.instanceMethod ({ cls := "TypeHouse$Trouble", name := "<init>", desc := "()V" } : Jvm.MethodName)) ∈ lw_all := lw_g (lw_at lw_m1 92 rfl) rfl
theorem q518 : (Jvm.Cond.code ({ cls := "TypeHouse$Trouble", name := "<init>", desc := "()V" } : Jvm.MethodName) prog_34_method_1_code (1 : Nat) (Option.none : Option Jvm.ClassFile.FieldType)) ∈ lw_all := lw_g (lw_at lw_m1 93 rfl) rfl
theorem q519 : (Jvm.Cond.methodLink "TypeHouse$Trouble" (1 : Nat) ({ cls := "java/lang/Object", name := "<init>", desc := "()V" } : Jvm.MethodName)) ∈ lw_all := lw_g (lw_at lw_m1 94 rfl) rfl
theorem q526 : (Jvm.Cond.classLink "TypeHouse$Press" (20 : Nat) "TypeHouse$FontTable") ∈ lw_all := lw_g (lw_at lw_m1 101 rfl) rfl
theorem q527 : (Jvm.Cond.instantiable "TypeHouse$FontTable" (8 : Nat)) ∈ lw_all := lw_g (lw_at lw_m1 102 rfl) rfl
theorem q528 : (Jvm.Cond.methodLinkNest "TypeHouse$Press" (22 : Nat) ({ cls := "TypeHouse$FontTable", name := "<init>", desc := "()V" } : Jvm.MethodName) "TypeHouse") ∈ lw_tbl := lw_at lw_m1 103 rfl
theorem q529 : (Jvm.Cond.instanceMethod ({ cls := "TypeHouse$FontTable", name := "<init>", desc := "()V" } : Jvm.MethodName)) ∈ lw_all := lw_g (lw_at lw_m1 104 rfl) rfl
theorem q530 : (Jvm.Cond.code ({ cls := "TypeHouse$FontTable", name := "<init>", desc := "()V" } : Jvm.MethodName) prog_9_method_1_code (1 : Nat) (Option.none : Option Jvm.ClassFile.FieldType)) ∈ lw_all := lw_g (lw_at lw_m1 105 rfl) rfl
theorem q531 : (Jvm.Cond.methodLink "TypeHouse$FontTable" (3 : Nat) ({ cls := "java/lang/Object", name := "<init>", desc := "()V" } : Jvm.MethodName)) ∈ lw_all := lw_g (lw_at lw_m1 106 rfl) rfl
theorem q532 : (Jvm.Cond.classLink "TypeHouse$FontTable" (9 : Nat) "TypeHouse$FontFile") ∈ lw_all := lw_g (lw_at lw_m1 107 rfl) rfl
theorem q533 : (Jvm.Cond.arrayOver (Jvm.ClassFile.FieldType.object "TypeHouse$FontFile")) ∈ lw_tbl := lw_at lw_m1 108 rfl
theorem q534 : (Jvm.Cond.classLink "TypeHouse$FontTable" (17 : Nat) "TypeHouse$Font") ∈ lw_all := lw_g (lw_at lw_m1 109 rfl) rfl
theorem q535 : (Jvm.Cond.arrayOver (Jvm.ClassFile.FieldType.object "TypeHouse$Font")) ∈ lw_tbl := lw_at lw_m1 110 rfl
theorem q536 : (Jvm.Cond.instantiable "TypeHouse$Font" (11 : Nat)) ∈ lw_all := lw_g (lw_at lw_m1 111 rfl) rfl
theorem q537 : (Jvm.Cond.methodLinkNest "TypeHouse$FontTable" (34 : Nat) ({ cls := "TypeHouse$Font", name := "<init>", desc := "()V" } : Jvm.MethodName) "TypeHouse") ∈ lw_tbl := lw_at lw_m1 112 rfl
theorem q538 : (Jvm.Cond.instanceMethod ({ cls := "TypeHouse$Font", name := "<init>", desc := "()V" } : Jvm.MethodName)) ∈ lw_all := lw_g (lw_at lw_m1 113 rfl) rfl
theorem q539 : (Jvm.Cond.code ({ cls := "TypeHouse$Font", name := "<init>", desc := "()V" } : Jvm.MethodName) prog_7_method_1_code (1 : Nat) (Option.none : Option Jvm.ClassFile.FieldType)) ∈ lw_all := lw_g (lw_at lw_m1 114 rfl) rfl
theorem q540 : (Jvm.Cond.methodLink "TypeHouse$Font" (3 : Nat) ({ cls := "java/lang/Object", name := "<init>", desc := "()V" } : Jvm.MethodName)) ∈ lw_all := lw_g (lw_at lw_m1 115 rfl) rfl
theorem q541 : (Jvm.Cond.fieldLink "TypeHouse$Font" (9 : Nat) "TypeHouse$Font" "words" "[I") ∈ lw_all := lw_g (lw_at lw_m1 116 rfl) rfl
theorem q542 : (Jvm.Cond.fieldLink "TypeHouse$Font" (15 : Nat) "TypeHouse$Font" "scaled" "[I") ∈ lw_all := lw_g (lw_at lw_m1 117 rfl) rfl
theorem q544 : (Jvm.Cond.fieldLink "TypeHouse$Font" (18 : Nat) "TypeHouse$Font" "starts" "[I") ∈ lw_all := lw_g (lw_at lw_m1 119 rfl) rfl
theorem q546 : (Jvm.Cond.fieldLink "TypeHouse$Font" (21 : Nat) "TypeHouse$Font" "counts" "[I") ∈ lw_all := lw_g (lw_at lw_m1 121 rfl) rfl
theorem q582 : (Jvm.Cond.arrayClass Jvm.ClassFile.FieldType.int) ∈ lw_all := lw_g (lw_at lw_m1 157 rfl) rfl
theorem q583 : (Jvm.Cond.arrayClass Jvm.ClassFile.FieldType.boolean) ∈ lw_all := lw_g (lw_at lw_m1 158 rfl) rfl
theorem q584 : (Jvm.Cond.fieldLink "TypeHouse$FontTable" (11 : Nat) "TypeHouse$FontTable" "slots" "[LTypeHouse$FontFile;") ∈ lw_all := lw_g (lw_at lw_m1 159 rfl) rfl
theorem q586 : (Jvm.Cond.fieldLink "TypeHouse$FontTable" (19 : Nat) "TypeHouse$FontTable" "fonts" "[LTypeHouse$Font;") ∈ lw_all := lw_g (lw_at lw_m1 161 rfl) rfl
theorem q588 : (Jvm.Cond.fieldLink "TypeHouse$FontTable" (23 : Nat) "TypeHouse$FontTable" "slotOf" "[I") ∈ lw_all := lw_g (lw_at lw_m1 163 rfl) rfl
theorem q590 : (Jvm.Cond.fieldLink "TypeHouse$FontTable" (27 : Nat) "TypeHouse$FontTable" "used" "[Z") ∈ lw_all := lw_g (lw_at lw_m1 165 rfl) rfl
theorem q592 : (Jvm.Cond.fieldLink "TypeHouse$FontTable" (31 : Nat) "TypeHouse$FontTable" "order" "[I") ∈ lw_all := lw_g (lw_at lw_m1 167 rfl) rfl
theorem q596 : (Jvm.Cond.fieldLink "TypeHouse$FontTable" (35 : Nat) "TypeHouse$FontTable" "tried" "LTypeHouse$Font;") ∈ lw_all := lw_g (lw_at lw_m1 171 rfl) rfl
theorem q614 : (Jvm.Cond.classLink "TypeHouse$Press" (27 : Nat) "TypeHouse$Pool") ∈ lw_all := lw_g (lw_at lw_m1 189 rfl) rfl
theorem q615 : (Jvm.Cond.instantiable "TypeHouse$Pool" (4 : Nat)) ∈ lw_all := lw_g (lw_at lw_m1 190 rfl) rfl
theorem q616 : (Jvm.Cond.methodLinkNest "TypeHouse$Press" (29 : Nat) ({ cls := "TypeHouse$Pool", name := "<init>", desc := "()V" } : Jvm.MethodName) "TypeHouse") ∈ lw_tbl := lw_at lw_m1 191 rfl
theorem q617 : (Jvm.Cond.instanceMethod ({ cls := "TypeHouse$Pool", name := "<init>", desc := "()V" } : Jvm.MethodName)) ∈ lw_all := lw_g (lw_at lw_m1 192 rfl) rfl
theorem q618 : (Jvm.Cond.code ({ cls := "TypeHouse$Pool", name := "<init>", desc := "()V" } : Jvm.MethodName) prog_25_method_1_code (1 : Nat) (Option.none : Option Jvm.ClassFile.FieldType)) ∈ lw_all := lw_g (lw_at lw_m1 193 rfl) rfl
theorem q619 : (Jvm.Cond.methodLink "TypeHouse$Pool" (3 : Nat) ({ cls := "java/lang/Object", name := "<init>", desc := "()V" } : Jvm.MethodName)) ∈ lw_all := lw_g (lw_at lw_m1 194 rfl) rfl
theorem q620 : (Jvm.Cond.fieldLink "TypeHouse$Pool" (9 : Nat) "TypeHouse$Pool" "kinds" "[B") ∈ lw_all := lw_g (lw_at lw_m1 195 rfl) rfl
theorem q621 : (Jvm.Cond.fieldLink "TypeHouse$Pool" (15 : Nat) "TypeHouse$Pool" "numbers" "[I") ∈ lw_all := lw_g (lw_at lw_m1 196 rfl) rfl
theorem q622 : (Jvm.Cond.fieldLink "TypeHouse$Pool" (19 : Nat) "TypeHouse$Pool" "places" "[I") ∈ lw_all := lw_g (lw_at lw_m1 197 rfl) rfl
theorem q636 : (Jvm.Cond.classLink "TypeHouse$Press" (34 : Nat) "TypeHouse$Box") ∈ lw_all := lw_g (lw_at lw_m1 211 rfl) rfl
theorem q637 : (Jvm.Cond.arrayOver (Jvm.ClassFile.FieldType.object "TypeHouse$Box")) ∈ lw_tbl := lw_at lw_m1 212 rfl
theorem q638 : (Jvm.Cond.classLink "TypeHouse$Press" (40 : Nat) "TypeHouse$Expander") ∈ lw_all := lw_g (lw_at lw_m1 213 rfl) rfl
theorem q639 : (Jvm.Cond.instantiable "TypeHouse$Expander" (30 : Nat)) ∈ lw_all := lw_g (lw_at lw_m1 214 rfl) rfl
theorem q640 : (Jvm.Cond.methodLink "TypeHouse$Press" (42 : Nat) ({ cls := "TypeHouse$Expander", name := "<init>", desc := "(LTypeHouse$Trouble;LTypeHouse$FontTable;[LTypeHouse$Box;)V" } : Jvm.MethodName)) ∈ lw_all := lw_g (lw_at lw_m1 215 rfl) rfl
theorem q641 : (Jvm.Cond.instanceMethod ({ cls := "TypeHouse$Expander", name := "<init>", desc := "(LTypeHouse$Trouble;LTypeHouse$FontTable;[LTypeHouse$Box;)V" } : Jvm.MethodName)) ∈ lw_all := lw_g (lw_at lw_m1 216 rfl) rfl
theorem q642 : (Jvm.Cond.code ({ cls := "TypeHouse$Expander", name := "<init>", desc := "(LTypeHouse$Trouble;LTypeHouse$FontTable;[LTypeHouse$Box;)V" } : Jvm.MethodName) prog_4_method_1_code (4 : Nat) (Option.none : Option Jvm.ClassFile.FieldType)) ∈ lw_all := lw_g (lw_at lw_m1 217 rfl) rfl
theorem q643 : (Jvm.Cond.methodLink "TypeHouse$Expander" (3 : Nat) ({ cls := "java/lang/Object", name := "<init>", desc := "()V" } : Jvm.MethodName)) ∈ lw_all := lw_g (lw_at lw_m1 218 rfl) rfl
theorem q644 : (Jvm.Cond.classLink "TypeHouse$Expander" (9 : Nat) "TypeHouse$Settings") ∈ lw_all := lw_g (lw_at lw_m1 219 rfl) rfl
theorem q645 : (Jvm.Cond.instantiable "TypeHouse$Settings" (12 : Nat)) ∈ lw_all := lw_g (lw_at lw_m1 220 rfl) rfl
theorem q646 : (Jvm.Cond.methodLinkNest "TypeHouse$Expander" (11 : Nat) ({ cls := "TypeHouse$Settings", name := "<init>", desc := "()V" } : Jvm.MethodName) "TypeHouse") ∈ lw_tbl := lw_at lw_m1 221 rfl
theorem q647 : (Jvm.Cond.instanceMethod ({ cls := "TypeHouse$Settings", name := "<init>", desc := "()V" } : Jvm.MethodName)) ∈ lw_all := lw_g (lw_at lw_m1 222 rfl) rfl
theorem q648 : (Jvm.Cond.code ({ cls := "TypeHouse$Settings", name := "<init>", desc := "()V" } : Jvm.MethodName) prog_28_method_1_code (1 : Nat) (Option.none : Option Jvm.ClassFile.FieldType)) ∈ lw_all := lw_g (lw_at lw_m1 223 rfl) rfl
theorem q649 : (Jvm.Cond.methodLink "TypeHouse$Settings" (3 : Nat) ({ cls := "java/lang/Object", name := "<init>", desc := "()V" } : Jvm.MethodName)) ∈ lw_all := lw_g (lw_at lw_m1 224 rfl) rfl
theorem q650 : (Jvm.Cond.fieldLink "TypeHouse$Settings" (9 : Nat) "TypeHouse$Settings" "kinds" "[I") ∈ lw_all := lw_g (lw_at lw_m1 225 rfl) rfl
theorem q652 : (Jvm.Cond.fieldLink "TypeHouse$Settings" (15 : Nat) "TypeHouse$Settings" "values" "[I") ∈ lw_all := lw_g (lw_at lw_m1 227 rfl) rfl
theorem q654 : (Jvm.Cond.fieldLink "TypeHouse$Settings" (18 : Nat) "TypeHouse$Settings" "levels" "[I") ∈ lw_all := lw_g (lw_at lw_m1 229 rfl) rfl
theorem q655 : (Jvm.Cond.fieldLink "TypeHouse$Settings" (21 : Nat) "TypeHouse$Settings" "cells" "[I") ∈ lw_all := lw_g (lw_at lw_m1 230 rfl) rfl
theorem q659 : (Jvm.Cond.fieldLink "TypeHouse$Settings" (24 : Nat) "TypeHouse$Settings" "cellLevels" "[I") ∈ lw_all := lw_g (lw_at lw_m1 234 rfl) rfl
theorem q660 : (Jvm.Cond.fieldLink "TypeHouse$Settings" (27 : Nat) "TypeHouse$Settings" "saved" "[I") ∈ lw_all := lw_g (lw_at lw_m1 235 rfl) rfl
theorem q661 : (Jvm.Cond.fieldLink "TypeHouse$Settings" (54 : Nat) "TypeHouse$Settings" "size" "I") ∈ lw_all := lw_g (lw_at lw_m1 236 rfl) rfl
theorem q662 : (Jvm.Cond.fieldLink "TypeHouse$Settings" (30 : Nat) "TypeHouse$Settings" "cellPlaces" "[I") ∈ lw_all := lw_g (lw_at lw_m1 237 rfl) rfl
theorem q663 : (Jvm.Cond.fieldLink "TypeHouse$Settings" (33 : Nat) "TypeHouse$Settings" "places" "[I") ∈ lw_all := lw_g (lw_at lw_m1 238 rfl) rfl
theorem q664 : (Jvm.Cond.fieldLink "TypeHouse$Settings" (36 : Nat) "TypeHouse$Settings" "groupKinds" "[I") ∈ lw_all := lw_g (lw_at lw_m1 239 rfl) rfl
theorem q666 : (Jvm.Cond.fieldLink "TypeHouse$Settings" (39 : Nat) "TypeHouse$Settings" "marks" "[I") ∈ lw_all := lw_g (lw_at lw_m2 1 rfl) rfl
theorem q667 : (Jvm.Cond.fieldLink "TypeHouse$Settings" (58 : Nat) "TypeHouse$Settings" "level" "I") ∈ lw_all := lw_g (lw_at lw_m2 2 rfl) rfl
theorem q694 : (Jvm.Cond.classLink "TypeHouse$Expander" (63 : Nat) "TypeHouse$Names") ∈ lw_all := lw_g (lw_at lw_m2 29 rfl) rfl
theorem q695 : (Jvm.Cond.instantiable "TypeHouse$Names" (9 : Nat)) ∈ lw_all := lw_g (lw_at lw_m2 30 rfl) rfl
theorem q696 : (Jvm.Cond.methodLink "TypeHouse$Expander" (65 : Nat) ({ cls := "TypeHouse$Names", name := "<init>", desc := "(LTypeHouse$Trouble;)V" } : Jvm.MethodName)) ∈ lw_all := lw_g (lw_at lw_m2 31 rfl) rfl
theorem q697 : (Jvm.Cond.instanceMethod ({ cls := "TypeHouse$Names", name := "<init>", desc := "(LTypeHouse$Trouble;)V" } : Jvm.MethodName)) ∈ lw_all := lw_g (lw_at lw_m2 32 rfl) rfl
theorem q698 : (Jvm.Cond.code ({ cls := "TypeHouse$Names", name := "<init>", desc := "(LTypeHouse$Trouble;)V" } : Jvm.MethodName) prog_17_method_1_code (2 : Nat) (Option.none : Option Jvm.ClassFile.FieldType)) ∈ lw_all := lw_g (lw_at lw_m2 33 rfl) rfl
theorem q699 : (Jvm.Cond.methodLink "TypeHouse$Names" (3 : Nat) ({ cls := "java/lang/Object", name := "<init>", desc := "()V" } : Jvm.MethodName)) ∈ lw_all := lw_g (lw_at lw_m2 34 rfl) rfl
theorem q700 : (Jvm.Cond.fieldLink "TypeHouse$Names" (28 : Nat) "TypeHouse$Names" "trouble" "LTypeHouse$Trouble;") ∈ lw_all := lw_g (lw_at lw_m2 35 rfl) rfl
theorem q701 : (Jvm.Cond.fieldLink "TypeHouse$Names" (11 : Nat) "TypeHouse$Names" "table" "[I") ∈ lw_all := lw_g (lw_at lw_m2 36 rfl) rfl
theorem q702 : (Jvm.Cond.fieldLink "TypeHouse$Names" (15 : Nat) "TypeHouse$Names" "begins" "[I") ∈ lw_all := lw_g (lw_at lw_m2 37 rfl) rfl
theorem q703 : (Jvm.Cond.fieldLink "TypeHouse$Names" (18 : Nat) "TypeHouse$Names" "sizes" "[I") ∈ lw_all := lw_g (lw_at lw_m2 38 rfl) rfl
theorem q705 : (Jvm.Cond.fieldLink "TypeHouse$Names" (21 : Nat) "TypeHouse$Names" "letters" "[B") ∈ lw_all := lw_g (lw_at lw_m2 40 rfl) rfl
theorem q706 : (Jvm.Cond.fieldLink "TypeHouse$Names" (36 : Nat) "TypeHouse$Names" "used" "I") ∈ lw_all := lw_g (lw_at lw_m2 41 rfl) rfl
theorem q707 : (Jvm.Cond.fieldLink "TypeHouse$Names" (32 : Nat) "TypeHouse$Names" "count" "I") ∈ lw_all := lw_g (lw_at lw_m2 42 rfl) rfl
theorem q709 : (Jvm.Cond.fieldLink "TypeHouse$Names" (25 : Nat) "TypeHouse$Names" "scratch" "[B") ∈ lw_all := lw_g (lw_at lw_m2 44 rfl) rfl
theorem q710 : (Jvm.Cond.fieldLink "TypeHouse$Names" (39 : Nat) "TypeHouse$Names" "size" "I") ∈ lw_all := lw_g (lw_at lw_m2 45 rfl) rfl
theorem q730 : (Jvm.Cond.classLink "TypeHouse$Expander" (72 : Nat) "TypeHouse$SourceLines") ∈ lw_all := lw_g (lw_at lw_m2 65 rfl) rfl
theorem q731 : (Jvm.Cond.instantiable "TypeHouse$SourceLines" (10 : Nat)) ∈ lw_all := lw_g (lw_at lw_m2 66 rfl) rfl
theorem q732 : (Jvm.Cond.methodLink "TypeHouse$Expander" (74 : Nat) ({ cls := "TypeHouse$SourceLines", name := "<init>", desc := "(LTypeHouse$Trouble;LTypeHouse$Names;LTypeHouse$Settings;)V" } : Jvm.MethodName)) ∈ lw_all := lw_g (lw_at lw_m2 67 rfl) rfl
theorem q733 : (Jvm.Cond.instanceMethod ({ cls := "TypeHouse$SourceLines", name := "<init>", desc := "(LTypeHouse$Trouble;LTypeHouse$Names;LTypeHouse$Settings;)V" } : Jvm.MethodName)) ∈ lw_all := lw_g (lw_at lw_m2 68 rfl) rfl
theorem q734 : (Jvm.Cond.code ({ cls := "TypeHouse$SourceLines", name := "<init>", desc := "(LTypeHouse$Trouble;LTypeHouse$Names;LTypeHouse$Settings;)V" } : Jvm.MethodName) prog_29_method_1_code (4 : Nat) (Option.none : Option Jvm.ClassFile.FieldType)) ∈ lw_all := lw_g (lw_at lw_m2 69 rfl) rfl
theorem q735 : (Jvm.Cond.methodLink "TypeHouse$SourceLines" (3 : Nat) ({ cls := "java/lang/Object", name := "<init>", desc := "()V" } : Jvm.MethodName)) ∈ lw_all := lw_g (lw_at lw_m2 70 rfl) rfl
theorem q736 : (Jvm.Cond.constant "TypeHouse$SourceLines" (9 : Nat) (65536 : Int32)) ∈ lw_all := lw_g (lw_at lw_m2 71 rfl) rfl
theorem q737 : (Jvm.Cond.fieldLink "TypeHouse$SourceLines" (16 : Nat) "TypeHouse$SourceLines" "trouble" "LTypeHouse$Trouble;") ∈ lw_all := lw_g (lw_at lw_m2 72 rfl) rfl
theorem q738 : (Jvm.Cond.fieldLink "TypeHouse$SourceLines" (20 : Nat) "TypeHouse$SourceLines" "names" "LTypeHouse$Names;") ∈ lw_all := lw_g (lw_at lw_m2 73 rfl) rfl
theorem q739 : (Jvm.Cond.fieldLink "TypeHouse$SourceLines" (24 : Nat) "TypeHouse$SourceLines" "settings" "LTypeHouse$Settings;") ∈ lw_all := lw_g (lw_at lw_m2 74 rfl) rfl
theorem q740 : (Jvm.Cond.fieldLink "TypeHouse$SourceLines" (10 : Nat) "TypeHouse$SourceLines" "text" "[B") ∈ lw_all := lw_g (lw_at lw_m2 75 rfl) rfl
theorem q771 : (Jvm.Cond.classLink "TypeHouse$Expander" (81 : Nat) "TypeHouse$Macros") ∈ lw_all := lw_g (lw_at lw_m2 106 rfl) rfl
theorem q772 : (Jvm.Cond.instantiable "TypeHouse$Macros" (8 : Nat)) ∈ lw_all := lw_g (lw_at lw_m2 107 rfl) rfl
theorem q773 : (Jvm.Cond.methodLink "TypeHouse$Expander" (83 : Nat) ({ cls := "TypeHouse$Macros", name := "<init>", desc := "(LTypeHouse$Trouble;)V" } : Jvm.MethodName)) ∈ lw_all := lw_g (lw_at lw_m2 108 rfl) rfl
theorem q774 : (Jvm.Cond.instanceMethod ({ cls := "TypeHouse$Macros", name := "<init>", desc := "(LTypeHouse$Trouble;)V" } : Jvm.MethodName)) ∈ lw_all := lw_g (lw_at lw_m2 109 rfl) rfl
theorem q775 : (Jvm.Cond.code ({ cls := "TypeHouse$Macros", name := "<init>", desc := "(LTypeHouse$Trouble;)V" } : Jvm.MethodName) prog_14_method_1_code (2 : Nat) (Option.none : Option Jvm.ClassFile.FieldType)) ∈ lw_all := lw_g (lw_at lw_m2 110 rfl) rfl
theorem q776 : (Jvm.Cond.methodLink "TypeHouse$Macros" (3 : Nat) ({ cls := "java/lang/Object", name := "<init>", desc := "()V" } : Jvm.MethodName)) ∈ lw_all := lw_g (lw_at lw_m2 111 rfl) rfl
theorem q777 : (Jvm.Cond.fieldLink "TypeHouse$Macros" (27 : Nat) "TypeHouse$Macros" "trouble" "LTypeHouse$Trouble;") ∈ lw_all := lw_g (lw_at lw_m2 112 rfl) rfl
theorem q778 : (Jvm.Cond.fieldLink "TypeHouse$Macros" (9 : Nat) "TypeHouse$Macros" "pool" "[I") ∈ lw_all := lw_g (lw_at lw_m2 113 rfl) rfl
theorem q783 : (Jvm.Cond.fieldLink "TypeHouse$Macros" (15 : Nat) "TypeHouse$Macros" "begins" "[I") ∈ lw_all := lw_g (lw_at lw_m2 118 rfl) rfl
theorem q785 : (Jvm.Cond.fieldLink "TypeHouse$Macros" (18 : Nat) "TypeHouse$Macros" "bodies" "[I") ∈ lw_all := lw_g (lw_at lw_m2 120 rfl) rfl
theorem q788 : (Jvm.Cond.fieldLink "TypeHouse$Macros" (21 : Nat) "TypeHouse$Macros" "ends" "[I") ∈ lw_all := lw_g (lw_at lw_m2 123 rfl) rfl
theorem q790 : (Jvm.Cond.fieldLink "TypeHouse$Macros" (24 : Nat) "TypeHouse$Macros" "parameters" "[I") ∈ lw_all := lw_g (lw_at lw_m2 125 rfl) rfl
theorem q811 : (Jvm.Cond.classLink "TypeHouse$Expander" (88 : Nat) "TypeHouse$Tokens") ∈ lw_all := lw_g (lw_at lw_m2 146 rfl) rfl
theorem q812 : (Jvm.Cond.instantiable "TypeHouse$Tokens" (4 : Nat)) ∈ lw_all := lw_g (lw_at lw_m2 147 rfl) rfl
theorem q813 : (Jvm.Cond.methodLink "TypeHouse$Expander" (90 : Nat) ({ cls := "TypeHouse$Tokens", name := "<init>", desc := "(LTypeHouse$Macros;LTypeHouse$SourceLines;)V" } : Jvm.MethodName)) ∈ lw_all := lw_g (lw_at lw_m2 148 rfl) rfl
theorem q814 : (Jvm.Cond.instanceMethod ({ cls := "TypeHouse$Tokens", name := "<init>", desc := "(LTypeHouse$Macros;LTypeHouse$SourceLines;)V" } : Jvm.MethodName)) ∈ lw_all := lw_g (lw_at lw_m2 149 rfl) rfl
theorem q815 : (Jvm.Cond.code ({ cls := "TypeHouse$Tokens", name := "<init>", desc := "(LTypeHouse$Macros;LTypeHouse$SourceLines;)V" } : Jvm.MethodName) prog_31_method_1_code (3 : Nat) (Option.none : Option Jvm.ClassFile.FieldType)) ∈ lw_all := lw_g (lw_at lw_m2 150 rfl) rfl
theorem q816 : (Jvm.Cond.methodLink "TypeHouse$Tokens" (3 : Nat) ({ cls := "java/lang/Object", name := "<init>", desc := "()V" } : Jvm.MethodName)) ∈ lw_all := lw_g (lw_at lw_m2 151 rfl) rfl
theorem q817 : (Jvm.Cond.fieldLink "TypeHouse$Tokens" (15 : Nat) "TypeHouse$Tokens" "macros" "LTypeHouse$Macros;") ∈ lw_all := lw_g (lw_at lw_m2 152 rfl) rfl
theorem q818 : (Jvm.Cond.fieldLink "TypeHouse$Tokens" (19 : Nat) "TypeHouse$Tokens" "lines" "LTypeHouse$SourceLines;") ∈ lw_all := lw_g (lw_at lw_m2 153 rfl) rfl
theorem q819 : (Jvm.Cond.fieldLink "TypeHouse$Tokens" (9 : Nat) "TypeHouse$Tokens" "row" "[I") ∈ lw_all := lw_g (lw_at lw_m2 154 rfl) rfl
theorem q831 : (Jvm.Cond.fieldLink "TypeHouse$Expander" (51 : Nat) "TypeHouse$Expander" "trouble" "LTypeHouse$Trouble;") ∈ lw_all := lw_g (lw_at lw_m2 166 rfl) rfl
theorem q832 : (Jvm.Cond.fieldLink "TypeHouse$Expander" (55 : Nat) "TypeHouse$Expander" "fonts" "LTypeHouse$FontTable;") ∈ lw_all := lw_g (lw_at lw_m2 167 rfl) rfl
theorem q833 : (Jvm.Cond.fieldLink "TypeHouse$Expander" (59 : Nat) "TypeHouse$Expander" "boxes" "[LTypeHouse$Box;") ∈ lw_all := lw_g (lw_at lw_m2 168 rfl) rfl
theorem q834 : (Jvm.Cond.fieldLink "TypeHouse$Expander" (68 : Nat) "TypeHouse$Expander" "names" "LTypeHouse$Names;") ∈ lw_all := lw_g (lw_at lw_m2 169 rfl) rfl
theorem q835 : (Jvm.Cond.fieldLink "TypeHouse$Expander" (12 : Nat) "TypeHouse$Expander" "settings" "LTypeHouse$Settings;") ∈ lw_all := lw_g (lw_at lw_m2 170 rfl) rfl
theorem q836 : (Jvm.Cond.fieldLinkNest "TypeHouse$Press" (49 : Nat) "TypeHouse$Expander" "settings" "LTypeHouse$Settings;" "TypeHouse") ∈ lw_tbl := lw_at lw_m2 171 rfl
theorem q837 : (Jvm.Cond.fieldLink "TypeHouse$Expander" (77 : Nat) "TypeHouse$Expander" "lines" "LTypeHouse$SourceLines;") ∈ lw_all := lw_g (lw_at lw_m2 172 rfl) rfl
theorem q840 : (Jvm.Cond.fieldLink "TypeHouse$Expander" (84 : Nat) "TypeHouse$Expander" "macros" "LTypeHouse$Macros;") ∈ lw_all := lw_g (lw_at lw_m2 175 rfl) rfl
theorem q841 : (Jvm.Cond.fieldLink "TypeHouse$Expander" (93 : Nat) "TypeHouse$Expander" "source" "LTypeHouse$Tokens;") ∈ lw_all := lw_g (lw_at lw_m2 176 rfl) rfl
theorem q849 : (Jvm.Cond.fieldLink "TypeHouse$Expander" (18 : Nat) "TypeHouse$Expander" "decided" "[Z") ∈ lw_all := lw_g (lw_at lw_m2 184 rfl) rfl
theorem q850 : (Jvm.Cond.fieldLink "TypeHouse$Expander" (22 : Nat) "TypeHouse$Expander" "ofCases" "[Z") ∈ lw_all := lw_g (lw_at lw_m2 185 rfl) rfl
theorem q851 : (Jvm.Cond.fieldLink "TypeHouse$Expander" (25 : Nat) "TypeHouse$Expander" "behindElse" "[Z") ∈ lw_all := lw_g (lw_at lw_m2 186 rfl) rfl
theorem q854 : (Jvm.Cond.fieldLink "TypeHouse$Expander" (28 : Nat) "TypeHouse$Expander" "got" "[I") ∈ lw_all := lw_g (lw_at lw_m2 189 rfl) rfl
theorem q856 : (Jvm.Cond.fieldLink "TypeHouse$Expander" (32 : Nat) "TypeHouse$Expander" "until" "[I") ∈ lw_all := lw_g (lw_at lw_m2 191 rfl) rfl
theorem q857 : (Jvm.Cond.fieldLink "TypeHouse$Expander" (35 : Nat) "TypeHouse$Expander" "digits" "[I") ∈ lw_all := lw_g (lw_at lw_m2 192 rfl) rfl
theorem q858 : (Jvm.Cond.fieldLink "TypeHouse$Expander" (38 : Nat) "TypeHouse$Expander" "worths" "[I") ∈ lw_all := lw_g (lw_at lw_m2 193 rfl) rfl
theorem q859 : (Jvm.Cond.fieldLink "TypeHouse$Expander" (41 : Nat) "TypeHouse$Expander" "made" "[B") ∈ lw_all := lw_g (lw_at lw_m2 194 rfl) rfl
theorem q861 : (Jvm.Cond.fieldLink "TypeHouse$Expander" (45 : Nat) "TypeHouse$Expander" "held" "[I") ∈ lw_all := lw_g (lw_at lw_m2 196 rfl) rfl
theorem q867 : (Jvm.Cond.fieldLink "TypeHouse$Expander" (48 : Nat) "TypeHouse$Expander" "read" "[I") ∈ lw_all := lw_g (lw_at lw_m2 202 rfl) rfl
theorem q930 : (Jvm.Cond.classLink "TypeHouse$Press" (54 : Nat) "TypeHouse$Hyphenator") ∈ lw_all := lw_g (lw_at lw_m3 25 rfl) rfl
theorem q931 : (Jvm.Cond.instantiable "TypeHouse$Hyphenator" (8 : Nat)) ∈ lw_all := lw_g (lw_at lw_m3 26 rfl) rfl
theorem q932 : (Jvm.Cond.methodLinkNest "TypeHouse$Press" (56 : Nat) ({ cls := "TypeHouse$Hyphenator", name := "<init>", desc := "()V" } : Jvm.MethodName) "TypeHouse") ∈ lw_tbl := lw_at lw_m3 27 rfl
theorem q933 : (Jvm.Cond.instanceMethod ({ cls := "TypeHouse$Hyphenator", name := "<init>", desc := "()V" } : Jvm.MethodName)) ∈ lw_all := lw_g (lw_at lw_m3 28 rfl) rfl
theorem q934 : (Jvm.Cond.code ({ cls := "TypeHouse$Hyphenator", name := "<init>", desc := "()V" } : Jvm.MethodName) prog_10_method_1_code (1 : Nat) (Option.none : Option Jvm.ClassFile.FieldType)) ∈ lw_all := lw_g (lw_at lw_m3 29 rfl) rfl
theorem q935 : (Jvm.Cond.methodLink "TypeHouse$Hyphenator" (3 : Nat) ({ cls := "java/lang/Object", name := "<init>", desc := "()V" } : Jvm.MethodName)) ∈ lw_all := lw_g (lw_at lw_m3 30 rfl) rfl
theorem q936 : (Jvm.Cond.classLink "TypeHouse$Hyphenator" (9 : Nat) "TypeHouse$Trie") ∈ lw_all := lw_g (lw_at lw_m3 31 rfl) rfl
theorem q937 : (Jvm.Cond.instantiable "TypeHouse$Trie" (25 : Nat)) ∈ lw_all := lw_g (lw_at lw_m3 32 rfl) rfl
theorem q938 : (Jvm.Cond.methodLink "TypeHouse$Hyphenator" (11 : Nat) ({ cls := "TypeHouse$Trie", name := "<init>", desc := "()V" } : Jvm.MethodName)) ∈ lw_all := lw_g (lw_at lw_m3 33 rfl) rfl
theorem q939 : (Jvm.Cond.instanceMethod ({ cls := "TypeHouse$Trie", name := "<init>", desc := "()V" } : Jvm.MethodName)) ∈ lw_all := lw_g (lw_at lw_m3 34 rfl) rfl
theorem q940 : (Jvm.Cond.code ({ cls := "TypeHouse$Trie", name := "<init>", desc := "()V" } : Jvm.MethodName) prog_33_method_1_code (1 : Nat) (Option.none : Option Jvm.ClassFile.FieldType)) ∈ lw_all := lw_g (lw_at lw_m3 35 rfl) rfl
theorem q941 : (Jvm.Cond.methodLink "TypeHouse$Trie" (3 : Nat) ({ cls := "java/lang/Object", name := "<init>", desc := "()V" } : Jvm.MethodName)) ∈ lw_all := lw_g (lw_at lw_m3 36 rfl) rfl
theorem q942 : (Jvm.Cond.methodLink "TypeHouse$Trie" (53 : Nat) ({ cls := "TypeHouse$Trie", name := "clear", desc := "()V" } : Jvm.MethodName)) ∈ lw_all := lw_g (lw_at lw_m3 37 rfl) rfl
theorem q943 : (Jvm.Cond.instanceMethod ({ cls := "TypeHouse$Trie", name := "clear", desc := "()V" } : Jvm.MethodName)) ∈ lw_all := lw_g (lw_at lw_m3 38 rfl) rfl
theorem q944 : (Jvm.Cond.selects "TypeHouse$Trie" ({ cls := "TypeHouse$Trie", name := "clear", desc := "()V" } : Jvm.MethodName) ({ cls := "TypeHouse$Trie", name := "clear", desc := "()V" } : Jvm.MethodName)) ∈ lw_all := lw_g (lw_at lw_m3 39 rfl) rfl
theorem q945 : (Jvm.Cond.code ({ cls := "TypeHouse$Trie", name := "clear", desc := "()V" } : Jvm.MethodName) prog_33_method_2_code (2 : Nat) (Option.none : Option Jvm.ClassFile.FieldType)) ∈ lw_all := lw_g (lw_at lw_m3 40 rfl) rfl
theorem q946 : (Jvm.Cond.methodLink "TypeHouse$Trie" (69 : Nat) ({ cls := "TypeHouse$Trie", name := "fresh", desc := "(I)I" } : Jvm.MethodName)) ∈ lw_all := lw_g (lw_at lw_m3 41 rfl) rfl
theorem q948 : (Jvm.Cond.instanceMethod ({ cls := "TypeHouse$Trie", name := "fresh", desc := "(I)I" } : Jvm.MethodName)) ∈ lw_all := lw_g (lw_at lw_m3 43 rfl) rfl
theorem q949 : (Jvm.Cond.code ({ cls := "TypeHouse$Trie", name := "fresh", desc := "(I)I" } : Jvm.MethodName) prog_33_method_3_code (3 : Nat) (Option.some Jvm.ClassFile.FieldType.int)) ∈ lw_all := lw_g (lw_at lw_m3 44 rfl) rfl
theorem q950 : (Jvm.Cond.methodLinkNest "TypeHouse$Trie" (77 : Nat) ({ cls := "TypeHouse", name := "grown", desc := "([II)[I" } : Jvm.MethodName) "TypeHouse") ∈ lw_tbl := lw_at lw_m3 45 rfl
theorem q951 : (Jvm.Cond.static ({ cls := "TypeHouse", name := "grown", desc := "([II)[I" } : Jvm.MethodName)) ∈ lw_all := lw_g (lw_at lw_m3 46 rfl) rfl
theorem q952 : (Jvm.Cond.code ({ cls := "TypeHouse", name := "grown", desc := "([II)[I" } : Jvm.MethodName) prog_1_method_3_code (3 : Nat) (Option.some (Jvm.ClassFile.FieldType.array Jvm.ClassFile.FieldType.int))) ∈ lw_all := lw_g (lw_at lw_m3 47 rfl) rfl
theorem q953 : (Jvm.Cond.methodLink "TypeHouse" (10 : Nat) ({ cls := "java/lang/System", name := "arraycopy", desc := "(Ljava/lang/Object;ILjava/lang/Object;II)V" } : Jvm.MethodName)) ∈ lw_all := lw_g (lw_at lw_m3 48 rfl) rfl
theorem q954 : (Jvm.Cond.static ({ cls := "java/lang/System", name := "arraycopy", desc := "(Ljava/lang/Object;ILjava/lang/Object;II)V" } : Jvm.MethodName)) ∈ lw_all := lw_g (lw_at lw_m3 49 rfl) rfl
theorem q955 : (Jvm.Cond.native ({ cls := "java/lang/System", name := "arraycopy", desc := "(Ljava/lang/Object;ILjava/lang/Object;II)V" } : Jvm.MethodName)) ∈ lw_all := lw_g (lw_at lw_m3 50 rfl) rfl
theorem q956 : (Jvm.Cond.methodLink "TypeHouse$Trie" (81 : Nat) ({ cls := "java/lang/System", name := "arraycopy", desc := "(Ljava/lang/Object;ILjava/lang/Object;II)V" } : Jvm.MethodName)) ∈ lw_all := lw_g (lw_at lw_m3 51 rfl) rfl
theorem q957 : (Jvm.Cond.fieldLink "TypeHouse$Trie" (9 : Nat) "TypeHouse$Trie" "first" "[I") ∈ lw_all := lw_g (lw_at lw_m3 52 rfl) rfl
theorem q958 : (Jvm.Cond.fieldLink "TypeHouse$Trie" (15 : Nat) "TypeHouse$Trie" "beside" "[I") ∈ lw_all := lw_g (lw_at lw_m3 53 rfl) rfl
theorem q959 : (Jvm.Cond.fieldLink "TypeHouse$Trie" (18 : Nat) "TypeHouse$Trie" "letter" "[B") ∈ lw_all := lw_g (lw_at lw_m3 54 rfl) rfl
theorem q960 : (Jvm.Cond.fieldLink "TypeHouse$Trie" (22 : Nat) "TypeHouse$Trie" "says" "[I") ∈ lw_all := lw_g (lw_at lw_m3 55 rfl) rfl
theorem q961 : (Jvm.Cond.fieldLink "TypeHouse$Trie" (25 : Nat) "TypeHouse$Trie" "behind" "[I") ∈ lw_all := lw_g (lw_at lw_m3 56 rfl) rfl
theorem q962 : (Jvm.Cond.fieldLink "TypeHouse$Trie" (56 : Nat) "TypeHouse$Trie" "nodes" "I") ∈ lw_all := lw_g (lw_at lw_m3 57 rfl) rfl
theorem q963 : (Jvm.Cond.fieldLink "TypeHouse$Trie" (28 : Nat) "TypeHouse$Trie" "far" "[I") ∈ lw_all := lw_g (lw_at lw_m3 58 rfl) rfl
theorem q964 : (Jvm.Cond.fieldLink "TypeHouse$Trie" (31 : Nat) "TypeHouse$Trie" "number" "[I") ∈ lw_all := lw_g (lw_at lw_m3 59 rfl) rfl
theorem q965 : (Jvm.Cond.fieldLink "TypeHouse$Trie" (34 : Nat) "TypeHouse$Trie" "next" "[I") ∈ lw_all := lw_g (lw_at lw_m3 60 rfl) rfl
theorem q966 : (Jvm.Cond.fieldLink "TypeHouse$Trie" (60 : Nat) "TypeHouse$Trie" "links" "I") ∈ lw_all := lw_g (lw_at lw_m3 61 rfl) rfl
theorem q967 : (Jvm.Cond.fieldLink "TypeHouse$Trie" (37 : Nat) "TypeHouse$Trie" "check" "[I") ∈ lw_all := lw_g (lw_at lw_m3 62 rfl) rfl
theorem q968 : (Jvm.Cond.fieldLink "TypeHouse$Trie" (40 : Nat) "TypeHouse$Trie" "node" "[I") ∈ lw_all := lw_g (lw_at lw_m3 63 rfl) rfl
theorem q969 : (Jvm.Cond.fieldLink "TypeHouse$Trie" (43 : Nat) "TypeHouse$Trie" "base" "[I") ∈ lw_all := lw_g (lw_at lw_m3 64 rfl) rfl
theorem q970 : (Jvm.Cond.fieldLink "TypeHouse$Trie" (46 : Nat) "TypeHouse$Trie" "taken" "[Z") ∈ lw_all := lw_g (lw_at lw_m3 65 rfl) rfl
theorem q972 : (Jvm.Cond.fieldLink "TypeHouse$Trie" (73 : Nat) "TypeHouse$Trie" "packed" "Z") ∈ lw_all := lw_g (lw_at lw_m3 67 rfl) rfl
theorem q973 : (Jvm.Cond.fieldLink "TypeHouse$Trie" (63 : Nat) "TypeHouse$Trie" "patterns" "I") ∈ lw_all := lw_g (lw_at lw_m3 68 rfl) rfl
theorem q975 : (Jvm.Cond.fieldLink "TypeHouse$Trie" (66 : Nat) "TypeHouse$Trie" "letters" "I") ∈ lw_all := lw_g (lw_at lw_m3 70 rfl) rfl
theorem q977 : (Jvm.Cond.fieldLink "TypeHouse$Trie" (50 : Nat) "TypeHouse$Trie" "since" "[I") ∈ lw_all := lw_g (lw_at lw_m3 72 rfl) rfl
theorem q1035 : (Jvm.Cond.classLink "TypeHouse$Hyphenator" (18 : Nat) "TypeHouse$ToldWords") ∈ lw_all := lw_g (lw_at lw_m3 130 rfl) rfl
theorem q1036 : (Jvm.Cond.instantiable "TypeHouse$ToldWords" (12 : Nat)) ∈ lw_all := lw_g (lw_at lw_m3 131 rfl) rfl
theorem q1037 : (Jvm.Cond.methodLinkNest "TypeHouse$Hyphenator" (20 : Nat) ({ cls := "TypeHouse$ToldWords", name := "<init>", desc := "()V" } : Jvm.MethodName) "TypeHouse") ∈ lw_tbl := lw_at lw_m3 132 rfl
theorem q1038 : (Jvm.Cond.instanceMethod ({ cls := "TypeHouse$ToldWords", name := "<init>", desc := "()V" } : Jvm.MethodName)) ∈ lw_all := lw_g (lw_at lw_m3 133 rfl) rfl
theorem q1039 : (Jvm.Cond.code ({ cls := "TypeHouse$ToldWords", name := "<init>", desc := "()V" } : Jvm.MethodName) prog_32_method_1_code (1 : Nat) (Option.none : Option Jvm.ClassFile.FieldType)) ∈ lw_all := lw_g (lw_at lw_m3 134 rfl) rfl
theorem q1040 : (Jvm.Cond.methodLink "TypeHouse$ToldWords" (3 : Nat) ({ cls := "java/lang/Object", name := "<init>", desc := "()V" } : Jvm.MethodName)) ∈ lw_all := lw_g (lw_at lw_m3 135 rfl) rfl
theorem q1041 : (Jvm.Cond.constant "TypeHouse$ToldWords" (29 : Nat) (32769 : Int32)) ∈ lw_all := lw_g (lw_at lw_m3 136 rfl) rfl
theorem q1042 : (Jvm.Cond.fieldLink "TypeHouse$ToldWords" (11 : Nat) "TypeHouse$ToldWords" "table" "[I") ∈ lw_all := lw_g (lw_at lw_m3 137 rfl) rfl
theorem q1043 : (Jvm.Cond.fieldLink "TypeHouse$ToldWords" (15 : Nat) "TypeHouse$ToldWords" "begins" "[I") ∈ lw_all := lw_g (lw_at lw_m3 138 rfl) rfl
theorem q1044 : (Jvm.Cond.fieldLink "TypeHouse$ToldWords" (18 : Nat) "TypeHouse$ToldWords" "sizes" "[I") ∈ lw_all := lw_g (lw_at lw_m3 139 rfl) rfl
theorem q1045 : (Jvm.Cond.fieldLink "TypeHouse$ToldWords" (21 : Nat) "TypeHouse$ToldWords" "hyphens" "[J") ∈ lw_all := lw_g (lw_at lw_m3 140 rfl) rfl
theorem q1046 : (Jvm.Cond.fieldLink "TypeHouse$ToldWords" (25 : Nat) "TypeHouse$ToldWords" "letters" "[B") ∈ lw_all := lw_g (lw_at lw_m3 141 rfl) rfl
theorem q1053 : (Jvm.Cond.fieldLink "TypeHouse$ToldWords" (30 : Nat) "TypeHouse$ToldWords" "changed" "[I") ∈ lw_all := lw_g (lw_at lw_m3 148 rfl) rfl
theorem q1054 : (Jvm.Cond.fieldLink "TypeHouse$ToldWords" (33 : Nat) "TypeHouse$ToldWords" "had" "[J") ∈ lw_all := lw_g (lw_at lw_m3 149 rfl) rfl
theorem q1081 : (Jvm.Cond.arrayClass Jvm.ClassFile.FieldType.long) ∈ lw_all := lw_g (lw_at lw_m3 176 rfl) rfl
theorem q1082 : (Jvm.Cond.classLink "TypeHouse$Hyphenator" (25 : Nat) "TypeHouse$Letters") ∈ lw_all := lw_g (lw_at lw_m3 177 rfl) rfl
theorem q1083 : (Jvm.Cond.instantiable "TypeHouse$Letters" (3 : Nat)) ∈ lw_all := lw_g (lw_at lw_m3 178 rfl) rfl
theorem q1084 : (Jvm.Cond.methodLinkNest "TypeHouse$Hyphenator" (27 : Nat) ({ cls := "TypeHouse$Letters", name := "<init>", desc := "()V" } : Jvm.MethodName) "TypeHouse") ∈ lw_tbl := lw_at lw_m3 179 rfl
theorem q1085 : (Jvm.Cond.instanceMethod ({ cls := "TypeHouse$Letters", name := "<init>", desc := "()V" } : Jvm.MethodName)) ∈ lw_all := lw_g (lw_at lw_m3 180 rfl) rfl
theorem q1086 : (Jvm.Cond.code ({ cls := "TypeHouse$Letters", name := "<init>", desc := "()V" } : Jvm.MethodName) prog_12_method_1_code (1 : Nat) (Option.none : Option Jvm.ClassFile.FieldType)) ∈ lw_all := lw_g (lw_at lw_m3 181 rfl) rfl
theorem q1087 : (Jvm.Cond.methodLink "TypeHouse$Letters" (3 : Nat) ({ cls := "java/lang/Object", name := "<init>", desc := "()V" } : Jvm.MethodName)) ∈ lw_all := lw_g (lw_at lw_m3 182 rfl) rfl
theorem q1088 : (Jvm.Cond.fieldLink "TypeHouse$Letters" (9 : Nat) "TypeHouse$Letters" "letters" "[B") ∈ lw_all := lw_g (lw_at lw_m3 183 rfl) rfl
theorem q1091 : (Jvm.Cond.fieldLink "TypeHouse$Letters" (15 : Nat) "TypeHouse$Letters" "numbers" "[B") ∈ lw_all := lw_g (lw_at lw_m3 186 rfl) rfl
theorem q1106 : (Jvm.Cond.fieldLink "TypeHouse$Hyphenator" (12 : Nat) "TypeHouse$Hyphenator" "trie" "LTypeHouse$Trie;") ∈ lw_all := lw_g (lw_at lw_m3 201 rfl) rfl
theorem q1107 : (Jvm.Cond.fieldLink "TypeHouse$Hyphenator" (21 : Nat) "TypeHouse$Hyphenator" "words" "LTypeHouse$ToldWords;") ∈ lw_all := lw_g (lw_at lw_m3 202 rfl) rfl
theorem q1108 : (Jvm.Cond.fieldLink "TypeHouse$Hyphenator" (28 : Nat) "TypeHouse$Hyphenator" "row" "LTypeHouse$Letters;") ∈ lw_all := lw_g (lw_at lw_m3 203 rfl) rfl
theorem q1109 : (Jvm.Cond.fieldLink "TypeHouse$Hyphenator" (32 : Nat) "TypeHouse$Hyphenator" "edged" "LTypeHouse$Letters;") ∈ lw_all := lw_g (lw_at lw_m3 204 rfl) rfl
theorem q1131 : (Jvm.Cond.classLink "TypeHouse$Press" (61 : Nat) "TypeHouse$Setter") ∈ lw_all := lw_g (lw_at lw_m3 226 rfl) rfl
theorem q1132 : (Jvm.Cond.instantiable "TypeHouse$Setter" (6 : Nat)) ∈ lw_all := lw_g (lw_at lw_m3 227 rfl) rfl
theorem q1133 : (Jvm.Cond.methodLinkNest "TypeHouse$Press" (63 : Nat) ({ cls := "TypeHouse$Setter", name := "<init>", desc := "()V" } : Jvm.MethodName) "TypeHouse") ∈ lw_tbl := lw_at lw_m3 228 rfl
theorem q1134 : (Jvm.Cond.instanceMethod ({ cls := "TypeHouse$Setter", name := "<init>", desc := "()V" } : Jvm.MethodName)) ∈ lw_all := lw_g (lw_at lw_m3 229 rfl) rfl
theorem q1135 : (Jvm.Cond.code ({ cls := "TypeHouse$Setter", name := "<init>", desc := "()V" } : Jvm.MethodName) prog_27_method_1_code (1 : Nat) (Option.none : Option Jvm.ClassFile.FieldType)) ∈ lw_all := lw_g (lw_at lw_m3 230 rfl) rfl
theorem q1136 : (Jvm.Cond.methodLink "TypeHouse$Setter" (3 : Nat) ({ cls := "java/lang/Object", name := "<init>", desc := "()V" } : Jvm.MethodName)) ∈ lw_all := lw_g (lw_at lw_m3 231 rfl) rfl
theorem q1137 : (Jvm.Cond.fieldLink "TypeHouse$Setter" (11 : Nat) "TypeHouse$Setter" "kinds" "[I") ∈ lw_all := lw_g (lw_at lw_m3 232 rfl) rfl
theorem q1138 : (Jvm.Cond.fieldLink "TypeHouse$Setter" (15 : Nat) "TypeHouse$Setter" "kerns" "[I") ∈ lw_all := lw_g (lw_at lw_m3 233 rfl) rfl
theorem q1139 : (Jvm.Cond.fieldLink "TypeHouse$Setter" (18 : Nat) "TypeHouse$Setter" "nexts" "[I") ∈ lw_all := lw_g (lw_at lw_m3 234 rfl) rfl
theorem q1143 : (Jvm.Cond.fieldLink "TypeHouse$Setter" (21 : Nat) "TypeHouse$Setter" "order" "[I") ∈ lw_all := lw_g (lw_at lw_m3 238 rfl) rfl
theorem q1157 : (Jvm.Cond.classLink "TypeHouse$Press" (68 : Nat) "TypeHouse$Packer") ∈ lw_all := lw_g (lw_at lw_m4 12 rfl) rfl
theorem q1158 : (Jvm.Cond.instantiable "TypeHouse$Packer" (10 : Nat)) ∈ lw_all := lw_g (lw_at lw_m4 13 rfl) rfl
theorem q1159 : (Jvm.Cond.methodLink "TypeHouse$Press" (70 : Nat) ({ cls := "TypeHouse$Packer", name := "<init>", desc := "(LTypeHouse$Pool;[LTypeHouse$Box;)V" } : Jvm.MethodName)) ∈ lw_all := lw_g (lw_at lw_m4 14 rfl) rfl
theorem q1160 : (Jvm.Cond.instanceMethod ({ cls := "TypeHouse$Packer", name := "<init>", desc := "(LTypeHouse$Pool;[LTypeHouse$Box;)V" } : Jvm.MethodName)) ∈ lw_all := lw_g (lw_at lw_m4 15 rfl) rfl
theorem q1161 : (Jvm.Cond.code ({ cls := "TypeHouse$Packer", name := "<init>", desc := "(LTypeHouse$Pool;[LTypeHouse$Box;)V" } : Jvm.MethodName) prog_19_method_1_code (3 : Nat) (Option.none : Option Jvm.ClassFile.FieldType)) ∈ lw_all := lw_g (lw_at lw_m4 16 rfl) rfl
theorem q1162 : (Jvm.Cond.methodLink "TypeHouse$Packer" (3 : Nat) ({ cls := "java/lang/Object", name := "<init>", desc := "()V" } : Jvm.MethodName)) ∈ lw_all := lw_g (lw_at lw_m4 17 rfl) rfl
theorem q1163 : (Jvm.Cond.fieldLink "TypeHouse$Packer" (18 : Nat) "TypeHouse$Packer" "pool" "LTypeHouse$Pool;") ∈ lw_all := lw_g (lw_at lw_m4 18 rfl) rfl
theorem q1164 : (Jvm.Cond.fieldLink "TypeHouse$Packer" (22 : Nat) "TypeHouse$Packer" "boxes" "[LTypeHouse$Box;") ∈ lw_all := lw_g (lw_at lw_m4 19 rfl) rfl
theorem q1165 : (Jvm.Cond.fieldLink "TypeHouse$Packer" (9 : Nat) "TypeHouse$Packer" "stretch" "[J") ∈ lw_all := lw_g (lw_at lw_m4 20 rfl) rfl
theorem q1166 : (Jvm.Cond.fieldLink "TypeHouse$Packer" (15 : Nat) "TypeHouse$Packer" "shrink" "[J") ∈ lw_all := lw_g (lw_at lw_m4 21 rfl) rfl
theorem q1194 : (Jvm.Cond.classLink "TypeHouse$Press" (77 : Nat) "TypeHouse$Layout") ∈ lw_all := lw_g (lw_at lw_m4 49 rfl) rfl
theorem q1195 : (Jvm.Cond.instantiable "TypeHouse$Layout" (9 : Nat)) ∈ lw_all := lw_g (lw_at lw_m4 50 rfl) rfl
theorem q1196 : (Jvm.Cond.methodLink "TypeHouse$Press" (79 : Nat) ({ cls := "TypeHouse$Layout", name := "<init>", desc := "(LTypeHouse$Pool;[LTypeHouse$Box;)V" } : Jvm.MethodName)) ∈ lw_all := lw_g (lw_at lw_m4 51 rfl) rfl
theorem q1197 : (Jvm.Cond.instanceMethod ({ cls := "TypeHouse$Layout", name := "<init>", desc := "(LTypeHouse$Pool;[LTypeHouse$Box;)V" } : Jvm.MethodName)) ∈ lw_all := lw_g (lw_at lw_m4 52 rfl) rfl
theorem q1198 : (Jvm.Cond.code ({ cls := "TypeHouse$Layout", name := "<init>", desc := "(LTypeHouse$Pool;[LTypeHouse$Box;)V" } : Jvm.MethodName) prog_11_method_1_code (3 : Nat) (Option.none : Option Jvm.ClassFile.FieldType)) ∈ lw_all := lw_g (lw_at lw_m4 53 rfl) rfl
theorem q1199 : (Jvm.Cond.methodLink "TypeHouse$Layout" (3 : Nat) ({ cls := "java/lang/Object", name := "<init>", desc := "()V" } : Jvm.MethodName)) ∈ lw_all := lw_g (lw_at lw_m4 54 rfl) rfl
theorem q1200 : (Jvm.Cond.classLink "TypeHouse$Layout" (15 : Nat) "TypeHouse$Box") ∈ lw_all := lw_g (lw_at lw_m4 55 rfl) rfl
theorem q1201 : (Jvm.Cond.fieldLink "TypeHouse$Layout" (31 : Nat) "TypeHouse$Layout" "pool" "LTypeHouse$Pool;") ∈ lw_all := lw_g (lw_at lw_m4 56 rfl) rfl
theorem q1202 : (Jvm.Cond.fieldLink "TypeHouse$Layout" (35 : Nat) "TypeHouse$Layout" "boxes" "[LTypeHouse$Box;") ∈ lw_all := lw_g (lw_at lw_m4 57 rfl) rfl
theorem q1203 : (Jvm.Cond.fieldLink "TypeHouse$Layout" (11 : Nat) "TypeHouse$Layout" "marks" "[J") ∈ lw_all := lw_g (lw_at lw_m4 58 rfl) rfl
theorem q1207 : (Jvm.Cond.fieldLink "TypeHouse$Layout" (17 : Nat) "TypeHouse$Layout" "open" "[LTypeHouse$Box;") ∈ lw_all := lw_g (lw_at lw_m4 62 rfl) rfl
theorem q1208 : (Jvm.Cond.fieldLink "TypeHouse$Layout" (21 : Nat) "TypeHouse$Layout" "xs" "[J") ∈ lw_all := lw_g (lw_at lw_m4 63 rfl) rfl
theorem q1209 : (Jvm.Cond.fieldLink "TypeHouse$Layout" (24 : Nat) "TypeHouse$Layout" "ys" "[J") ∈ lw_all := lw_g (lw_at lw_m4 64 rfl) rfl
theorem q1210 : (Jvm.Cond.fieldLink "TypeHouse$Layout" (27 : Nat) "TypeHouse$Layout" "nexts" "[I") ∈ lw_all := lw_g (lw_at lw_m4 65 rfl) rfl
theorem q1231 : (Jvm.Cond.classLink "TypeHouse$Press" (84 : Nat) "TypeHouse$Breaker") ∈ lw_all := lw_g (lw_at lw_m4 86 rfl) rfl
theorem q1232 : (Jvm.Cond.instantiable "TypeHouse$Breaker" (10 : Nat)) ∈ lw_all := lw_g (lw_at lw_m4 87 rfl) rfl
theorem q1233 : (Jvm.Cond.methodLinkNest "TypeHouse$Press" (86 : Nat) ({ cls := "TypeHouse$Breaker", name := "<init>", desc := "()V" } : Jvm.MethodName) "TypeHouse") ∈ lw_tbl := lw_at lw_m4 88 rfl
theorem q1234 : (Jvm.Cond.instanceMethod ({ cls := "TypeHouse$Breaker", name := "<init>", desc := "()V" } : Jvm.MethodName)) ∈ lw_all := lw_g (lw_at lw_m4 89 rfl) rfl
theorem q1235 : (Jvm.Cond.code ({ cls := "TypeHouse$Breaker", name := "<init>", desc := "()V" } : Jvm.MethodName) prog_3_method_1_code (1 : Nat) (Option.none : Option Jvm.ClassFile.FieldType)) ∈ lw_all := lw_g (lw_at lw_m4 90 rfl) rfl
theorem q1236 : (Jvm.Cond.methodLink "TypeHouse$Breaker" (3 : Nat) ({ cls := "java/lang/Object", name := "<init>", desc := "()V" } : Jvm.MethodName)) ∈ lw_all := lw_g (lw_at lw_m4 91 rfl) rfl
theorem q1237 : (Jvm.Cond.classLink "TypeHouse$Breaker" (9 : Nat) "TypeHouse$Paragraph") ∈ lw_all := lw_g (lw_at lw_m4 92 rfl) rfl
theorem q1238 : (Jvm.Cond.instantiable "TypeHouse$Paragraph" (6 : Nat)) ∈ lw_all := lw_g (lw_at lw_m4 93 rfl) rfl
theorem q1239 : (Jvm.Cond.methodLinkNest "TypeHouse$Breaker" (11 : Nat) ({ cls := "TypeHouse$Paragraph", name := "<init>", desc := "()V" } : Jvm.MethodName) "TypeHouse") ∈ lw_tbl := lw_at lw_m4 94 rfl
theorem q1240 : (Jvm.Cond.instanceMethod ({ cls := "TypeHouse$Paragraph", name := "<init>", desc := "()V" } : Jvm.MethodName)) ∈ lw_all := lw_g (lw_at lw_m4 95 rfl) rfl
theorem q1241 : (Jvm.Cond.code ({ cls := "TypeHouse$Paragraph", name := "<init>", desc := "()V" } : Jvm.MethodName) prog_23_method_1_code (1 : Nat) (Option.none : Option Jvm.ClassFile.FieldType)) ∈ lw_all := lw_g (lw_at lw_m4 96 rfl) rfl
theorem q1242 : (Jvm.Cond.methodLink "TypeHouse$Paragraph" (3 : Nat) ({ cls := "java/lang/Object", name := "<init>", desc := "()V" } : Jvm.MethodName)) ∈ lw_all := lw_g (lw_at lw_m4 97 rfl) rfl
theorem q1243 : (Jvm.Cond.fieldLink "TypeHouse$Paragraph" (9 : Nat) "TypeHouse$Paragraph" "kinds" "[B") ∈ lw_all := lw_g (lw_at lw_m4 98 rfl) rfl
theorem q1247 : (Jvm.Cond.fieldLink "TypeHouse$Paragraph" (15 : Nat) "TypeHouse$Paragraph" "a" "[I") ∈ lw_all := lw_g (lw_at lw_m4 102 rfl) rfl
theorem q1251 : (Jvm.Cond.fieldLink "TypeHouse$Paragraph" (19 : Nat) "TypeHouse$Paragraph" "b" "[I") ∈ lw_all := lw_g (lw_at lw_m4 106 rfl) rfl
theorem q1254 : (Jvm.Cond.fieldLink "TypeHouse$Paragraph" (22 : Nat) "TypeHouse$Paragraph" "c" "[I") ∈ lw_all := lw_g (lw_at lw_m4 109 rfl) rfl
theorem q1256 : (Jvm.Cond.fieldLink "TypeHouse$Paragraph" (25 : Nat) "TypeHouse$Paragraph" "d" "[I") ∈ lw_all := lw_g (lw_at lw_m4 111 rfl) rfl
theorem q1277 : (Jvm.Cond.classLink "TypeHouse$Breaker" (18 : Nat) "TypeHouse$Measure") ∈ lw_all := lw_g (lw_at lw_m4 132 rfl) rfl
theorem q1278 : (Jvm.Cond.instantiable "TypeHouse$Measure" (12 : Nat)) ∈ lw_all := lw_g (lw_at lw_m4 133 rfl) rfl
theorem q1279 : (Jvm.Cond.methodLinkNest "TypeHouse$Breaker" (20 : Nat) ({ cls := "TypeHouse$Measure", name := "<init>", desc := "()V" } : Jvm.MethodName) "TypeHouse") ∈ lw_tbl := lw_at lw_m4 134 rfl
theorem q1280 : (Jvm.Cond.instanceMethod ({ cls := "TypeHouse$Measure", name := "<init>", desc := "()V" } : Jvm.MethodName)) ∈ lw_all := lw_g (lw_at lw_m4 135 rfl) rfl
theorem q1281 : (Jvm.Cond.code ({ cls := "TypeHouse$Measure", name := "<init>", desc := "()V" } : Jvm.MethodName) prog_15_method_1_code (1 : Nat) (Option.none : Option Jvm.ClassFile.FieldType)) ∈ lw_all := lw_g (lw_at lw_m4 136 rfl) rfl
theorem q1282 : (Jvm.Cond.methodLink "TypeHouse$Measure" (3 : Nat) ({ cls := "java/lang/Object", name := "<init>", desc := "()V" } : Jvm.MethodName)) ∈ lw_all := lw_g (lw_at lw_m4 137 rfl) rfl
theorem q1283 : (Jvm.Cond.fieldLink "TypeHouse$Measure" (9 : Nat) "TypeHouse$Measure" "widths" "[J") ∈ lw_all := lw_g (lw_at lw_m4 138 rfl) rfl
theorem q1284 : (Jvm.Cond.fieldLink "TypeHouse$Measure" (15 : Nat) "TypeHouse$Measure" "shrinks" "[J") ∈ lw_all := lw_g (lw_at lw_m4 139 rfl) rfl
theorem q1285 : (Jvm.Cond.fieldLink "TypeHouse$Measure" (18 : Nat) "TypeHouse$Measure" "stretches" "[J") ∈ lw_all := lw_g (lw_at lw_m4 140 rfl) rfl
theorem q1286 : (Jvm.Cond.fieldLink "TypeHouse$Measure" (21 : Nat) "TypeHouse$Measure" "replaced" "[Z") ∈ lw_all := lw_g (lw_at lw_m4 141 rfl) rfl
theorem q1288 : (Jvm.Cond.fieldLink "TypeHouse$Measure" (25 : Nat) "TypeHouse$Measure" "firsts" "[I") ∈ lw_all := lw_g (lw_at lw_m4 143 rfl) rfl
theorem q1290 : (Jvm.Cond.fieldLink "TypeHouse$Measure" (29 : Nat) "TypeHouse$Measure" "around" "[J") ∈ lw_all := lw_g (lw_at lw_m4 145 rfl) rfl
theorem q1329 : (Jvm.Cond.classLink "TypeHouse$Breaker" (35 : Nat) "TypeHouse$Pass") ∈ lw_all := lw_g (lw_at lw_m4 184 rfl) rfl
theorem q1330 : (Jvm.Cond.instantiable "TypeHouse$Pass" (16 : Nat)) ∈ lw_all := lw_g (lw_at lw_m4 185 rfl) rfl
theorem q1331 : (Jvm.Cond.methodLink "TypeHouse$Breaker" (37 : Nat) ({ cls := "TypeHouse$Pass", name := "<init>", desc := "(LTypeHouse$Paragraph;LTypeHouse$Measure;[I[I)V" } : Jvm.MethodName)) ∈ lw_all := lw_g (lw_at lw_m4 186 rfl) rfl
theorem q1332 : (Jvm.Cond.instanceMethod ({ cls := "TypeHouse$Pass", name := "<init>", desc := "(LTypeHouse$Paragraph;LTypeHouse$Measure;[I[I)V" } : Jvm.MethodName)) ∈ lw_all := lw_g (lw_at lw_m4 187 rfl) rfl
theorem q1333 : (Jvm.Cond.code ({ cls := "TypeHouse$Pass", name := "<init>", desc := "(LTypeHouse$Paragraph;LTypeHouse$Measure;[I[I)V" } : Jvm.MethodName) prog_24_method_1_code (6 : Nat) (Option.none : Option Jvm.ClassFile.FieldType)) ∈ lw_all := lw_g (lw_at lw_m4 188 rfl) rfl
theorem q1334 : (Jvm.Cond.methodLink "TypeHouse$Pass" (3 : Nat) ({ cls := "java/lang/Object", name := "<init>", desc := "()V" } : Jvm.MethodName)) ∈ lw_all := lw_g (lw_at lw_m4 189 rfl) rfl
theorem q1335 : (Jvm.Cond.classLink "TypeHouse$Pass" (9 : Nat) "TypeHouse$Nodes") ∈ lw_all := lw_g (lw_at lw_m4 190 rfl) rfl
theorem q1336 : (Jvm.Cond.instantiable "TypeHouse$Nodes" (8 : Nat)) ∈ lw_all := lw_g (lw_at lw_m4 191 rfl) rfl
theorem q1337 : (Jvm.Cond.methodLinkNest "TypeHouse$Pass" (11 : Nat) ({ cls := "TypeHouse$Nodes", name := "<init>", desc := "()V" } : Jvm.MethodName) "TypeHouse") ∈ lw_tbl := lw_at lw_m4 192 rfl
theorem q1338 : (Jvm.Cond.instanceMethod ({ cls := "TypeHouse$Nodes", name := "<init>", desc := "()V" } : Jvm.MethodName)) ∈ lw_all := lw_g (lw_at lw_m4 193 rfl) rfl
theorem q1339 : (Jvm.Cond.code ({ cls := "TypeHouse$Nodes", name := "<init>", desc := "()V" } : Jvm.MethodName) prog_18_method_1_code (1 : Nat) (Option.none : Option Jvm.ClassFile.FieldType)) ∈ lw_all := lw_g (lw_at lw_m4 194 rfl) rfl
theorem q1340 : (Jvm.Cond.methodLink "TypeHouse$Nodes" (3 : Nat) ({ cls := "java/lang/Object", name := "<init>", desc := "()V" } : Jvm.MethodName)) ∈ lw_all := lw_g (lw_at lw_m4 195 rfl) rfl
theorem q1341 : (Jvm.Cond.fieldLink "TypeHouse$Nodes" (9 : Nat) "TypeHouse$Nodes" "places" "[I") ∈ lw_all := lw_g (lw_at lw_m4 196 rfl) rfl
theorem q1344 : (Jvm.Cond.fieldLink "TypeHouse$Nodes" (15 : Nat) "TypeHouse$Nodes" "lines" "[I") ∈ lw_all := lw_g (lw_at lw_m4 199 rfl) rfl
theorem q1347 : (Jvm.Cond.fieldLink "TypeHouse$Nodes" (18 : Nat) "TypeHouse$Nodes" "fits" "[B") ∈ lw_all := lw_g (lw_at lw_m4 202 rfl) rfl
theorem q1349 : (Jvm.Cond.fieldLink "TypeHouse$Nodes" (22 : Nat) "TypeHouse$Nodes" "totals" "[J") ∈ lw_all := lw_g (lw_at lw_m4 204 rfl) rfl
theorem q1351 : (Jvm.Cond.fieldLink "TypeHouse$Nodes" (26 : Nat) "TypeHouse$Nodes" "formers" "[I") ∈ lw_all := lw_g (lw_at lw_m4 206 rfl) rfl
theorem q1353 : (Jvm.Cond.fieldLink "TypeHouse$Nodes" (29 : Nat) "TypeHouse$Nodes" "nexts" "[I") ∈ lw_all := lw_g (lw_at lw_m4 208 rfl) rfl
theorem q1377 : (Jvm.Cond.classLink "TypeHouse$Pass" (18 : Nat) "TypeHouse$Fitting") ∈ lw_all := lw_g (lw_at lw_m4 232 rfl) rfl
theorem q1378 : (Jvm.Cond.instantiable "TypeHouse$Fitting" (2 : Nat)) ∈ lw_all := lw_g (lw_at lw_m4 233 rfl) rfl
theorem q1379 : (Jvm.Cond.methodLinkNest "TypeHouse$Pass" (20 : Nat) ({ cls := "TypeHouse$Fitting", name := "<init>", desc := "()V" } : Jvm.MethodName) "TypeHouse") ∈ lw_tbl := lw_at lw_m4 234 rfl
theorem q1380 : (Jvm.Cond.instanceMethod ({ cls := "TypeHouse$Fitting", name := "<init>", desc := "()V" } : Jvm.MethodName)) ∈ lw_all := lw_g (lw_at lw_m4 235 rfl) rfl
theorem q1381 : (Jvm.Cond.code ({ cls := "TypeHouse$Fitting", name := "<init>", desc := "()V" } : Jvm.MethodName) prog_6_method_1_code (1 : Nat) (Option.none : Option Jvm.ClassFile.FieldType)) ∈ lw_all := lw_g (lw_at lw_m4 236 rfl) rfl
theorem q1382 : (Jvm.Cond.methodLink "TypeHouse$Fitting" (3 : Nat) ({ cls := "java/lang/Object", name := "<init>", desc := "()V" } : Jvm.MethodName)) ∈ lw_all := lw_g (lw_at lw_m4 237 rfl) rfl
theorem q1392 : (Jvm.Cond.fieldLink "TypeHouse$Pass" (33 : Nat) "TypeHouse$Pass" "items" "LTypeHouse$Paragraph;") ∈ lw_all := lw_g (lw_at lw_m5 7 rfl) rfl
theorem q1393 : (Jvm.Cond.fieldLink "TypeHouse$Pass" (37 : Nat) "TypeHouse$Pass" "measure" "LTypeHouse$Measure;") ∈ lw_all := lw_g (lw_at lw_m5 8 rfl) rfl
theorem q1394 : (Jvm.Cond.fieldLink "TypeHouse$Pass" (41 : Nat) "TypeHouse$Pass" "set" "[I") ∈ lw_all := lw_g (lw_at lw_m5 9 rfl) rfl
theorem q1395 : (Jvm.Cond.fieldLink "TypeHouse$Pass" (44 : Nat) "TypeHouse$Pass" "wide" "[I") ∈ lw_all := lw_g (lw_at lw_m5 10 rfl) rfl
theorem q1396 : (Jvm.Cond.fieldLink "TypeHouse$Pass" (12 : Nat) "TypeHouse$Pass" "nodes" "LTypeHouse$Nodes;") ∈ lw_all := lw_g (lw_at lw_m5 11 rfl) rfl
theorem q1398 : (Jvm.Cond.fieldLink "TypeHouse$Pass" (21 : Nat) "TypeHouse$Pass" "fitting" "LTypeHouse$Fitting;") ∈ lw_all := lw_g (lw_at lw_m5 13 rfl) rfl
theorem q1399 : (Jvm.Cond.fieldLink "TypeHouse$Pass" (25 : Nat) "TypeHouse$Pass" "best" "[I") ∈ lw_all := lw_g (lw_at lw_m5 14 rfl) rfl
theorem q1400 : (Jvm.Cond.fieldLink "TypeHouse$Pass" (29 : Nat) "TypeHouse$Pass" "totals" "[J") ∈ lw_all := lw_g (lw_at lw_m5 15 rfl) rfl
theorem q1446 : (Jvm.Cond.fieldLink "TypeHouse$Breaker" (12 : Nat) "TypeHouse$Breaker" "items" "LTypeHouse$Paragraph;") ∈ lw_all := lw_g (lw_at lw_m5 61 rfl) rfl
theorem q1448 : (Jvm.Cond.fieldLink "TypeHouse$Breaker" (21 : Nat) "TypeHouse$Breaker" "measure" "LTypeHouse$Measure;") ∈ lw_all := lw_g (lw_at lw_m5 63 rfl) rfl
theorem q1449 : (Jvm.Cond.fieldLink "TypeHouse$Breaker" (25 : Nat) "TypeHouse$Breaker" "set" "[I") ∈ lw_all := lw_g (lw_at lw_m5 64 rfl) rfl
theorem q1450 : (Jvm.Cond.fieldLink "TypeHouse$Breaker" (29 : Nat) "TypeHouse$Breaker" "wide" "[I") ∈ lw_all := lw_g (lw_at lw_m5 65 rfl) rfl
theorem q1452 : (Jvm.Cond.fieldLink "TypeHouse$Breaker" (32 : Nat) "TypeHouse$Breaker" "around" "[I") ∈ lw_all := lw_g (lw_at lw_m5 67 rfl) rfl
theorem q1454 : (Jvm.Cond.fieldLink "TypeHouse$Breaker" (40 : Nat) "TypeHouse$Breaker" "pass" "LTypeHouse$Pass;") ∈ lw_all := lw_g (lw_at lw_m5 69 rfl) rfl
theorem q1460 : (Jvm.Cond.fieldLink "TypeHouse$Breaker" (44 : Nat) "TypeHouse$Breaker" "ends" "[I") ∈ lw_all := lw_g (lw_at lw_m5 75 rfl) rfl
theorem q1462 : (Jvm.Cond.fieldLink "TypeHouse$Breaker" (47 : Nat) "TypeHouse$Breaker" "firsts" "[I") ∈ lw_all := lw_g (lw_at lw_m5 77 rfl) rfl
theorem q1485 : (Jvm.Cond.classLink "TypeHouse$Press" (91 : Nat) "TypeHouse$PageItems") ∈ lw_all := lw_g (lw_at lw_m5 100 rfl) rfl
theorem q1486 : (Jvm.Cond.instantiable "TypeHouse$PageItems" (7 : Nat)) ∈ lw_all := lw_g (lw_at lw_m5 101 rfl) rfl
theorem q1487 : (Jvm.Cond.methodLinkNest "TypeHouse$Press" (93 : Nat) ({ cls := "TypeHouse$PageItems", name := "<init>", desc := "()V" } : Jvm.MethodName) "TypeHouse") ∈ lw_tbl := lw_at lw_m5 102 rfl
theorem q1488 : (Jvm.Cond.instanceMethod ({ cls := "TypeHouse$PageItems", name := "<init>", desc := "()V" } : Jvm.MethodName)) ∈ lw_all := lw_g (lw_at lw_m5 103 rfl) rfl
theorem q1489 : (Jvm.Cond.code ({ cls := "TypeHouse$PageItems", name := "<init>", desc := "()V" } : Jvm.MethodName) prog_22_method_1_code (1 : Nat) (Option.none : Option Jvm.ClassFile.FieldType)) ∈ lw_all := lw_g (lw_at lw_m5 104 rfl) rfl
theorem q1490 : (Jvm.Cond.methodLink "TypeHouse$PageItems" (3 : Nat) ({ cls := "java/lang/Object", name := "<init>", desc := "()V" } : Jvm.MethodName)) ∈ lw_all := lw_g (lw_at lw_m5 105 rfl) rfl
theorem q1491 : (Jvm.Cond.fieldLink "TypeHouse$PageItems" (9 : Nat) "TypeHouse$PageItems" "kinds" "[B") ∈ lw_all := lw_g (lw_at lw_m5 106 rfl) rfl
theorem q1494 : (Jvm.Cond.fieldLink "TypeHouse$PageItems" (15 : Nat) "TypeHouse$PageItems" "firsts" "[I") ∈ lw_all := lw_g (lw_at lw_m5 109 rfl) rfl
theorem q1498 : (Jvm.Cond.fieldLink "TypeHouse$PageItems" (19 : Nat) "TypeHouse$PageItems" "seconds" "[I") ∈ lw_all := lw_g (lw_at lw_m5 113 rfl) rfl
theorem q1502 : (Jvm.Cond.fieldLink "TypeHouse$PageItems" (22 : Nat) "TypeHouse$PageItems" "thirds" "[I") ∈ lw_all := lw_g (lw_at lw_m5 117 rfl) rfl
theorem q1505 : (Jvm.Cond.fieldLink "TypeHouse$PageItems" (25 : Nat) "TypeHouse$PageItems" "orders" "[B") ∈ lw_all := lw_g (lw_at lw_m5 120 rfl) rfl
theorem q1507 : (Jvm.Cond.fieldLink "TypeHouse$PageItems" (28 : Nat) "TypeHouse$PageItems" "extras" "[I") ∈ lw_all := lw_g (lw_at lw_m5 122 rfl) rfl
theorem q1527 : (Jvm.Cond.classLink "TypeHouse$Press" (98 : Nat) "TypeHouse$PageBuilder") ∈ lw_all := lw_g (lw_at lw_m5 142 rfl) rfl
theorem q1528 : (Jvm.Cond.instantiable "TypeHouse$PageBuilder" (11 : Nat)) ∈ lw_all := lw_g (lw_at lw_m5 143 rfl) rfl
theorem q1529 : (Jvm.Cond.methodLink "TypeHouse$Press" (100 : Nat) ({ cls := "TypeHouse$PageBuilder", name := "<init>", desc := "(LTypeHouse$PageItems;)V" } : Jvm.MethodName)) ∈ lw_all := lw_g (lw_at lw_m5 144 rfl) rfl
theorem q1530 : (Jvm.Cond.instanceMethod ({ cls := "TypeHouse$PageBuilder", name := "<init>", desc := "(LTypeHouse$PageItems;)V" } : Jvm.MethodName)) ∈ lw_all := lw_g (lw_at lw_m5 145 rfl) rfl
theorem q1531 : (Jvm.Cond.code ({ cls := "TypeHouse$PageBuilder", name := "<init>", desc := "(LTypeHouse$PageItems;)V" } : Jvm.MethodName) prog_21_method_1_code (2 : Nat) (Option.none : Option Jvm.ClassFile.FieldType)) ∈ lw_all := lw_g (lw_at lw_m5 146 rfl) rfl
theorem q1532 : (Jvm.Cond.methodLink "TypeHouse$PageBuilder" (3 : Nat) ({ cls := "java/lang/Object", name := "<init>", desc := "()V" } : Jvm.MethodName)) ∈ lw_all := lw_g (lw_at lw_m5 147 rfl) rfl
theorem q1533 : (Jvm.Cond.classLink "TypeHouse$PageBuilder" (9 : Nat) "TypeHouse$Sums") ∈ lw_all := lw_g (lw_at lw_m5 148 rfl) rfl
theorem q1534 : (Jvm.Cond.instantiable "TypeHouse$Sums" (4 : Nat)) ∈ lw_all := lw_g (lw_at lw_m5 149 rfl) rfl
theorem q1535 : (Jvm.Cond.methodLinkNest "TypeHouse$PageBuilder" (11 : Nat) ({ cls := "TypeHouse$Sums", name := "<init>", desc := "()V" } : Jvm.MethodName) "TypeHouse") ∈ lw_tbl := lw_at lw_m5 150 rfl
theorem q1536 : (Jvm.Cond.instanceMethod ({ cls := "TypeHouse$Sums", name := "<init>", desc := "()V" } : Jvm.MethodName)) ∈ lw_all := lw_g (lw_at lw_m5 151 rfl) rfl
theorem q1537 : (Jvm.Cond.code ({ cls := "TypeHouse$Sums", name := "<init>", desc := "()V" } : Jvm.MethodName) prog_30_method_1_code (1 : Nat) (Option.none : Option Jvm.ClassFile.FieldType)) ∈ lw_all := lw_g (lw_at lw_m5 152 rfl) rfl
theorem q1538 : (Jvm.Cond.methodLink "TypeHouse$Sums" (3 : Nat) ({ cls := "java/lang/Object", name := "<init>", desc := "()V" } : Jvm.MethodName)) ∈ lw_all := lw_g (lw_at lw_m5 153 rfl) rfl
theorem q1539 : (Jvm.Cond.fieldLink "TypeHouse$Sums" (9 : Nat) "TypeHouse$Sums" "stretch" "[J") ∈ lw_all := lw_g (lw_at lw_m5 154 rfl) rfl
theorem q1541 : (Jvm.Cond.fieldLink "TypeHouse$Sums" (15 : Nat) "TypeHouse$Sums" "shrink" "J") ∈ lw_all := lw_g (lw_at lw_m5 156 rfl) rfl
theorem q1544 : (Jvm.Cond.fieldLink "TypeHouse$Sums" (19 : Nat) "TypeHouse$Sums" "length" "J") ∈ lw_all := lw_g (lw_at lw_m5 159 rfl) rfl
theorem q1546 : (Jvm.Cond.fieldLink "TypeHouse$Sums" (22 : Nat) "TypeHouse$Sums" "depth" "J") ∈ lw_all := lw_g (lw_at lw_m5 161 rfl) rfl
theorem q1557 : (Jvm.Cond.classLink "TypeHouse$PageBuilder" (21 : Nat) "TypeHouse$Page") ∈ lw_all := lw_g (lw_at lw_m5 172 rfl) rfl
theorem q1558 : (Jvm.Cond.instantiable "TypeHouse$Page" (12 : Nat)) ∈ lw_all := lw_g (lw_at lw_m5 173 rfl) rfl
theorem q1559 : (Jvm.Cond.methodLinkNest "TypeHouse$PageBuilder" (23 : Nat) ({ cls := "TypeHouse$Page", name := "<init>", desc := "()V" } : Jvm.MethodName) "TypeHouse") ∈ lw_tbl := lw_at lw_m5 174 rfl
theorem q1560 : (Jvm.Cond.instanceMethod ({ cls := "TypeHouse$Page", name := "<init>", desc := "()V" } : Jvm.MethodName)) ∈ lw_all := lw_g (lw_at lw_m5 175 rfl) rfl
theorem q1561 : (Jvm.Cond.code ({ cls := "TypeHouse$Page", name := "<init>", desc := "()V" } : Jvm.MethodName) prog_20_method_1_code (1 : Nat) (Option.none : Option Jvm.ClassFile.FieldType)) ∈ lw_all := lw_g (lw_at lw_m5 176 rfl) rfl
theorem q1562 : (Jvm.Cond.methodLink "TypeHouse$Page" (1 : Nat) ({ cls := "java/lang/Object", name := "<init>", desc := "()V" } : Jvm.MethodName)) ∈ lw_all := lw_g (lw_at lw_m5 177 rfl) rfl
theorem q1563 : (Jvm.Cond.classLink "TypeHouse$Page" (7 : Nat) "TypeHouse$Sums") ∈ lw_all := lw_g (lw_at lw_m5 178 rfl) rfl
theorem q1564 : (Jvm.Cond.methodLinkNest "TypeHouse$Page" (9 : Nat) ({ cls := "TypeHouse$Sums", name := "<init>", desc := "()V" } : Jvm.MethodName) "TypeHouse") ∈ lw_tbl := lw_at lw_m5 179 rfl
theorem q1565 : (Jvm.Cond.fieldLink "TypeHouse$Page" (10 : Nat) "TypeHouse$Page" "sums" "LTypeHouse$Sums;") ∈ lw_all := lw_g (lw_at lw_m5 180 rfl) rfl
theorem q1573 : (Jvm.Cond.fieldLinkNest "TypeHouse$PageBuilder" (38 : Nat) "TypeHouse$Page" "first" "I" "TypeHouse") ∈ lw_tbl := lw_at lw_m5 188 rfl
theorem q1609 : (Jvm.Cond.methodLink "TypeHouse$PageBuilder" (35 : Nat) ({ cls := "TypeHouse$PageBuilder", name := "begin", desc := "()V" } : Jvm.MethodName)) ∈ lw_all := lw_g (lw_at lw_m5 224 rfl) rfl
theorem q1611 : (Jvm.Cond.instanceMethod ({ cls := "TypeHouse$PageBuilder", name := "begin", desc := "()V" } : Jvm.MethodName)) ∈ lw_all := lw_g (lw_at lw_m5 226 rfl) rfl
theorem q1612 : (Jvm.Cond.code ({ cls := "TypeHouse$PageBuilder", name := "begin", desc := "()V" } : Jvm.MethodName) prog_21_method_2_code (1 : Nat) (Option.none : Option Jvm.ClassFile.FieldType)) ∈ lw_all := lw_g (lw_at lw_m5 227 rfl) rfl
theorem q1613 : (Jvm.Cond.constant "TypeHouse$PageBuilder" (45 : Nat) (1073741823 : Int32)) ∈ lw_all := lw_g (lw_at lw_m5 228 rfl) rfl
theorem q1614 : (Jvm.Cond.methodLink "TypeHouse$PageBuilder" (49 : Nat) ({ cls := "TypeHouse$Sums", name := "clear", desc := "()V" } : Jvm.MethodName)) ∈ lw_all := lw_g (lw_at lw_m5 229 rfl) rfl
theorem q1615 : (Jvm.Cond.instanceMethod ({ cls := "TypeHouse$Sums", name := "clear", desc := "()V" } : Jvm.MethodName)) ∈ lw_all := lw_g (lw_at lw_m5 230 rfl) rfl
theorem q1616 : (Jvm.Cond.selects "TypeHouse$Sums" ({ cls := "TypeHouse$Sums", name := "clear", desc := "()V" } : Jvm.MethodName) ({ cls := "TypeHouse$Sums", name := "clear", desc := "()V" } : Jvm.MethodName)) ∈ lw_all := lw_g (lw_at lw_m5 231 rfl) rfl
theorem q1617 : (Jvm.Cond.code ({ cls := "TypeHouse$Sums", name := "clear", desc := "()V" } : Jvm.MethodName) prog_30_method_2_code (2 : Nat) (Option.none : Option Jvm.ClassFile.FieldType)) ∈ lw_all := lw_g (lw_at lw_m5 232 rfl) rfl
theorem q1618 : (Jvm.Cond.fieldLink "TypeHouse$PageBuilder" (31 : Nat) "TypeHouse$PageBuilder" "items" "LTypeHouse$PageItems;") ∈ lw_all := lw_g (lw_at lw_m5 233 rfl) rfl
theorem q1619 : (Jvm.Cond.fieldLink "TypeHouse$PageBuilder" (12 : Nat) "TypeHouse$PageBuilder" "sums" "LTypeHouse$Sums;") ∈ lw_all := lw_g (lw_at lw_m5 234 rfl) rfl
theorem q1620 : (Jvm.Cond.fieldLink "TypeHouse$PageBuilder" (18 : Nat) "TypeHouse$PageBuilder" "best" "LTypeHouse$Sums;") ∈ lw_all := lw_g (lw_at lw_m5 235 rfl) rfl
theorem q1627 : (Jvm.Cond.fieldLink "TypeHouse$PageBuilder" (24 : Nat) "TypeHouse$PageBuilder" "page" "LTypeHouse$Page;") ∈ lw_all := lw_g (lw_at lw_m6 2 rfl) rfl
theorem q1628 : (Jvm.Cond.fieldLink "TypeHouse$PageBuilder" (28 : Nat) "TypeHouse$PageBuilder" "ended" "LTypeHouse$Page;") ∈ lw_all := lw_g (lw_at lw_m6 3 rfl) rfl
theorem q1630 : (Jvm.Cond.fieldLink "TypeHouse$PageBuilder" (42 : Nat) "TypeHouse$PageBuilder" "bestBreak" "I") ∈ lw_all := lw_g (lw_at lw_m6 5 rfl) rfl
theorem q1631 : (Jvm.Cond.fieldLink "TypeHouse$PageBuilder" (46 : Nat) "TypeHouse$PageBuilder" "leastCost" "I") ∈ lw_all := lw_g (lw_at lw_m6 6 rfl) rfl
theorem q1656 : (Jvm.Cond.classLink "TypeHouse$Press" (107 : Nat) "TypeHouse$Sums") ∈ lw_all := lw_g (lw_at lw_m6 31 rfl) rfl
theorem q1657 : (Jvm.Cond.methodLinkNest "TypeHouse$Press" (109 : Nat) ({ cls := "TypeHouse$Sums", name := "<init>", desc := "()V" } : Jvm.MethodName) "TypeHouse") ∈ lw_tbl := lw_at lw_m6 32 rfl
theorem q1658 : (Jvm.Cond.classLink "TypeHouse$Press" (114 : Nat) "TypeHouse$Writer") ∈ lw_all := lw_g (lw_at lw_m6 33 rfl) rfl
theorem q1659 : (Jvm.Cond.instantiable "TypeHouse$Writer" (18 : Nat)) ∈ lw_all := lw_g (lw_at lw_m6 34 rfl) rfl
theorem q1660 : (Jvm.Cond.methodLink "TypeHouse$Press" (116 : Nat) ({ cls := "TypeHouse$Writer", name := "<init>", desc := "(LTypeHouse$FontTable;)V" } : Jvm.MethodName)) ∈ lw_all := lw_g (lw_at lw_m6 35 rfl) rfl
theorem q1661 : (Jvm.Cond.instanceMethod ({ cls := "TypeHouse$Writer", name := "<init>", desc := "(LTypeHouse$FontTable;)V" } : Jvm.MethodName)) ∈ lw_all := lw_g (lw_at lw_m6 36 rfl) rfl
theorem q1662 : (Jvm.Cond.code ({ cls := "TypeHouse$Writer", name := "<init>", desc := "(LTypeHouse$FontTable;)V" } : Jvm.MethodName) prog_35_method_1_code (2 : Nat) (Option.none : Option Jvm.ClassFile.FieldType)) ∈ lw_all := lw_g (lw_at lw_m6 37 rfl) rfl
theorem q1663 : (Jvm.Cond.methodLink "TypeHouse$Writer" (3 : Nat) ({ cls := "java/lang/Object", name := "<init>", desc := "()V" } : Jvm.MethodName)) ∈ lw_all := lw_g (lw_at lw_m6 38 rfl) rfl
theorem q1664 : (Jvm.Cond.classLink "TypeHouse$Writer" (9 : Nat) "TypeHouse$FileBytes") ∈ lw_all := lw_g (lw_at lw_m6 39 rfl) rfl
theorem q1665 : (Jvm.Cond.instantiable "TypeHouse$FileBytes" (2 : Nat)) ∈ lw_all := lw_g (lw_at lw_m6 40 rfl) rfl
theorem q1666 : (Jvm.Cond.constant "TypeHouse$Writer" (11 : Nat) (300000 : Int32)) ∈ lw_all := lw_g (lw_at lw_m6 41 rfl) rfl
theorem q1667 : (Jvm.Cond.methodLink "TypeHouse$Writer" (12 : Nat) ({ cls := "TypeHouse$FileBytes", name := "<init>", desc := "(I)V" } : Jvm.MethodName)) ∈ lw_all := lw_g (lw_at lw_m6 42 rfl) rfl
theorem q1668 : (Jvm.Cond.instanceMethod ({ cls := "TypeHouse$FileBytes", name := "<init>", desc := "(I)V" } : Jvm.MethodName)) ∈ lw_all := lw_g (lw_at lw_m6 43 rfl) rfl
theorem q1669 : (Jvm.Cond.code ({ cls := "TypeHouse$FileBytes", name := "<init>", desc := "(I)V" } : Jvm.MethodName) prog_5_method_1_code (2 : Nat) (Option.none : Option Jvm.ClassFile.FieldType)) ∈ lw_all := lw_g (lw_at lw_m6 44 rfl) rfl
theorem q1670 : (Jvm.Cond.methodLink "TypeHouse$FileBytes" (1 : Nat) ({ cls := "java/lang/Object", name := "<init>", desc := "()V" } : Jvm.MethodName)) ∈ lw_all := lw_g (lw_at lw_m6 45 rfl) rfl
theorem q1671 : (Jvm.Cond.fieldLink "TypeHouse$FileBytes" (7 : Nat) "TypeHouse$FileBytes" "all" "[B") ∈ lw_all := lw_g (lw_at lw_m6 46 rfl) rfl
theorem q1680 : (Jvm.Cond.classLink "TypeHouse$Writer" (40 : Nat) "TypeHouse$Moves") ∈ lw_all := lw_g (lw_at lw_m6 55 rfl) rfl
theorem q1681 : (Jvm.Cond.instantiable "TypeHouse$Moves" (9 : Nat)) ∈ lw_all := lw_g (lw_at lw_m6 56 rfl) rfl
theorem q1682 : (Jvm.Cond.methodLink "TypeHouse$Writer" (42 : Nat) ({ cls := "TypeHouse$Moves", name := "<init>", desc := "(II)V" } : Jvm.MethodName)) ∈ lw_all := lw_g (lw_at lw_m6 57 rfl) rfl
theorem q1683 : (Jvm.Cond.instanceMethod ({ cls := "TypeHouse$Moves", name := "<init>", desc := "(II)V" } : Jvm.MethodName)) ∈ lw_all := lw_g (lw_at lw_m6 58 rfl) rfl
theorem q1684 : (Jvm.Cond.code ({ cls := "TypeHouse$Moves", name := "<init>", desc := "(II)V" } : Jvm.MethodName) prog_16_method_1_code (3 : Nat) (Option.none : Option Jvm.ClassFile.FieldType)) ∈ lw_all := lw_g (lw_at lw_m6 59 rfl) rfl
theorem q1685 : (Jvm.Cond.methodLink "TypeHouse$Moves" (3 : Nat) ({ cls := "java/lang/Object", name := "<init>", desc := "()V" } : Jvm.MethodName)) ∈ lw_all := lw_g (lw_at lw_m6 60 rfl) rfl
theorem q1686 : (Jvm.Cond.fieldLink "TypeHouse$Moves" (25 : Nat) "TypeHouse$Moves" "first" "I") ∈ lw_all := lw_g (lw_at lw_m6 61 rfl) rfl
theorem q1687 : (Jvm.Cond.fieldLink "TypeHouse$Moves" (21 : Nat) "TypeHouse$Moves" "plain" "I") ∈ lw_all := lw_g (lw_at lw_m6 62 rfl) rfl
theorem q1688 : (Jvm.Cond.fieldLink "TypeHouse$Moves" (9 : Nat) "TypeHouse$Moves" "all" "[I") ∈ lw_all := lw_g (lw_at lw_m6 63 rfl) rfl
theorem q1689 : (Jvm.Cond.fieldLink "TypeHouse$Moves" (15 : Nat) "TypeHouse$Moves" "lasts" "[I") ∈ lw_all := lw_g (lw_at lw_m6 64 rfl) rfl
theorem q1694 : (Jvm.Cond.fieldLink "TypeHouse$Moves" (18 : Nat) "TypeHouse$Moves" "table" "[I") ∈ lw_all := lw_g (lw_at lw_m6 69 rfl) rfl
theorem q1714 : (Jvm.Cond.fieldLink "TypeHouse$Writer" (56 : Nat) "TypeHouse$Writer" "fonts" "LTypeHouse$FontTable;") ∈ lw_all := lw_g (lw_at lw_m6 89 rfl) rfl
theorem q1715 : (Jvm.Cond.fieldLink "TypeHouse$Writer" (15 : Nat) "TypeHouse$Writer" "out" "LTypeHouse$FileBytes;") ∈ lw_all := lw_g (lw_at lw_m6 90 rfl) rfl
theorem q1717 : (Jvm.Cond.fieldLink "TypeHouse$Writer" (21 : Nat) "TypeHouse$Writer" "counts" "[I") ∈ lw_all := lw_g (lw_at lw_m6 92 rfl) rfl
theorem q1719 : (Jvm.Cond.fieldLink "TypeHouse$Writer" (25 : Nat) "TypeHouse$Writer" "fontsOf" "[I") ∈ lw_all := lw_g (lw_at lw_m6 94 rfl) rfl
theorem q1720 : (Jvm.Cond.fieldLink "TypeHouse$Writer" (28 : Nat) "TypeHouse$Writer" "whats" "[I") ∈ lw_all := lw_g (lw_at lw_m6 95 rfl) rfl
theorem q1721 : (Jvm.Cond.fieldLink "TypeHouse$Writer" (31 : Nat) "TypeHouse$Writer" "xs" "[I") ∈ lw_all := lw_g (lw_at lw_m6 96 rfl) rfl
theorem q1722 : (Jvm.Cond.fieldLink "TypeHouse$Writer" (34 : Nat) "TypeHouse$Writer" "ys" "[I") ∈ lw_all := lw_g (lw_at lw_m6 97 rfl) rfl
theorem q1723 : (Jvm.Cond.fieldLink "TypeHouse$Writer" (37 : Nat) "TypeHouse$Writer" "heights" "[I") ∈ lw_all := lw_g (lw_at lw_m6 98 rfl) rfl
theorem q1726 : (Jvm.Cond.fieldLink "TypeHouse$Writer" (45 : Nat) "TypeHouse$Writer" "rights" "LTypeHouse$Moves;") ∈ lw_all := lw_g (lw_at lw_m6 101 rfl) rfl
theorem q1727 : (Jvm.Cond.fieldLink "TypeHouse$Writer" (49 : Nat) "TypeHouse$Writer" "downs" "LTypeHouse$Moves;") ∈ lw_all := lw_g (lw_at lw_m6 102 rfl) rfl
theorem q1732 : (Jvm.Cond.fieldLink "TypeHouse$Writer" (52 : Nat) "TypeHouse$Writer" "lastPage" "I") ∈ lw_all := lw_g (lw_at lw_m6 107 rfl) rfl
theorem q1773 : (Jvm.Cond.classLink "TypeHouse$Press" (123 : Nat) "TypeHouse$Lists") ∈ lw_all := lw_g (lw_at lw_m6 148 rfl) rfl
theorem q1774 : (Jvm.Cond.instantiable "TypeHouse$Lists" (2 : Nat)) ∈ lw_all := lw_g (lw_at lw_m6 149 rfl) rfl
theorem q1775 : (Jvm.Cond.methodLinkNest "TypeHouse$Press" (125 : Nat) ({ cls := "TypeHouse$Lists", name := "<init>", desc := "()V" } : Jvm.MethodName) "TypeHouse") ∈ lw_tbl := lw_at lw_m6 150 rfl
theorem q1776 : (Jvm.Cond.instanceMethod ({ cls := "TypeHouse$Lists", name := "<init>", desc := "()V" } : Jvm.MethodName)) ∈ lw_all := lw_g (lw_at lw_m6 151 rfl) rfl
theorem q1777 : (Jvm.Cond.code ({ cls := "TypeHouse$Lists", name := "<init>", desc := "()V" } : Jvm.MethodName) prog_13_method_1_code (1 : Nat) (Option.none : Option Jvm.ClassFile.FieldType)) ∈ lw_all := lw_g (lw_at lw_m6 152 rfl) rfl
theorem q1778 : (Jvm.Cond.methodLink "TypeHouse$Lists" (1 : Nat) ({ cls := "java/lang/Object", name := "<init>", desc := "()V" } : Jvm.MethodName)) ∈ lw_all := lw_g (lw_at lw_m6 153 rfl) rfl
theorem q1779 : (Jvm.Cond.fieldLink "TypeHouse$Lists" (9 : Nat) "TypeHouse$Lists" "rows" "[I") ∈ lw_all := lw_g (lw_at lw_m6 154 rfl) rfl
theorem q1787 : (Jvm.Cond.fieldLink "TypeHouse$Press" (14 : Nat) "TypeHouse$Press" "trouble" "LTypeHouse$Trouble;") ∈ lw_all := lw_g (lw_at lw_m6 162 rfl) rfl
theorem q1788 : (Jvm.Cond.fieldLink "TypeHouse$Press" (23 : Nat) "TypeHouse$Press" "fonts" "LTypeHouse$FontTable;") ∈ lw_all := lw_g (lw_at lw_m6 163 rfl) rfl
theorem q1790 : (Jvm.Cond.fieldLink "TypeHouse$Press" (30 : Nat) "TypeHouse$Press" "pool" "LTypeHouse$Pool;") ∈ lw_all := lw_g (lw_at lw_m6 165 rfl) rfl
theorem q1791 : (Jvm.Cond.fieldLink "TypeHouse$Press" (36 : Nat) "TypeHouse$Press" "boxes" "[LTypeHouse$Box;") ∈ lw_all := lw_g (lw_at lw_m6 166 rfl) rfl
theorem q1793 : (Jvm.Cond.fieldLink "TypeHouse$Press" (45 : Nat) "TypeHouse$Press" "x" "LTypeHouse$Expander;") ∈ lw_all := lw_g (lw_at lw_m6 168 rfl) rfl
theorem q1795 : (Jvm.Cond.fieldLink "TypeHouse$Press" (53 : Nat) "TypeHouse$Press" "settings" "LTypeHouse$Settings;") ∈ lw_all := lw_g (lw_at lw_m6 170 rfl) rfl
theorem q1797 : (Jvm.Cond.fieldLink "TypeHouse$Press" (57 : Nat) "TypeHouse$Press" "hyphenator" "LTypeHouse$Hyphenator;") ∈ lw_all := lw_g (lw_at lw_m6 172 rfl) rfl
theorem q1799 : (Jvm.Cond.fieldLink "TypeHouse$Press" (64 : Nat) "TypeHouse$Press" "setter" "LTypeHouse$Setter;") ∈ lw_all := lw_g (lw_at lw_m6 174 rfl) rfl
theorem q1800 : (Jvm.Cond.fieldLink "TypeHouse$Press" (73 : Nat) "TypeHouse$Press" "packer" "LTypeHouse$Packer;") ∈ lw_all := lw_g (lw_at lw_m6 175 rfl) rfl
theorem q1801 : (Jvm.Cond.fieldLink "TypeHouse$Press" (80 : Nat) "TypeHouse$Press" "layout" "LTypeHouse$Layout;") ∈ lw_all := lw_g (lw_at lw_m6 176 rfl) rfl
theorem q1802 : (Jvm.Cond.fieldLink "TypeHouse$Press" (87 : Nat) "TypeHouse$Press" "breaker" "LTypeHouse$Breaker;") ∈ lw_all := lw_g (lw_at lw_m6 177 rfl) rfl
theorem q1803 : (Jvm.Cond.fieldLink "TypeHouse$Press" (94 : Nat) "TypeHouse$Press" "pageItems" "LTypeHouse$PageItems;") ∈ lw_all := lw_g (lw_at lw_m6 178 rfl) rfl
theorem q1804 : (Jvm.Cond.fieldLink "TypeHouse$Press" (103 : Nat) "TypeHouse$Press" "builder" "LTypeHouse$PageBuilder;") ∈ lw_all := lw_g (lw_at lw_m6 179 rfl) rfl
theorem q1805 : (Jvm.Cond.fieldLink "TypeHouse$Press" (110 : Nat) "TypeHouse$Press" "sums" "LTypeHouse$Sums;") ∈ lw_all := lw_g (lw_at lw_m6 180 rfl) rfl
theorem q1806 : (Jvm.Cond.fieldLink "TypeHouse$Press" (119 : Nat) "TypeHouse$Press" "writer" "LTypeHouse$Writer;") ∈ lw_all := lw_g (lw_at lw_m6 181 rfl) rfl
theorem q1808 : (Jvm.Cond.fieldLink "TypeHouse$Press" (126 : Nat) "TypeHouse$Press" "lists" "LTypeHouse$Lists;") ∈ lw_all := lw_g (lw_at lw_m6 183 rfl) rfl
theorem q1809 : (Jvm.Cond.fieldLink "TypeHouse$Press" (130 : Nat) "TypeHouse$Press" "apart" "LTypeHouse$Lists;") ∈ lw_all := lw_g (lw_at lw_m6 184 rfl) rfl
theorem q1810 : (Jvm.Cond.fieldLink "TypeHouse$Press" (133 : Nat) "TypeHouse$Press" "row" "LTypeHouse$Lists;") ∈ lw_all := lw_g (lw_at lw_m6 185 rfl) rfl
theorem q1811 : (Jvm.Cond.fieldLink "TypeHouse$Press" (136 : Nat) "TypeHouse$Press" "modes" "[I") ∈ lw_all := lw_g (lw_at lw_m6 186 rfl) rfl
theorem q1812 : (Jvm.Cond.fieldLink "TypeHouse$Press" (140 : Nat) "TypeHouse$Press" "starts" "[I") ∈ lw_all := lw_g (lw_at lw_m6 187 rfl) rfl
theorem q1813 : (Jvm.Cond.fieldLink "TypeHouse$Press" (143 : Nat) "TypeHouse$Press" "depths" "[I") ∈ lw_all := lw_g (lw_at lw_m6 188 rfl) rfl
theorem q1814 : (Jvm.Cond.fieldLink "TypeHouse$Press" (146 : Nat) "TypeHouse$Press" "hows" "[I") ∈ lw_all := lw_g (lw_at lw_m6 189 rfl) rfl
theorem q1815 : (Jvm.Cond.fieldLink "TypeHouse$Press" (149 : Nat) "TypeHouse$Press" "sizes" "[I") ∈ lw_all := lw_g (lw_at lw_m6 190 rfl) rfl
theorem q1816 : (Jvm.Cond.fieldLink "TypeHouse$Press" (152 : Nat) "TypeHouse$Press" "goals" "[I") ∈ lw_all := lw_g (lw_at lw_m6 191 rfl) rfl
theorem q1817 : (Jvm.Cond.fieldLink "TypeHouse$Press" (155 : Nat) "TypeHouse$Press" "shifts" "[I") ∈ lw_all := lw_g (lw_at lw_m6 192 rfl) rfl
theorem q1818 : (Jvm.Cond.fieldLink "TypeHouse$Press" (158 : Nat) "TypeHouse$Press" "globals" "[Z") ∈ lw_all := lw_g (lw_at lw_m6 193 rfl) rfl
theorem q1820 : (Jvm.Cond.fieldLink "TypeHouse$Press" (162 : Nat) "TypeHouse$Press" "word" "[B") ∈ lw_all := lw_g (lw_at lw_m6 195 rfl) rfl
theorem q1821 : (Jvm.Cond.fieldLink "TypeHouse$Press" (166 : Nat) "TypeHouse$Press" "part" "[B") ∈ lw_all := lw_g (lw_at lw_m6 196 rfl) rfl
theorem q1824 : (Jvm.Cond.fieldLink "TypeHouse$Press" (169 : Nat) "TypeHouse$Press" "whole" "LTypeHouse$Lists;") ∈ lw_all := lw_g (lw_at lw_m6 199 rfl) rfl
theorem q1825 : (Jvm.Cond.fieldLink "TypeHouse$Press" (172 : Nat) "TypeHouse$Press" "first" "LTypeHouse$Lists;") ∈ lw_all := lw_g (lw_at lw_m6 200 rfl) rfl
theorem q1826 : (Jvm.Cond.fieldLink "TypeHouse$Press" (175 : Nat) "TypeHouse$Press" "hyphens" "[I") ∈ lw_all := lw_g (lw_at lw_m6 201 rfl) rfl
theorem q1828 : (Jvm.Cond.fieldLink "TypeHouse$Press" (178 : Nat) "TypeHouse$Press" "abouts" "[I") ∈ lw_all := lw_g (lw_at lw_m6 203 rfl) rfl
theorem q1915 : (Jvm.Cond.instanceMethod ({ cls := "TypeHouse$Names", name := "clear", desc := "()V" } : Jvm.MethodName)) ∈ lw_all := lw_g (lw_at lw_m7 50 rfl) rfl
theorem q1916 : (Jvm.Cond.selects "TypeHouse$Names" ({ cls := "TypeHouse$Names", name := "clear", desc := "()V" } : Jvm.MethodName) ({ cls := "TypeHouse$Names", name := "clear", desc := "()V" } : Jvm.MethodName)) ∈ lw_all := lw_g (lw_at lw_m7 51 rfl) rfl
theorem q1917 : (Jvm.Cond.code ({ cls := "TypeHouse$Names", name := "clear", desc := "()V" } : Jvm.MethodName) prog_17_method_2_code (2 : Nat) (Option.none : Option Jvm.ClassFile.FieldType)) ∈ lw_all := lw_g (lw_at lw_m7 52 rfl) rfl
theorem q1920 : (Jvm.Cond.instanceMethod ({ cls := "TypeHouse$Settings", name := "clear", desc := "()V" } : Jvm.MethodName)) ∈ lw_all := lw_g (lw_at lw_m7 55 rfl) rfl
theorem q1921 : (Jvm.Cond.code ({ cls := "TypeHouse$Settings", name := "clear", desc := "()V" } : Jvm.MethodName) prog_28_method_2_code (2 : Nat) (Option.none : Option Jvm.ClassFile.FieldType)) ∈ lw_all := lw_g (lw_at lw_m7 56 rfl) rfl
theorem q1922 : (Jvm.Cond.methodLink "TypeHouse$Settings" (42 : Nat) ({ cls := "java/util/Arrays", name := "fill", desc := "([II)V" } : Jvm.MethodName)) ∈ lw_all := lw_g (lw_at lw_m7 57 rfl) rfl
theorem q1925 : (Jvm.Cond.methodLink "TypeHouse$Settings" (48 : Nat) ({ cls := "TypeHouse$Settings", name := "clearCategories", desc := "()V" } : Jvm.MethodName)) ∈ lw_all := lw_g (lw_at lw_m7 60 rfl) rfl
theorem q1927 : (Jvm.Cond.instanceMethod ({ cls := "TypeHouse$Settings", name := "clearCategories", desc := "()V" } : Jvm.MethodName)) ∈ lw_all := lw_g (lw_at lw_m7 62 rfl) rfl
theorem q1928 : (Jvm.Cond.code ({ cls := "TypeHouse$Settings", name := "clearCategories", desc := "()V" } : Jvm.MethodName) prog_28_method_3_code (1 : Nat) (Option.none : Option Jvm.ClassFile.FieldType)) ∈ lw_all := lw_g (lw_at lw_m7 63 rfl) rfl
theorem q1929 : (Jvm.Cond.methodLink "TypeHouse$Settings" (51 : Nat) ({ cls := "TypeHouse$Settings", name := "clearNamed", desc := "()V" } : Jvm.MethodName)) ∈ lw_all := lw_g (lw_at lw_m7 64 rfl) rfl
theorem q1931 : (Jvm.Cond.instanceMethod ({ cls := "TypeHouse$Settings", name := "clearNamed", desc := "()V" } : Jvm.MethodName)) ∈ lw_all := lw_g (lw_at lw_m7 66 rfl) rfl
theorem q1932 : (Jvm.Cond.code ({ cls := "TypeHouse$Settings", name := "clearNamed", desc := "()V" } : Jvm.MethodName) prog_28_method_4_code (1 : Nat) (Option.none : Option Jvm.ClassFile.FieldType)) ∈ lw_all := lw_g (lw_at lw_m7 67 rfl) rfl
theorem q1933 : (Jvm.Cond.constant "TypeHouse$Settings" (61 : Nat) (26214400 : Int32)) ∈ lw_all := lw_g (lw_at lw_m7 68 rfl) rfl
theorem q1934 : (Jvm.Cond.constant "TypeHouse$Settings" (62 : Nat) (39321600 : Int32)) ∈ lw_all := lw_g (lw_at lw_m7 69 rfl) rfl
theorem q1935 : (Jvm.Cond.constant "TypeHouse$Settings" (63 : Nat) (1310720 : Int32)) ∈ lw_all := lw_g (lw_at lw_m7 70 rfl) rfl
theorem q1936 : (Jvm.Cond.constant "TypeHouse$Settings" (64 : Nat) (262144 : Int32)) ∈ lw_all := lw_g (lw_at lw_m7 71 rfl) rfl
theorem q1937 : (Jvm.Cond.constant "TypeHouse$Settings" (65 : Nat) (65536 : Int32)) ∈ lw_all := lw_g (lw_at lw_m7 72 rfl) rfl
theorem q1938 : (Jvm.Cond.constant "TypeHouse$Settings" (66 : Nat) (786432 : Int32)) ∈ lw_all := lw_g (lw_at lw_m7 73 rfl) rfl
theorem q1939 : (Jvm.Cond.constant "TypeHouse$Settings" (67 : Nat) (655360 : Int32)) ∈ lw_all := lw_g (lw_at lw_m7 74 rfl) rfl
theorem q1946 : (Jvm.Cond.instanceMethod ({ cls := "TypeHouse$Names", name := "open", desc := "()V" } : Jvm.MethodName)) ∈ lw_all := lw_g (lw_at lw_m7 81 rfl) rfl
theorem q1947 : (Jvm.Cond.selects "TypeHouse$Names" ({ cls := "TypeHouse$Names", name := "open", desc := "()V" } : Jvm.MethodName) ({ cls := "TypeHouse$Names", name := "open", desc := "()V" } : Jvm.MethodName)) ∈ lw_all := lw_g (lw_at lw_m7 82 rfl) rfl
theorem q1948 : (Jvm.Cond.code ({ cls := "TypeHouse$Names", name := "open", desc := "()V" } : Jvm.MethodName) prog_17_method_3_code (1 : Nat) (Option.none : Option Jvm.ClassFile.FieldType)) ∈ lw_all := lw_g (lw_at lw_m7 83 rfl) rfl
abbrev cX2_init : ByteArray := prog_8_method_1_code
def yX2_init : MethodName := ⟨RX2, "<init>", "()V"⟩
def YX2_init : eY := (yX2_init, cX2_init, 1, none, [])
theorem mX2_init : e_mi YX2_init 0 := ⟨q496, rfl, rfl, q497, by decide, by decide +kernel, (e_sig (by decide +kernel))⟩
theorem dX2_init_0 : decode cX2_init 0 = .ok (.aload_n 0, 1) := dc_42 (by decide +kernel)
theorem dX2_init_1 : decode cX2_init 1 = .ok (.invokespecial 3, 3) := dc_183 (a := 0) (b := 3) (n := 3) (by decide +kernel)
theorem dX2_init_4 : decode cX2_init 4 = .ok (.aload_n 0, 1) := dc_42 (by decide +kernel)
theorem dX2_init_5 : decode cX2_init 5 = .ok (.sipush 8192, 3) := dc_17 (a := 32) (b := 0) (v := 8192) (by decide +kernel)
theorem dX2_init_8 : decode cX2_init 8 = .ok (.newarray .byte, 2) := dc_188_8 (by decide +kernel)
theorem dX2_init_10 : decode cX2_init 10 = .ok (.putfield 9, 3) := dc_181 (a := 0) (b := 9) (n := 9) (by decide +kernel)
theorem dX2_init_13 : decode cX2_init 13 = .ok (.return_, 1) := dc_177 (by decide +kernel)
theorem SX2_9 {w : eW} {d : Nat} {Y : eY} {pc : Nat} {ls : eL} {st : List Value} {h : eH} {Q : eO → eH → Prop} {a : Nat} {h' : eH} {v : Value} (hf : p_F 1 h a 0 v = some h') (hd : decode Y.2.1 pc = .ok (.putfield 9, 3)) (hY : Y.1.cls = RX2) (hI : Y.1.name = "<init>") (hn : narrow (tyX2 0) v = v) (hfit : fits (tyX2 0) v = true) (kk : wp w d Y (pc + 3) ls st h' Q) : wp w d Y pc ls (v :: .ref a :: st) h Q := x_pF (ci := 1) (k := 0) hf hd rfl (by decide) (by rw [hY]; exact q499) rfl hI (by rw [hY]; rfl) (tyX2_ok 0 (by decide)) hn hfit kk
def fX2_init (this : Nat) (h : eH) : Option (Unit × eH) :=
  (n_arr 102 1 (.int 0) h (8192 : Int32)).bind fun q1 =>
  (p_F 1 q1.2 this 0 (.ref q1.1)).bind fun h3 =>
  some ((), h3)
theorem pX2_init {w : eW} {d : Nat} (hd : 1 ≤ d) {this : Nat} {h : eH} {q} (hf : fX2_init this h = some q) : wm w d YX2_init [.ref this] h (e_is (e_rn c_V q)) := by
  obtain ⟨d, rfl⟩ : ∃ e, d = e + 1 := ⟨d - 1, by omega⟩
  show wp w (d + 1) YX2_init 0 [some (.ref this)] [] h _
  unfold fX2_init at hf
  refine w_aload_n dX2_init_0 rfl rfl ?_
  refine w_obj dX2_init_1 q498 q490 q491 (by decide) ?_
  refine w_aload_n dX2_init_4 rfl rfl ?_
  refine w_sipush dX2_init_5 (v := 8192) (by decide) ?_
  obtain ⟨q1, b2, hf⟩ := Option.bind_eq_some_iff.mp hf
  refine x_newB (g := 1) b2 dX2_init_8 q507 ?_
  obtain ⟨h3, b4, hf⟩ := Option.bind_eq_some_iff.mp hf
  refine SX2_9 b4 dX2_init_10 rfl rfl rfl rfl ?_
  cases hf
  exact w_vret dX2_init_13 rfl rfl
abbrev cX4_init : ByteArray := prog_34_method_1_code
def yX4_init : MethodName := ⟨RX4, "<init>", "()V"⟩
def YX4_init : eY := (yX4_init, cX4_init, 1, none, [])
theorem mX4_init : e_mi YX4_init 0 := ⟨q517, rfl, rfl, q518, by decide, by decide +kernel, (e_sig (by decide +kernel))⟩
theorem dX4_init_0 : decode cX4_init 0 = .ok (.aload_n 0, 1) := dc_42 (by decide +kernel)
theorem dX4_init_1 : decode cX4_init 1 = .ok (.invokespecial 1, 3) := dc_183 (a := 0) (b := 1) (n := 1) (by decide +kernel)
theorem dX4_init_4 : decode cX4_init 4 = .ok (.return_, 1) := dc_177 (by decide +kernel)
def fX4_init (this : Nat) (h : eH) : Option (Unit × eH) :=
  some ((), h)
theorem pX4_init {w : eW} {d : Nat} (hd : 1 ≤ d) {this : Nat} {h : eH} {q} (hf : fX4_init this h = some q) : wm w d YX4_init [.ref this] h (e_is (e_rn c_V q)) := by
  obtain ⟨d, rfl⟩ : ∃ e, d = e + 1 := ⟨d - 1, by omega⟩
  show wp w (d + 1) YX4_init 0 [some (.ref this)] [] h _
  unfold fX4_init at hf
  refine w_aload_n dX4_init_0 rfl rfl ?_
  refine w_obj dX4_init_1 q519 q490 q491 (by decide) ?_
  cases hf
  exact w_vret dX4_init_4 rfl rfl
abbrev cX6_init : ByteArray := prog_7_method_1_code
def yX6_init : MethodName := ⟨RX6, "<init>", "()V"⟩
def YX6_init : eY := (yX6_init, cX6_init, 1, none, [])
theorem mX6_init : e_mi YX6_init 0 := ⟨q538, rfl, rfl, q539, by decide, by decide +kernel, (e_sig (by decide +kernel))⟩
theorem dX6_init_0 : decode cX6_init 0 = .ok (.aload_n 0, 1) := dc_42 (by decide +kernel)
theorem dX6_init_1 : decode cX6_init 1 = .ok (.invokespecial 3, 3) := dc_183 (a := 0) (b := 3) (n := 3) (by decide +kernel)
theorem dX6_init_4 : decode cX6_init 4 = .ok (.aload_n 0, 1) := dc_42 (by decide +kernel)
theorem dX6_init_5 : decode cX6_init 5 = .ok (.sipush 2048, 3) := dc_17 (a := 8) (b := 0) (v := 2048) (by decide +kernel)
theorem dX6_init_8 : decode cX6_init 8 = .ok (.newarray .int, 2) := dc_188_10 (by decide +kernel)
theorem dX6_init_10 : decode cX6_init 10 = .ok (.putfield 9, 3) := dc_181 (a := 0) (b := 9) (n := 9) (by decide +kernel)
theorem dX6_init_13 : decode cX6_init 13 = .ok (.aload_n 0, 1) := dc_42 (by decide +kernel)
theorem dX6_init_14 : decode cX6_init 14 = .ok (.sipush 2048, 3) := dc_17 (a := 8) (b := 0) (v := 2048) (by decide +kernel)
theorem dX6_init_17 : decode cX6_init 17 = .ok (.newarray .int, 2) := dc_188_10 (by decide +kernel)
theorem dX6_init_19 : decode cX6_init 19 = .ok (.putfield 15, 3) := dc_181 (a := 0) (b := 15) (n := 15) (by decide +kernel)
theorem dX6_init_22 : decode cX6_init 22 = .ok (.aload_n 0, 1) := dc_42 (by decide +kernel)
theorem dX6_init_23 : decode cX6_init 23 = .ok (.bipush 10, 2) := dc_16 (a := 10) (v := 10) (by decide +kernel)
theorem dX6_init_25 : decode cX6_init 25 = .ok (.newarray .int, 2) := dc_188_10 (by decide +kernel)
theorem dX6_init_27 : decode cX6_init 27 = .ok (.putfield 18, 3) := dc_181 (a := 0) (b := 18) (n := 18) (by decide +kernel)
theorem dX6_init_30 : decode cX6_init 30 = .ok (.aload_n 0, 1) := dc_42 (by decide +kernel)
theorem dX6_init_31 : decode cX6_init 31 = .ok (.bipush 10, 2) := dc_16 (a := 10) (v := 10) (by decide +kernel)
theorem dX6_init_33 : decode cX6_init 33 = .ok (.newarray .int, 2) := dc_188_10 (by decide +kernel)
theorem dX6_init_35 : decode cX6_init 35 = .ok (.putfield 21, 3) := dc_181 (a := 0) (b := 21) (n := 21) (by decide +kernel)
theorem dX6_init_38 : decode cX6_init 38 = .ok (.return_, 1) := dc_177 (by decide +kernel)
theorem SX6_15 {w : eW} {d : Nat} {Y : eY} {pc : Nat} {ls : eL} {st : List Value} {h : eH} {Q : eO → eH → Prop} {a : Nat} {h' : eH} {v : Value} (hf : p_F 5 h a 1 v = some h') (hd : decode Y.2.1 pc = .ok (.putfield 15, 3)) (hY : Y.1.cls = RX6) (hI : Y.1.name = "<init>") (hn : narrow (tyX6 1) v = v) (hfit : fits (tyX6 1) v = true) (kk : wp w d Y (pc + 3) ls st h' Q) : wp w d Y pc ls (v :: .ref a :: st) h Q := x_pF (ci := 5) (k := 1) hf hd rfl (by decide) (by rw [hY]; exact q542) rfl hI (by rw [hY]; rfl) (tyX6_ok 1 (by decide)) hn hfit kk
theorem SX6_18 {w : eW} {d : Nat} {Y : eY} {pc : Nat} {ls : eL} {st : List Value} {h : eH} {Q : eO → eH → Prop} {a : Nat} {h' : eH} {v : Value} (hf : p_F 5 h a 2 v = some h') (hd : decode Y.2.1 pc = .ok (.putfield 18, 3)) (hY : Y.1.cls = RX6) (hI : Y.1.name = "<init>") (hn : narrow (tyX6 2) v = v) (hfit : fits (tyX6 2) v = true) (kk : wp w d Y (pc + 3) ls st h' Q) : wp w d Y pc ls (v :: .ref a :: st) h Q := x_pF (ci := 5) (k := 2) hf hd rfl (by decide) (by rw [hY]; exact q544) rfl hI (by rw [hY]; rfl) (tyX6_ok 2 (by decide)) hn hfit kk
theorem SX6_21 {w : eW} {d : Nat} {Y : eY} {pc : Nat} {ls : eL} {st : List Value} {h : eH} {Q : eO → eH → Prop} {a : Nat} {h' : eH} {v : Value} (hf : p_F 5 h a 3 v = some h') (hd : decode Y.2.1 pc = .ok (.putfield 21, 3)) (hY : Y.1.cls = RX6) (hI : Y.1.name = "<init>") (hn : narrow (tyX6 3) v = v) (hfit : fits (tyX6 3) v = true) (kk : wp w d Y (pc + 3) ls st h' Q) : wp w d Y pc ls (v :: .ref a :: st) h Q := x_pF (ci := 5) (k := 3) hf hd rfl (by decide) (by rw [hY]; exact q546) rfl hI (by rw [hY]; rfl) (tyX6_ok 3 (by decide)) hn hfit kk
theorem SX6_9 {w : eW} {d : Nat} {Y : eY} {pc : Nat} {ls : eL} {st : List Value} {h : eH} {Q : eO → eH → Prop} {a : Nat} {h' : eH} {v : Value} (hf : p_F 5 h a 0 v = some h') (hd : decode Y.2.1 pc = .ok (.putfield 9, 3)) (hY : Y.1.cls = RX6) (hI : Y.1.name = "<init>") (hn : narrow (tyX6 0) v = v) (hfit : fits (tyX6 0) v = true) (kk : wp w d Y (pc + 3) ls st h' Q) : wp w d Y pc ls (v :: .ref a :: st) h Q := x_pF (ci := 5) (k := 0) hf hd rfl (by decide) (by rw [hY]; exact q541) rfl hI (by rw [hY]; rfl) (tyX6_ok 0 (by decide)) hn hfit kk
def fX6_init (this : Nat) (h : eH) : Option (Unit × eH) :=
  (n_arr 100 2 (.int 0) h (2048 : Int32)).bind fun q1 =>
  (p_F 5 q1.2 this 0 (.ref q1.1)).bind fun h3 =>
  (n_arr 100 3 (.int 0) h3 (2048 : Int32)).bind fun q5 =>
  (p_F 5 q5.2 this 1 (.ref q5.1)).bind fun h7 =>
  (n_arr 100 4 (.int 0) h7 (10 : Int32)).bind fun q9 =>
  (p_F 5 q9.2 this 2 (.ref q9.1)).bind fun h11 =>
  (n_arr 100 5 (.int 0) h11 (10 : Int32)).bind fun q13 =>
  (p_F 5 q13.2 this 3 (.ref q13.1)).bind fun h15 =>
  some ((), h15)
theorem pX6_init {w : eW} {d : Nat} (hd : 1 ≤ d) {this : Nat} {h : eH} {q} (hf : fX6_init this h = some q) : wm w d YX6_init [.ref this] h (e_is (e_rn c_V q)) := by
  obtain ⟨d, rfl⟩ : ∃ e, d = e + 1 := ⟨d - 1, by omega⟩
  show wp w (d + 1) YX6_init 0 [some (.ref this)] [] h _
  unfold fX6_init at hf
  refine w_aload_n dX6_init_0 rfl rfl ?_
  refine w_obj dX6_init_1 q540 q490 q491 (by decide) ?_
  refine w_aload_n dX6_init_4 rfl rfl ?_
  refine w_sipush dX6_init_5 (v := 2048) (by decide) ?_
  obtain ⟨q1, b2, hf⟩ := Option.bind_eq_some_iff.mp hf
  refine x_newI (g := 2) b2 dX6_init_8 q582 ?_
  obtain ⟨h3, b4, hf⟩ := Option.bind_eq_some_iff.mp hf
  refine SX6_9 b4 dX6_init_10 rfl rfl rfl rfl ?_
  refine w_aload_n dX6_init_13 rfl rfl ?_
  refine w_sipush dX6_init_14 (v := 2048) (by decide) ?_
  obtain ⟨q5, b6, hf⟩ := Option.bind_eq_some_iff.mp hf
  refine x_newI (g := 3) b6 dX6_init_17 q582 ?_
  obtain ⟨h7, b8, hf⟩ := Option.bind_eq_some_iff.mp hf
  refine SX6_15 b8 dX6_init_19 rfl rfl rfl rfl ?_
  refine w_aload_n dX6_init_22 rfl rfl ?_
  refine w_bipush dX6_init_23 (v := 10) (by decide) ?_
  obtain ⟨q9, b10, hf⟩ := Option.bind_eq_some_iff.mp hf
  refine x_newI (g := 4) b10 dX6_init_25 q582 ?_
  obtain ⟨h11, b12, hf⟩ := Option.bind_eq_some_iff.mp hf
  refine SX6_18 b12 dX6_init_27 rfl rfl rfl rfl ?_
  refine w_aload_n dX6_init_30 rfl rfl ?_
  refine w_bipush dX6_init_31 (v := 10) (by decide) ?_
  obtain ⟨q13, b14, hf⟩ := Option.bind_eq_some_iff.mp hf
  refine x_newI (g := 5) b14 dX6_init_33 q582 ?_
  obtain ⟨h15, b16, hf⟩ := Option.bind_eq_some_iff.mp hf
  refine SX6_21 b16 dX6_init_35 rfl rfl rfl rfl ?_
  cases hf
  exact w_vret dX6_init_38 rfl rfl
abbrev cX5_init : ByteArray := prog_9_method_1_code
def yX5_init : MethodName := ⟨RX5, "<init>", "()V"⟩
def YX5_init : eY := (yX5_init, cX5_init, 1, none, [])
theorem mX5_init : e_mi YX5_init 0 := ⟨q529, rfl, rfl, q530, by decide, by decide +kernel, (e_sig (by decide +kernel))⟩
theorem dX5_init_0 : decode cX5_init 0 = .ok (.aload_n 0, 1) := dc_42 (by decide +kernel)
theorem dX5_init_1 : decode cX5_init 1 = .ok (.invokespecial 3, 3) := dc_183 (a := 0) (b := 3) (n := 3) (by decide +kernel)
theorem dX5_init_4 : decode cX5_init 4 = .ok (.aload_n 0, 1) := dc_42 (by decide +kernel)
theorem dX5_init_5 : decode cX5_init 5 = .ok (.bipush 16, 2) := dc_16 (a := 16) (v := 16) (by decide +kernel)
theorem dX5_init_7 : decode cX5_init 7 = .ok (.anewarray 9, 3) := dc_189 (a := 0) (b := 9) (n := 9) (by decide +kernel)
theorem dX5_init_10 : decode cX5_init 10 = .ok (.putfield 11, 3) := dc_181 (a := 0) (b := 11) (n := 11) (by decide +kernel)
theorem dX5_init_13 : decode cX5_init 13 = .ok (.aload_n 0, 1) := dc_42 (by decide +kernel)
theorem dX5_init_14 : decode cX5_init 14 = .ok (.bipush 100, 2) := dc_16 (a := 100) (v := 100) (by decide +kernel)
theorem dX5_init_16 : decode cX5_init 16 = .ok (.anewarray 17, 3) := dc_189 (a := 0) (b := 17) (n := 17) (by decide +kernel)
theorem dX5_init_19 : decode cX5_init 19 = .ok (.putfield 19, 3) := dc_181 (a := 0) (b := 19) (n := 19) (by decide +kernel)
theorem dX5_init_22 : decode cX5_init 22 = .ok (.aload_n 0, 1) := dc_42 (by decide +kernel)
theorem dX5_init_23 : decode cX5_init 23 = .ok (.bipush 100, 2) := dc_16 (a := 100) (v := 100) (by decide +kernel)
theorem dX5_init_25 : decode cX5_init 25 = .ok (.newarray .int, 2) := dc_188_10 (by decide +kernel)
theorem dX5_init_27 : decode cX5_init 27 = .ok (.putfield 23, 3) := dc_181 (a := 0) (b := 23) (n := 23) (by decide +kernel)
theorem dX5_init_30 : decode cX5_init 30 = .ok (.aload_n 0, 1) := dc_42 (by decide +kernel)
theorem dX5_init_31 : decode cX5_init 31 = .ok (.bipush 100, 2) := dc_16 (a := 100) (v := 100) (by decide +kernel)
theorem dX5_init_33 : decode cX5_init 33 = .ok (.newarray .boolean, 2) := dc_188_4 (by decide +kernel)
theorem dX5_init_35 : decode cX5_init 35 = .ok (.putfield 27, 3) := dc_181 (a := 0) (b := 27) (n := 27) (by decide +kernel)
theorem dX5_init_38 : decode cX5_init 38 = .ok (.aload_n 0, 1) := dc_42 (by decide +kernel)
theorem dX5_init_39 : decode cX5_init 39 = .ok (.bipush 100, 2) := dc_16 (a := 100) (v := 100) (by decide +kernel)
theorem dX5_init_41 : decode cX5_init 41 = .ok (.newarray .int, 2) := dc_188_10 (by decide +kernel)
theorem dX5_init_43 : decode cX5_init 43 = .ok (.putfield 31, 3) := dc_181 (a := 0) (b := 31) (n := 31) (by decide +kernel)
theorem dX5_init_46 : decode cX5_init 46 = .ok (.aload_n 0, 1) := dc_42 (by decide +kernel)
theorem dX5_init_47 : decode cX5_init 47 = .ok (.new 17, 3) := dc_187 (a := 0) (b := 17) (n := 17) (by decide +kernel)
theorem dX5_init_50 : decode cX5_init 50 = .ok (.dup, 1) := dc_89 (by decide +kernel)
theorem dX5_init_51 : decode cX5_init 51 = .ok (.invokespecial 34, 3) := dc_183 (a := 0) (b := 34) (n := 34) (by decide +kernel)
theorem dX5_init_54 : decode cX5_init 54 = .ok (.putfield 35, 3) := dc_181 (a := 0) (b := 35) (n := 35) (by decide +kernel)
theorem dX5_init_57 : decode cX5_init 57 = .ok (.return_, 1) := dc_177 (by decide +kernel)
theorem SX5_11 {w : eW} {d : Nat} {Y : eY} {pc : Nat} {ls : eL} {st : List Value} {h : eH} {Q : eO → eH → Prop} {a : Nat} {h' : eH} {v : Value} (hf : p_F 4 h a 0 v = some h') (hd : decode Y.2.1 pc = .ok (.putfield 11, 3)) (hY : Y.1.cls = RX5) (hI : Y.1.name = "<init>") (hn : narrow (tyX5 0) v = v) (hfit : fits (tyX5 0) v = true) (kk : wp w d Y (pc + 3) ls st h' Q) : wp w d Y pc ls (v :: .ref a :: st) h Q := x_pF (ci := 4) (k := 0) hf hd rfl (by decide) (by rw [hY]; exact q584) rfl hI (by rw [hY]; rfl) (tyX5_ok 0 (by decide)) hn hfit kk
theorem SX5_19 {w : eW} {d : Nat} {Y : eY} {pc : Nat} {ls : eL} {st : List Value} {h : eH} {Q : eO → eH → Prop} {a : Nat} {h' : eH} {v : Value} (hf : p_F 4 h a 1 v = some h') (hd : decode Y.2.1 pc = .ok (.putfield 19, 3)) (hY : Y.1.cls = RX5) (hI : Y.1.name = "<init>") (hn : narrow (tyX5 1) v = v) (hfit : fits (tyX5 1) v = true) (kk : wp w d Y (pc + 3) ls st h' Q) : wp w d Y pc ls (v :: .ref a :: st) h Q := x_pF (ci := 4) (k := 1) hf hd rfl (by decide) (by rw [hY]; exact q586) rfl hI (by rw [hY]; rfl) (tyX5_ok 1 (by decide)) hn hfit kk
theorem SX5_23 {w : eW} {d : Nat} {Y : eY} {pc : Nat} {ls : eL} {st : List Value} {h : eH} {Q : eO → eH → Prop} {a : Nat} {h' : eH} {v : Value} (hf : p_F 4 h a 2 v = some h') (hd : decode Y.2.1 pc = .ok (.putfield 23, 3)) (hY : Y.1.cls = RX5) (hI : Y.1.name = "<init>") (hn : narrow (tyX5 2) v = v) (hfit : fits (tyX5 2) v = true) (kk : wp w d Y (pc + 3) ls st h' Q) : wp w d Y pc ls (v :: .ref a :: st) h Q := x_pF (ci := 4) (k := 2) hf hd rfl (by decide) (by rw [hY]; exact q588) rfl hI (by rw [hY]; rfl) (tyX5_ok 2 (by decide)) hn hfit kk
theorem SX5_27 {w : eW} {d : Nat} {Y : eY} {pc : Nat} {ls : eL} {st : List Value} {h : eH} {Q : eO → eH → Prop} {a : Nat} {h' : eH} {v : Value} (hf : p_F 4 h a 4 v = some h') (hd : decode Y.2.1 pc = .ok (.putfield 27, 3)) (hY : Y.1.cls = RX5) (hI : Y.1.name = "<init>") (hn : narrow (tyX5 4) v = v) (hfit : fits (tyX5 4) v = true) (kk : wp w d Y (pc + 3) ls st h' Q) : wp w d Y pc ls (v :: .ref a :: st) h Q := x_pF (ci := 4) (k := 4) hf hd rfl (by decide) (by rw [hY]; exact q590) rfl hI (by rw [hY]; rfl) (tyX5_ok 4 (by decide)) hn hfit kk
theorem SX5_31 {w : eW} {d : Nat} {Y : eY} {pc : Nat} {ls : eL} {st : List Value} {h : eH} {Q : eO → eH → Prop} {a : Nat} {h' : eH} {v : Value} (hf : p_F 4 h a 5 v = some h') (hd : decode Y.2.1 pc = .ok (.putfield 31, 3)) (hY : Y.1.cls = RX5) (hI : Y.1.name = "<init>") (hn : narrow (tyX5 5) v = v) (hfit : fits (tyX5 5) v = true) (kk : wp w d Y (pc + 3) ls st h' Q) : wp w d Y pc ls (v :: .ref a :: st) h Q := x_pF (ci := 4) (k := 5) hf hd rfl (by decide) (by rw [hY]; exact q592) rfl hI (by rw [hY]; rfl) (tyX5_ok 5 (by decide)) hn hfit kk
theorem SX5_35 {w : eW} {d : Nat} {Y : eY} {pc : Nat} {ls : eL} {st : List Value} {h : eH} {Q : eO → eH → Prop} {a : Nat} {h' : eH} {v : Value} (hf : p_F 4 h a 7 v = some h') (hd : decode Y.2.1 pc = .ok (.putfield 35, 3)) (hY : Y.1.cls = RX5) (hI : Y.1.name = "<init>") (hn : narrow (tyX5 7) v = v) (hfit : fits (tyX5 7) v = true) (kk : wp w d Y (pc + 3) ls st h' Q) : wp w d Y pc ls (v :: .ref a :: st) h Q := x_pF (ci := 4) (k := 7) hf hd rfl (by decide) (by rw [hY]; exact q596) rfl hI (by rw [hY]; rfl) (tyX5_ok 7 (by decide)) hn hfit kk
def fX5_init (this : Nat) (h : eH) : Option (Unit × eH) :=
  (n_arr 106 6 .null h (16 : Int32)).bind fun q1 =>
  (p_F 4 q1.2 this 0 (.ref q1.1)).bind fun h3 =>
  (n_arr 105 7 .null h3 (100 : Int32)).bind fun q5 =>
  (p_F 4 q5.2 this 1 (.ref q5.1)).bind fun h7 =>
  (n_arr 100 8 (.int 0) h7 (100 : Int32)).bind fun q9 =>
  (p_F 4 q9.2 this 2 (.ref q9.1)).bind fun h11 =>
  (n_arr 103 9 (.int 0) h11 (100 : Int32)).bind fun q13 =>
  (p_F 4 q13.2 this 4 (.ref q13.1)).bind fun h15 =>
  (n_arr 100 10 (.int 0) h15 (100 : Int32)).bind fun q17 =>
  (p_F 4 q17.2 this 5 (.ref q17.1)).bind fun h19 =>
  (n_obj 5 11 11 tyX6 h19).bind fun q21 =>
  (fX6_init q21.1 q21.2).bind fun q23 =>
  (p_F 4 q23.2 this 7 (.ref q21.1)).bind fun h24 =>
  some ((), h24)
theorem pX5_init {w : eW} {d : Nat} (hd : 2 ≤ d) {this : Nat} {h : eH} {q} (hf : fX5_init this h = some q) : wm w d YX5_init [.ref this] h (e_is (e_rn c_V q)) := by
  obtain ⟨d, rfl⟩ : ∃ e, d = e + 1 := ⟨d - 1, by omega⟩
  show wp w (d + 1) YX5_init 0 [some (.ref this)] [] h _
  unfold fX5_init at hf
  refine w_aload_n dX5_init_0 rfl rfl ?_
  refine w_obj dX5_init_1 q531 q490 q491 (by decide) ?_
  refine w_aload_n dX5_init_4 rfl rfl ?_
  refine w_bipush dX5_init_5 (v := 16) (by decide) ?_
  obtain ⟨q1, b2, hf⟩ := Option.bind_eq_some_iff.mp hf
  refine x_anew (k := 106) (g := 6) b2 dX5_init_7 (by decide) (by decide) rfl q532 q533 ?_
  obtain ⟨h3, b4, hf⟩ := Option.bind_eq_some_iff.mp hf
  refine SX5_11 b4 dX5_init_10 rfl rfl rfl rfl ?_
  refine w_aload_n dX5_init_13 rfl rfl ?_
  refine w_bipush dX5_init_14 (v := 100) (by decide) ?_
  obtain ⟨q5, b6, hf⟩ := Option.bind_eq_some_iff.mp hf
  refine x_anew (k := 105) (g := 7) b6 dX5_init_16 (by decide) (by decide) rfl q534 q535 ?_
  obtain ⟨h7, b8, hf⟩ := Option.bind_eq_some_iff.mp hf
  refine SX5_19 b8 dX5_init_19 rfl rfl rfl rfl ?_
  refine w_aload_n dX5_init_22 rfl rfl ?_
  refine w_bipush dX5_init_23 (v := 100) (by decide) ?_
  obtain ⟨q9, b10, hf⟩ := Option.bind_eq_some_iff.mp hf
  refine x_newI (g := 8) b10 dX5_init_25 q582 ?_
  obtain ⟨h11, b12, hf⟩ := Option.bind_eq_some_iff.mp hf
  refine SX5_23 b12 dX5_init_27 rfl rfl rfl rfl ?_
  refine w_aload_n dX5_init_30 rfl rfl ?_
  refine w_bipush dX5_init_31 (v := 100) (by decide) ?_
  obtain ⟨q13, b14, hf⟩ := Option.bind_eq_some_iff.mp hf
  refine x_newZ (g := 9) b14 dX5_init_33 q583 ?_
  obtain ⟨h15, b16, hf⟩ := Option.bind_eq_some_iff.mp hf
  refine SX5_27 b16 dX5_init_35 rfl rfl rfl rfl ?_
  refine w_aload_n dX5_init_38 rfl rfl ?_
  refine w_bipush dX5_init_39 (v := 100) (by decide) ?_
  obtain ⟨q17, b18, hf⟩ := Option.bind_eq_some_iff.mp hf
  refine x_newI (g := 10) b18 dX5_init_41 q582 ?_
  obtain ⟨h19, b20, hf⟩ := Option.bind_eq_some_iff.mp hf
  refine SX5_31 b20 dX5_init_43 rfl rfl rfl rfl ?_
  refine w_aload_n dX5_init_46 rfl rfl ?_
  obtain ⟨q21, b22, hf⟩ := Option.bind_eq_some_iff.mp hf
  refine x_new (ci := 5) (g := 11) b22 dX5_init_47 rfl tyX6_ok q534 q536 q431 ?_
  refine w_dup dX5_init_50 rfl ?_
  refine x_cnV hf (e_stIN (Yc := YX6_init) (b := q21.1) (av := []) (st := [.ref q21.1, .ref this]) dX5_init_51 q537 mX6_init) (e_mi.cd mX6_init) mX6_init.2.2.2.2.2.1 (Nat.le_of_ble_eq_true rfl) (Nat.le_of_ble_eq_true rfl) (fun q hq => pX6_init (by omega) hq) (fun q23 hf => ?_)
  obtain ⟨h24, b25, hf⟩ := Option.bind_eq_some_iff.mp hf
  refine SX5_35 b25 dX5_init_54 rfl rfl rfl rfl ?_
  cases hf
  exact w_vret dX5_init_57 rfl rfl
abbrev cX7_init : ByteArray := prog_25_method_1_code
def yX7_init : MethodName := ⟨RX7, "<init>", "()V"⟩
def YX7_init : eY := (yX7_init, cX7_init, 1, none, [])
theorem mX7_init : e_mi YX7_init 0 := ⟨q617, rfl, rfl, q618, by decide, by decide +kernel, (e_sig (by decide +kernel))⟩
theorem dX7_init_0 : decode cX7_init 0 = .ok (.aload_n 0, 1) := dc_42 (by decide +kernel)
theorem dX7_init_1 : decode cX7_init 1 = .ok (.invokespecial 3, 3) := dc_183 (a := 0) (b := 3) (n := 3) (by decide +kernel)
theorem dX7_init_4 : decode cX7_init 4 = .ok (.aload_n 0, 1) := dc_42 (by decide +kernel)
theorem dX7_init_5 : decode cX7_init 5 = .ok (.sipush 128, 3) := dc_17 (a := 0) (b := 128) (v := 128) (by decide +kernel)
theorem dX7_init_8 : decode cX7_init 8 = .ok (.newarray .byte, 2) := dc_188_8 (by decide +kernel)
theorem dX7_init_10 : decode cX7_init 10 = .ok (.putfield 9, 3) := dc_181 (a := 0) (b := 9) (n := 9) (by decide +kernel)
theorem dX7_init_13 : decode cX7_init 13 = .ok (.aload_n 0, 1) := dc_42 (by decide +kernel)
theorem dX7_init_14 : decode cX7_init 14 = .ok (.sipush 640, 3) := dc_17 (a := 2) (b := 128) (v := 640) (by decide +kernel)
theorem dX7_init_17 : decode cX7_init 17 = .ok (.newarray .int, 2) := dc_188_10 (by decide +kernel)
theorem dX7_init_19 : decode cX7_init 19 = .ok (.putfield 15, 3) := dc_181 (a := 0) (b := 15) (n := 15) (by decide +kernel)
theorem dX7_init_22 : decode cX7_init 22 = .ok (.aload_n 0, 1) := dc_42 (by decide +kernel)
theorem dX7_init_23 : decode cX7_init 23 = .ok (.sipush 128, 3) := dc_17 (a := 0) (b := 128) (v := 128) (by decide +kernel)
theorem dX7_init_26 : decode cX7_init 26 = .ok (.newarray .int, 2) := dc_188_10 (by decide +kernel)
theorem dX7_init_28 : decode cX7_init 28 = .ok (.putfield 19, 3) := dc_181 (a := 0) (b := 19) (n := 19) (by decide +kernel)
theorem dX7_init_31 : decode cX7_init 31 = .ok (.return_, 1) := dc_177 (by decide +kernel)
theorem SX7_15 {w : eW} {d : Nat} {Y : eY} {pc : Nat} {ls : eL} {st : List Value} {h : eH} {Q : eO → eH → Prop} {a : Nat} {h' : eH} {x : Nat} (hf : p_V 6 h a 1 (.ref x) = some h') (hd : decode Y.2.1 pc = .ok (.putfield 15, 3)) (hY : Y.1.cls = RX7) (kk : wp w d Y (pc + 3) ls st h' Q) : wp w d Y pc ls (.ref x :: .ref a :: st) h Q := x_pA (ci := 6) (k := 1) hf hd rfl (by decide) (by rw [hY]; exact q621) rfl rfl rfl rfl kk
theorem SX7_19 {w : eW} {d : Nat} {Y : eY} {pc : Nat} {ls : eL} {st : List Value} {h : eH} {Q : eO → eH → Prop} {a : Nat} {h' : eH} {x : Nat} (hf : p_V 6 h a 2 (.ref x) = some h') (hd : decode Y.2.1 pc = .ok (.putfield 19, 3)) (hY : Y.1.cls = RX7) (kk : wp w d Y (pc + 3) ls st h' Q) : wp w d Y pc ls (.ref x :: .ref a :: st) h Q := x_pA (ci := 6) (k := 2) hf hd rfl (by decide) (by rw [hY]; exact q622) rfl rfl rfl rfl kk
theorem SX7_9 {w : eW} {d : Nat} {Y : eY} {pc : Nat} {ls : eL} {st : List Value} {h : eH} {Q : eO → eH → Prop} {a : Nat} {h' : eH} {x : Nat} (hf : p_V 6 h a 0 (.ref x) = some h') (hd : decode Y.2.1 pc = .ok (.putfield 9, 3)) (hY : Y.1.cls = RX7) (kk : wp w d Y (pc + 3) ls st h' Q) : wp w d Y pc ls (.ref x :: .ref a :: st) h Q := x_pA (ci := 6) (k := 0) hf hd rfl (by decide) (by rw [hY]; exact q620) rfl rfl rfl rfl kk
def fX7_init (this : Nat) (h : eH) : Option (Unit × eH) :=
  (n_arr 102 12 (.int 0) h (128 : Int32)).bind fun q1 =>
  (p_V 6 q1.2 this 0 (.ref q1.1)).bind fun h3 =>
  (n_arr 100 13 (.int 0) h3 (640 : Int32)).bind fun q5 =>
  (p_V 6 q5.2 this 1 (.ref q5.1)).bind fun h7 =>
  (n_arr 100 14 (.int 0) h7 (128 : Int32)).bind fun q9 =>
  (p_V 6 q9.2 this 2 (.ref q9.1)).bind fun h11 =>
  some ((), h11)
theorem pX7_init {w : eW} {d : Nat} (hd : 1 ≤ d) {this : Nat} {h : eH} {q} (hf : fX7_init this h = some q) : wm w d YX7_init [.ref this] h (e_is (e_rn c_V q)) := by
  obtain ⟨d, rfl⟩ : ∃ e, d = e + 1 := ⟨d - 1, by omega⟩
  show wp w (d + 1) YX7_init 0 [some (.ref this)] [] h _
  unfold fX7_init at hf
  refine w_aload_n dX7_init_0 rfl rfl ?_
  refine w_obj dX7_init_1 q619 q490 q491 (by decide) ?_
  refine w_aload_n dX7_init_4 rfl rfl ?_
  refine w_sipush dX7_init_5 (v := 128) (by decide) ?_
  obtain ⟨q1, b2, hf⟩ := Option.bind_eq_some_iff.mp hf
  refine x_newB (g := 12) b2 dX7_init_8 q507 ?_
  obtain ⟨h3, b4, hf⟩ := Option.bind_eq_some_iff.mp hf
  refine SX7_9 b4 dX7_init_10 rfl ?_
  refine w_aload_n dX7_init_13 rfl rfl ?_
  refine w_sipush dX7_init_14 (v := 640) (by decide) ?_
  obtain ⟨q5, b6, hf⟩ := Option.bind_eq_some_iff.mp hf
  refine x_newI (g := 13) b6 dX7_init_17 q582 ?_
  obtain ⟨h7, b8, hf⟩ := Option.bind_eq_some_iff.mp hf
  refine SX7_15 b8 dX7_init_19 rfl ?_
  refine w_aload_n dX7_init_22 rfl rfl ?_
  refine w_sipush dX7_init_23 (v := 128) (by decide) ?_
  obtain ⟨q9, b10, hf⟩ := Option.bind_eq_some_iff.mp hf
  refine x_newI (g := 14) b10 dX7_init_26 q582 ?_
  obtain ⟨h11, b12, hf⟩ := Option.bind_eq_some_iff.mp hf
  refine SX7_19 b12 dX7_init_28 rfl ?_
  cases hf
  exact w_vret dX7_init_31 rfl rfl
abbrev cX9_init : ByteArray := prog_28_method_1_code
def yX9_init : MethodName := ⟨RX9, "<init>", "()V"⟩
def YX9_init : eY := (yX9_init, cX9_init, 1, none, [])
theorem mX9_init : e_mi YX9_init 0 := ⟨q647, rfl, rfl, q648, by decide, by decide +kernel, (e_sig (by decide +kernel))⟩
theorem dX9_init_0 : decode cX9_init 0 = .ok (.aload_n 0, 1) := dc_42 (by decide +kernel)
theorem dX9_init_1 : decode cX9_init 1 = .ok (.invokespecial 3, 3) := dc_183 (a := 0) (b := 3) (n := 3) (by decide +kernel)
theorem dX9_init_4 : decode cX9_init 4 = .ok (.aload_n 0, 1) := dc_42 (by decide +kernel)
theorem dX9_init_5 : decode cX9_init 5 = .ok (.sipush 2048, 3) := dc_17 (a := 8) (b := 0) (v := 2048) (by decide +kernel)
theorem dX9_init_8 : decode cX9_init 8 = .ok (.newarray .int, 2) := dc_188_10 (by decide +kernel)
theorem dX9_init_10 : decode cX9_init 10 = .ok (.putfield 9, 3) := dc_181 (a := 0) (b := 9) (n := 9) (by decide +kernel)
theorem dX9_init_13 : decode cX9_init 13 = .ok (.aload_n 0, 1) := dc_42 (by decide +kernel)
theorem dX9_init_14 : decode cX9_init 14 = .ok (.sipush 2048, 3) := dc_17 (a := 8) (b := 0) (v := 2048) (by decide +kernel)
theorem dX9_init_17 : decode cX9_init 17 = .ok (.newarray .int, 2) := dc_188_10 (by decide +kernel)
theorem dX9_init_19 : decode cX9_init 19 = .ok (.putfield 15, 3) := dc_181 (a := 0) (b := 15) (n := 15) (by decide +kernel)
theorem dX9_init_22 : decode cX9_init 22 = .ok (.aload_n 0, 1) := dc_42 (by decide +kernel)
theorem dX9_init_23 : decode cX9_init 23 = .ok (.sipush 2048, 3) := dc_17 (a := 8) (b := 0) (v := 2048) (by decide +kernel)
theorem dX9_init_26 : decode cX9_init 26 = .ok (.newarray .int, 2) := dc_188_10 (by decide +kernel)
theorem dX9_init_28 : decode cX9_init 28 = .ok (.putfield 18, 3) := dc_181 (a := 0) (b := 18) (n := 18) (by decide +kernel)
theorem dX9_init_31 : decode cX9_init 31 = .ok (.aload_n 0, 1) := dc_42 (by decide +kernel)
theorem dX9_init_32 : decode cX9_init 32 = .ok (.sipush 2096, 3) := dc_17 (a := 8) (b := 48) (v := 2096) (by decide +kernel)
theorem dX9_init_35 : decode cX9_init 35 = .ok (.newarray .int, 2) := dc_188_10 (by decide +kernel)
theorem dX9_init_37 : decode cX9_init 37 = .ok (.putfield 21, 3) := dc_181 (a := 0) (b := 21) (n := 21) (by decide +kernel)
theorem dX9_init_40 : decode cX9_init 40 = .ok (.aload_n 0, 1) := dc_42 (by decide +kernel)
theorem dX9_init_41 : decode cX9_init 41 = .ok (.sipush 2096, 3) := dc_17 (a := 8) (b := 48) (v := 2096) (by decide +kernel)
theorem dX9_init_44 : decode cX9_init 44 = .ok (.newarray .int, 2) := dc_188_10 (by decide +kernel)
theorem dX9_init_46 : decode cX9_init 46 = .ok (.putfield 24, 3) := dc_181 (a := 0) (b := 24) (n := 24) (by decide +kernel)
theorem dX9_init_49 : decode cX9_init 49 = .ok (.aload_n 0, 1) := dc_42 (by decide +kernel)
theorem dX9_init_50 : decode cX9_init 50 = .ok (.sipush 128, 3) := dc_17 (a := 0) (b := 128) (v := 128) (by decide +kernel)
theorem dX9_init_53 : decode cX9_init 53 = .ok (.newarray .int, 2) := dc_188_10 (by decide +kernel)
theorem dX9_init_55 : decode cX9_init 55 = .ok (.putfield 27, 3) := dc_181 (a := 0) (b := 27) (n := 27) (by decide +kernel)
theorem dX9_init_58 : decode cX9_init 58 = .ok (.aload_n 0, 1) := dc_42 (by decide +kernel)
theorem dX9_init_59 : decode cX9_init 59 = .ok (.sipush 2096, 3) := dc_17 (a := 8) (b := 48) (v := 2096) (by decide +kernel)
theorem dX9_init_62 : decode cX9_init 62 = .ok (.newarray .int, 2) := dc_188_10 (by decide +kernel)
theorem dX9_init_64 : decode cX9_init 64 = .ok (.putfield 30, 3) := dc_181 (a := 0) (b := 30) (n := 30) (by decide +kernel)
theorem dX9_init_67 : decode cX9_init 67 = .ok (.aload_n 0, 1) := dc_42 (by decide +kernel)
theorem dX9_init_68 : decode cX9_init 68 = .ok (.sipush 2048, 3) := dc_17 (a := 8) (b := 0) (v := 2048) (by decide +kernel)
theorem dX9_init_71 : decode cX9_init 71 = .ok (.newarray .int, 2) := dc_188_10 (by decide +kernel)
theorem dX9_init_73 : decode cX9_init 73 = .ok (.putfield 33, 3) := dc_181 (a := 0) (b := 33) (n := 33) (by decide +kernel)
theorem dX9_init_76 : decode cX9_init 76 = .ok (.aload_n 0, 1) := dc_42 (by decide +kernel)
theorem dX9_init_77 : decode cX9_init 77 = .ok (.bipush 100, 2) := dc_16 (a := 100) (v := 100) (by decide +kernel)
theorem dX9_init_79 : decode cX9_init 79 = .ok (.newarray .int, 2) := dc_188_10 (by decide +kernel)
theorem dX9_init_81 : decode cX9_init 81 = .ok (.putfield 36, 3) := dc_181 (a := 0) (b := 36) (n := 36) (by decide +kernel)
theorem dX9_init_84 : decode cX9_init 84 = .ok (.aload_n 0, 1) := dc_42 (by decide +kernel)
theorem dX9_init_85 : decode cX9_init 85 = .ok (.bipush 100, 2) := dc_16 (a := 100) (v := 100) (by decide +kernel)
theorem dX9_init_87 : decode cX9_init 87 = .ok (.newarray .int, 2) := dc_188_10 (by decide +kernel)
theorem dX9_init_89 : decode cX9_init 89 = .ok (.putfield 39, 3) := dc_181 (a := 0) (b := 39) (n := 39) (by decide +kernel)
theorem dX9_init_92 : decode cX9_init 92 = .ok (.return_, 1) := dc_177 (by decide +kernel)
theorem SX9_15 {w : eW} {d : Nat} {Y : eY} {pc : Nat} {ls : eL} {st : List Value} {h : eH} {Q : eO → eH → Prop} {a : Nat} {h' : eH} {x : Nat} (hf : p_V 8 h a 1 (.ref x) = some h') (hd : decode Y.2.1 pc = .ok (.putfield 15, 3)) (hY : Y.1.cls = RX9) (kk : wp w d Y (pc + 3) ls st h' Q) : wp w d Y pc ls (.ref x :: .ref a :: st) h Q := x_pA (ci := 8) (k := 1) hf hd rfl (by decide) (by rw [hY]; exact q652) rfl rfl rfl rfl kk
theorem SX9_18 {w : eW} {d : Nat} {Y : eY} {pc : Nat} {ls : eL} {st : List Value} {h : eH} {Q : eO → eH → Prop} {a : Nat} {h' : eH} {x : Nat} (hf : p_V 8 h a 2 (.ref x) = some h') (hd : decode Y.2.1 pc = .ok (.putfield 18, 3)) (hY : Y.1.cls = RX9) (kk : wp w d Y (pc + 3) ls st h' Q) : wp w d Y pc ls (.ref x :: .ref a :: st) h Q := x_pA (ci := 8) (k := 2) hf hd rfl (by decide) (by rw [hY]; exact q654) rfl rfl rfl rfl kk
theorem SX9_21 {w : eW} {d : Nat} {Y : eY} {pc : Nat} {ls : eL} {st : List Value} {h : eH} {Q : eO → eH → Prop} {a : Nat} {h' : eH} {v : Value} (hf : p_F 8 h a 3 v = some h') (hd : decode Y.2.1 pc = .ok (.putfield 21, 3)) (hY : Y.1.cls = RX9) (hI : Y.1.name = "<init>") (hn : narrow (tyX9 3) v = v) (hfit : fits (tyX9 3) v = true) (kk : wp w d Y (pc + 3) ls st h' Q) : wp w d Y pc ls (v :: .ref a :: st) h Q := x_pF (ci := 8) (k := 3) hf hd rfl (by decide) (by rw [hY]; exact q655) rfl hI (by rw [hY]; rfl) (tyX9_ok 3 (by decide)) hn hfit kk
theorem SX9_24 {w : eW} {d : Nat} {Y : eY} {pc : Nat} {ls : eL} {st : List Value} {h : eH} {Q : eO → eH → Prop} {a : Nat} {h' : eH} {v : Value} (hf : p_F 8 h a 4 v = some h') (hd : decode Y.2.1 pc = .ok (.putfield 24, 3)) (hY : Y.1.cls = RX9) (hI : Y.1.name = "<init>") (hn : narrow (tyX9 4) v = v) (hfit : fits (tyX9 4) v = true) (kk : wp w d Y (pc + 3) ls st h' Q) : wp w d Y pc ls (v :: .ref a :: st) h Q := x_pF (ci := 8) (k := 4) hf hd rfl (by decide) (by rw [hY]; exact q659) rfl hI (by rw [hY]; rfl) (tyX9_ok 4 (by decide)) hn hfit kk
theorem SX9_27 {w : eW} {d : Nat} {Y : eY} {pc : Nat} {ls : eL} {st : List Value} {h : eH} {Q : eO → eH → Prop} {a : Nat} {h' : eH} {x : Nat} (hf : p_V 8 h a 5 (.ref x) = some h') (hd : decode Y.2.1 pc = .ok (.putfield 27, 3)) (hY : Y.1.cls = RX9) (kk : wp w d Y (pc + 3) ls st h' Q) : wp w d Y pc ls (.ref x :: .ref a :: st) h Q := x_pA (ci := 8) (k := 5) hf hd rfl (by decide) (by rw [hY]; exact q660) rfl rfl rfl rfl kk
theorem SX9_30 {w : eW} {d : Nat} {Y : eY} {pc : Nat} {ls : eL} {st : List Value} {h : eH} {Q : eO → eH → Prop} {a : Nat} {h' : eH} {v : Value} (hf : p_F 8 h a 7 v = some h') (hd : decode Y.2.1 pc = .ok (.putfield 30, 3)) (hY : Y.1.cls = RX9) (hI : Y.1.name = "<init>") (hn : narrow (tyX9 7) v = v) (hfit : fits (tyX9 7) v = true) (kk : wp w d Y (pc + 3) ls st h' Q) : wp w d Y pc ls (v :: .ref a :: st) h Q := x_pF (ci := 8) (k := 7) hf hd rfl (by decide) (by rw [hY]; exact q662) rfl hI (by rw [hY]; rfl) (tyX9_ok 7 (by decide)) hn hfit kk
theorem SX9_33 {w : eW} {d : Nat} {Y : eY} {pc : Nat} {ls : eL} {st : List Value} {h : eH} {Q : eO → eH → Prop} {a : Nat} {h' : eH} {x : Nat} (hf : p_V 8 h a 8 (.ref x) = some h') (hd : decode Y.2.1 pc = .ok (.putfield 33, 3)) (hY : Y.1.cls = RX9) (kk : wp w d Y (pc + 3) ls st h' Q) : wp w d Y pc ls (.ref x :: .ref a :: st) h Q := x_pA (ci := 8) (k := 8) hf hd rfl (by decide) (by rw [hY]; exact q663) rfl rfl rfl rfl kk
theorem SX9_36 {w : eW} {d : Nat} {Y : eY} {pc : Nat} {ls : eL} {st : List Value} {h : eH} {Q : eO → eH → Prop} {a : Nat} {h' : eH} {v : Value} (hf : p_F 8 h a 9 v = some h') (hd : decode Y.2.1 pc = .ok (.putfield 36, 3)) (hY : Y.1.cls = RX9) (hI : Y.1.name = "<init>") (hn : narrow (tyX9 9) v = v) (hfit : fits (tyX9 9) v = true) (kk : wp w d Y (pc + 3) ls st h' Q) : wp w d Y pc ls (v :: .ref a :: st) h Q := x_pF (ci := 8) (k := 9) hf hd rfl (by decide) (by rw [hY]; exact q664) rfl hI (by rw [hY]; rfl) (tyX9_ok 9 (by decide)) hn hfit kk
theorem SX9_39 {w : eW} {d : Nat} {Y : eY} {pc : Nat} {ls : eL} {st : List Value} {h : eH} {Q : eO → eH → Prop} {a : Nat} {h' : eH} {v : Value} (hf : p_F 8 h a 10 v = some h') (hd : decode Y.2.1 pc = .ok (.putfield 39, 3)) (hY : Y.1.cls = RX9) (hI : Y.1.name = "<init>") (hn : narrow (tyX9 10) v = v) (hfit : fits (tyX9 10) v = true) (kk : wp w d Y (pc + 3) ls st h' Q) : wp w d Y pc ls (v :: .ref a :: st) h Q := x_pF (ci := 8) (k := 10) hf hd rfl (by decide) (by rw [hY]; exact q666) rfl hI (by rw [hY]; rfl) (tyX9_ok 10 (by decide)) hn hfit kk
theorem SX9_9 {w : eW} {d : Nat} {Y : eY} {pc : Nat} {ls : eL} {st : List Value} {h : eH} {Q : eO → eH → Prop} {a : Nat} {h' : eH} {x : Nat} (hf : p_V 8 h a 0 (.ref x) = some h') (hd : decode Y.2.1 pc = .ok (.putfield 9, 3)) (hY : Y.1.cls = RX9) (kk : wp w d Y (pc + 3) ls st h' Q) : wp w d Y pc ls (.ref x :: .ref a :: st) h Q := x_pA (ci := 8) (k := 0) hf hd rfl (by decide) (by rw [hY]; exact q650) rfl rfl rfl rfl kk
def fX9_init (this : Nat) (h : eH) : Option (Unit × eH) :=
  (n_arr 100 15 (.int 0) h (2048 : Int32)).bind fun q1 =>
  (p_V 8 q1.2 this 0 (.ref q1.1)).bind fun h3 =>
  (n_arr 100 16 (.int 0) h3 (2048 : Int32)).bind fun q5 =>
  (p_V 8 q5.2 this 1 (.ref q5.1)).bind fun h7 =>
  (n_arr 100 17 (.int 0) h7 (2048 : Int32)).bind fun q9 =>
  (p_V 8 q9.2 this 2 (.ref q9.1)).bind fun h11 =>
  (n_arr 100 18 (.int 0) h11 (2096 : Int32)).bind fun q13 =>
  (p_F 8 q13.2 this 3 (.ref q13.1)).bind fun h15 =>
  (n_arr 100 19 (.int 0) h15 (2096 : Int32)).bind fun q17 =>
  (p_F 8 q17.2 this 4 (.ref q17.1)).bind fun h19 =>
  (n_arr 100 20 (.int 0) h19 (128 : Int32)).bind fun q21 =>
  (p_V 8 q21.2 this 5 (.ref q21.1)).bind fun h23 =>
  (n_arr 100 21 (.int 0) h23 (2096 : Int32)).bind fun q25 =>
  (p_F 8 q25.2 this 7 (.ref q25.1)).bind fun h27 =>
  (n_arr 100 22 (.int 0) h27 (2048 : Int32)).bind fun q29 =>
  (p_V 8 q29.2 this 8 (.ref q29.1)).bind fun h31 =>
  (n_arr 100 23 (.int 0) h31 (100 : Int32)).bind fun q33 =>
  (p_F 8 q33.2 this 9 (.ref q33.1)).bind fun h35 =>
  (n_arr 100 24 (.int 0) h35 (100 : Int32)).bind fun q37 =>
  (p_F 8 q37.2 this 10 (.ref q37.1)).bind fun h39 =>
  some ((), h39)
theorem pX9_init {w : eW} {d : Nat} (hd : 1 ≤ d) {this : Nat} {h : eH} {q} (hf : fX9_init this h = some q) : wm w d YX9_init [.ref this] h (e_is (e_rn c_V q)) := by
  obtain ⟨d, rfl⟩ : ∃ e, d = e + 1 := ⟨d - 1, by omega⟩
  show wp w (d + 1) YX9_init 0 [some (.ref this)] [] h _
  unfold fX9_init at hf
  refine w_aload_n dX9_init_0 rfl rfl ?_
  refine w_obj dX9_init_1 q649 q490 q491 (by decide) ?_
  refine w_aload_n dX9_init_4 rfl rfl ?_
  refine w_sipush dX9_init_5 (v := 2048) (by decide) ?_
  obtain ⟨q1, b2, hf⟩ := Option.bind_eq_some_iff.mp hf
  refine x_newI (g := 15) b2 dX9_init_8 q582 ?_
  obtain ⟨h3, b4, hf⟩ := Option.bind_eq_some_iff.mp hf
  refine SX9_9 b4 dX9_init_10 rfl ?_
  refine w_aload_n dX9_init_13 rfl rfl ?_
  refine w_sipush dX9_init_14 (v := 2048) (by decide) ?_
  obtain ⟨q5, b6, hf⟩ := Option.bind_eq_some_iff.mp hf
  refine x_newI (g := 16) b6 dX9_init_17 q582 ?_
  obtain ⟨h7, b8, hf⟩ := Option.bind_eq_some_iff.mp hf
  refine SX9_15 b8 dX9_init_19 rfl ?_
  refine w_aload_n dX9_init_22 rfl rfl ?_
  refine w_sipush dX9_init_23 (v := 2048) (by decide) ?_
  obtain ⟨q9, b10, hf⟩ := Option.bind_eq_some_iff.mp hf
  refine x_newI (g := 17) b10 dX9_init_26 q582 ?_
  obtain ⟨h11, b12, hf⟩ := Option.bind_eq_some_iff.mp hf
  refine SX9_18 b12 dX9_init_28 rfl ?_
  refine w_aload_n dX9_init_31 rfl rfl ?_
  refine w_sipush dX9_init_32 (v := 2096) (by decide) ?_
  obtain ⟨q13, b14, hf⟩ := Option.bind_eq_some_iff.mp hf
  refine x_newI (g := 18) b14 dX9_init_35 q582 ?_
  obtain ⟨h15, b16, hf⟩ := Option.bind_eq_some_iff.mp hf
  refine SX9_21 b16 dX9_init_37 rfl rfl rfl rfl ?_
  refine w_aload_n dX9_init_40 rfl rfl ?_
  refine w_sipush dX9_init_41 (v := 2096) (by decide) ?_
  obtain ⟨q17, b18, hf⟩ := Option.bind_eq_some_iff.mp hf
  refine x_newI (g := 19) b18 dX9_init_44 q582 ?_
  obtain ⟨h19, b20, hf⟩ := Option.bind_eq_some_iff.mp hf
  refine SX9_24 b20 dX9_init_46 rfl rfl rfl rfl ?_
  refine w_aload_n dX9_init_49 rfl rfl ?_
  refine w_sipush dX9_init_50 (v := 128) (by decide) ?_
  obtain ⟨q21, b22, hf⟩ := Option.bind_eq_some_iff.mp hf
  refine x_newI (g := 20) b22 dX9_init_53 q582 ?_
  obtain ⟨h23, b24, hf⟩ := Option.bind_eq_some_iff.mp hf
  refine SX9_27 b24 dX9_init_55 rfl ?_
  refine w_aload_n dX9_init_58 rfl rfl ?_
  refine w_sipush dX9_init_59 (v := 2096) (by decide) ?_
  obtain ⟨q25, b26, hf⟩ := Option.bind_eq_some_iff.mp hf
  refine x_newI (g := 21) b26 dX9_init_62 q582 ?_
  obtain ⟨h27, b28, hf⟩ := Option.bind_eq_some_iff.mp hf
  refine SX9_30 b28 dX9_init_64 rfl rfl rfl rfl ?_
  refine w_aload_n dX9_init_67 rfl rfl ?_
  refine w_sipush dX9_init_68 (v := 2048) (by decide) ?_
  obtain ⟨q29, b30, hf⟩ := Option.bind_eq_some_iff.mp hf
  refine x_newI (g := 22) b30 dX9_init_71 q582 ?_
  obtain ⟨h31, b32, hf⟩ := Option.bind_eq_some_iff.mp hf
  refine SX9_33 b32 dX9_init_73 rfl ?_
  refine w_aload_n dX9_init_76 rfl rfl ?_
  refine w_bipush dX9_init_77 (v := 100) (by decide) ?_
  obtain ⟨q33, b34, hf⟩ := Option.bind_eq_some_iff.mp hf
  refine x_newI (g := 23) b34 dX9_init_79 q582 ?_
  obtain ⟨h35, b36, hf⟩ := Option.bind_eq_some_iff.mp hf
  refine SX9_36 b36 dX9_init_81 rfl rfl rfl rfl ?_
  refine w_aload_n dX9_init_84 rfl rfl ?_
  refine w_bipush dX9_init_85 (v := 100) (by decide) ?_
  obtain ⟨q37, b38, hf⟩ := Option.bind_eq_some_iff.mp hf
  refine x_newI (g := 24) b38 dX9_init_87 q582 ?_
  obtain ⟨h39, b40, hf⟩ := Option.bind_eq_some_iff.mp hf
  refine SX9_39 b40 dX9_init_89 rfl rfl rfl rfl ?_
  cases hf
  exact w_vret dX9_init_92 rfl rfl
abbrev cX10_init : ByteArray := prog_17_method_1_code
def yX10_init : MethodName := ⟨RX10, "<init>", "(LTypeHouse$Trouble;)V"⟩
def YX10_init : eY := (yX10_init, cX10_init, 2, none, [])
theorem mX10_init : e_mi YX10_init 1 := ⟨q697, rfl, rfl, q698, by decide, by decide +kernel, (e_sig (by decide +kernel))⟩
theorem dX10_init_0 : decode cX10_init 0 = .ok (.aload_n 0, 1) := dc_42 (by decide +kernel)
theorem dX10_init_1 : decode cX10_init 1 = .ok (.invokespecial 3, 3) := dc_183 (a := 0) (b := 3) (n := 3) (by decide +kernel)
theorem dX10_init_4 : decode cX10_init 4 = .ok (.aload_n 0, 1) := dc_42 (by decide +kernel)
theorem dX10_init_5 : decode cX10_init 5 = .ok (.sipush 4096, 3) := dc_17 (a := 16) (b := 0) (v := 4096) (by decide +kernel)
theorem dX10_init_8 : decode cX10_init 8 = .ok (.newarray .int, 2) := dc_188_10 (by decide +kernel)
theorem dX10_init_10 : decode cX10_init 10 = .ok (.putfield 11, 3) := dc_181 (a := 0) (b := 11) (n := 11) (by decide +kernel)
theorem dX10_init_13 : decode cX10_init 13 = .ok (.aload_n 0, 1) := dc_42 (by decide +kernel)
theorem dX10_init_14 : decode cX10_init 14 = .ok (.sipush 512, 3) := dc_17 (a := 2) (b := 0) (v := 512) (by decide +kernel)
theorem dX10_init_17 : decode cX10_init 17 = .ok (.newarray .int, 2) := dc_188_10 (by decide +kernel)
theorem dX10_init_19 : decode cX10_init 19 = .ok (.putfield 15, 3) := dc_181 (a := 0) (b := 15) (n := 15) (by decide +kernel)
theorem dX10_init_22 : decode cX10_init 22 = .ok (.aload_n 0, 1) := dc_42 (by decide +kernel)
theorem dX10_init_23 : decode cX10_init 23 = .ok (.sipush 512, 3) := dc_17 (a := 2) (b := 0) (v := 512) (by decide +kernel)
theorem dX10_init_26 : decode cX10_init 26 = .ok (.newarray .int, 2) := dc_188_10 (by decide +kernel)
theorem dX10_init_28 : decode cX10_init 28 = .ok (.putfield 18, 3) := dc_181 (a := 0) (b := 18) (n := 18) (by decide +kernel)
theorem dX10_init_31 : decode cX10_init 31 = .ok (.aload_n 0, 1) := dc_42 (by decide +kernel)
theorem dX10_init_32 : decode cX10_init 32 = .ok (.sipush 1024, 3) := dc_17 (a := 4) (b := 0) (v := 1024) (by decide +kernel)
theorem dX10_init_35 : decode cX10_init 35 = .ok (.newarray .byte, 2) := dc_188_8 (by decide +kernel)
theorem dX10_init_37 : decode cX10_init 37 = .ok (.putfield 21, 3) := dc_181 (a := 0) (b := 21) (n := 21) (by decide +kernel)
theorem dX10_init_40 : decode cX10_init 40 = .ok (.aload_n 0, 1) := dc_42 (by decide +kernel)
theorem dX10_init_41 : decode cX10_init 41 = .ok (.bipush 40, 2) := dc_16 (a := 40) (v := 40) (by decide +kernel)
theorem dX10_init_43 : decode cX10_init 43 = .ok (.newarray .byte, 2) := dc_188_8 (by decide +kernel)
theorem dX10_init_45 : decode cX10_init 45 = .ok (.putfield 25, 3) := dc_181 (a := 0) (b := 25) (n := 25) (by decide +kernel)
theorem dX10_init_48 : decode cX10_init 48 = .ok (.aload_n 0, 1) := dc_42 (by decide +kernel)
theorem dX10_init_49 : decode cX10_init 49 = .ok (.aload_n 1, 1) := dc_43 (by decide +kernel)
theorem dX10_init_50 : decode cX10_init 50 = .ok (.putfield 28, 3) := dc_181 (a := 0) (b := 28) (n := 28) (by decide +kernel)
theorem dX10_init_53 : decode cX10_init 53 = .ok (.return_, 1) := dc_177 (by decide +kernel)
theorem SX10_11 {w : eW} {d : Nat} {Y : eY} {pc : Nat} {ls : eL} {st : List Value} {h : eH} {Q : eO → eH → Prop} {a : Nat} {h' : eH} {v : Value} (hf : p_F 9 h a 1 v = some h') (hd : decode Y.2.1 pc = .ok (.putfield 11, 3)) (hY : Y.1.cls = RX10) (hI : Y.1.name = "<init>") (hn : narrow (tyX10 1) v = v) (hfit : fits (tyX10 1) v = true) (kk : wp w d Y (pc + 3) ls st h' Q) : wp w d Y pc ls (v :: .ref a :: st) h Q := x_pF (ci := 9) (k := 1) hf hd rfl (by decide) (by rw [hY]; exact q701) rfl hI (by rw [hY]; rfl) (tyX10_ok 1 (by decide)) hn hfit kk
theorem SX10_15 {w : eW} {d : Nat} {Y : eY} {pc : Nat} {ls : eL} {st : List Value} {h : eH} {Q : eO → eH → Prop} {a : Nat} {h' : eH} {x : Nat} (hf : p_V 9 h a 2 (.ref x) = some h') (hd : decode Y.2.1 pc = .ok (.putfield 15, 3)) (hY : Y.1.cls = RX10) (kk : wp w d Y (pc + 3) ls st h' Q) : wp w d Y pc ls (.ref x :: .ref a :: st) h Q := x_pA (ci := 9) (k := 2) hf hd rfl (by decide) (by rw [hY]; exact q702) rfl rfl rfl rfl kk
theorem SX10_18 {w : eW} {d : Nat} {Y : eY} {pc : Nat} {ls : eL} {st : List Value} {h : eH} {Q : eO → eH → Prop} {a : Nat} {h' : eH} {x : Nat} (hf : p_V 9 h a 3 (.ref x) = some h') (hd : decode Y.2.1 pc = .ok (.putfield 18, 3)) (hY : Y.1.cls = RX10) (kk : wp w d Y (pc + 3) ls st h' Q) : wp w d Y pc ls (.ref x :: .ref a :: st) h Q := x_pA (ci := 9) (k := 3) hf hd rfl (by decide) (by rw [hY]; exact q703) rfl rfl rfl rfl kk
theorem SX10_21 {w : eW} {d : Nat} {Y : eY} {pc : Nat} {ls : eL} {st : List Value} {h : eH} {Q : eO → eH → Prop} {a : Nat} {h' : eH} {x : Nat} (hf : p_V 9 h a 4 (.ref x) = some h') (hd : decode Y.2.1 pc = .ok (.putfield 21, 3)) (hY : Y.1.cls = RX10) (kk : wp w d Y (pc + 3) ls st h' Q) : wp w d Y pc ls (.ref x :: .ref a :: st) h Q := x_pA (ci := 9) (k := 4) hf hd rfl (by decide) (by rw [hY]; exact q705) rfl rfl rfl rfl kk
theorem SX10_25 {w : eW} {d : Nat} {Y : eY} {pc : Nat} {ls : eL} {st : List Value} {h : eH} {Q : eO → eH → Prop} {a : Nat} {h' : eH} {v : Value} (hf : p_F 9 h a 7 v = some h') (hd : decode Y.2.1 pc = .ok (.putfield 25, 3)) (hY : Y.1.cls = RX10) (hI : Y.1.name = "<init>") (hn : narrow (tyX10 7) v = v) (hfit : fits (tyX10 7) v = true) (kk : wp w d Y (pc + 3) ls st h' Q) : wp w d Y pc ls (v :: .ref a :: st) h Q := x_pF (ci := 9) (k := 7) hf hd rfl (by decide) (by rw [hY]; exact q709) rfl hI (by rw [hY]; rfl) (tyX10_ok 7 (by decide)) hn hfit kk
theorem SX10_28 {w : eW} {d : Nat} {Y : eY} {pc : Nat} {ls : eL} {st : List Value} {h : eH} {Q : eO → eH → Prop} {a : Nat} {h' : eH} {v : Value} (hf : p_F 9 h a 0 v = some h') (hd : decode Y.2.1 pc = .ok (.putfield 28, 3)) (hY : Y.1.cls = RX10) (hI : Y.1.name = "<init>") (hn : narrow (tyX10 0) v = v) (hfit : fits (tyX10 0) v = true) (kk : wp w d Y (pc + 3) ls st h' Q) : wp w d Y pc ls (v :: .ref a :: st) h Q := x_pF (ci := 9) (k := 0) hf hd rfl (by decide) (by rw [hY]; exact q700) rfl hI (by rw [hY]; rfl) (tyX10_ok 0 (by decide)) hn hfit kk
def fX10_init (this : Nat) (p0 : Nat) (h : eH) : Option (Unit × eH) :=
  (n_arr 100 25 (.int 0) h (4096 : Int32)).bind fun q1 =>
  (p_F 9 q1.2 this 1 (.ref q1.1)).bind fun h3 =>
  (n_arr 100 26 (.int 0) h3 (512 : Int32)).bind fun q5 =>
  (p_V 9 q5.2 this 2 (.ref q5.1)).bind fun h7 =>
  (n_arr 100 27 (.int 0) h7 (512 : Int32)).bind fun q9 =>
  (p_V 9 q9.2 this 3 (.ref q9.1)).bind fun h11 =>
  (n_arr 102 28 (.int 0) h11 (1024 : Int32)).bind fun q13 =>
  (p_V 9 q13.2 this 4 (.ref q13.1)).bind fun h15 =>
  (n_arr 102 29 (.int 0) h15 (40 : Int32)).bind fun q17 =>
  (p_F 9 q17.2 this 7 (.ref q17.1)).bind fun h19 =>
  (p_F 9 h19 this 0 (.ref p0)).bind fun h21 =>
  some ((), h21)
theorem pX10_init {w : eW} {d : Nat} (hd : 1 ≤ d) {this : Nat} {p0 : Nat} {h : eH} {q} (hf : fX10_init this p0 h = some q) : wm w d YX10_init [.ref this, .ref p0] h (e_is (e_rn c_V q)) := by
  obtain ⟨d, rfl⟩ : ∃ e, d = e + 1 := ⟨d - 1, by omega⟩
  show wp w (d + 1) YX10_init 0 [some (.ref this), some (.ref p0)] [] h _
  unfold fX10_init at hf
  refine w_aload_n dX10_init_0 rfl rfl ?_
  refine w_obj dX10_init_1 q699 q490 q491 (by decide) ?_
  refine w_aload_n dX10_init_4 rfl rfl ?_
  refine w_sipush dX10_init_5 (v := 4096) (by decide) ?_
  obtain ⟨q1, b2, hf⟩ := Option.bind_eq_some_iff.mp hf
  refine x_newI (g := 25) b2 dX10_init_8 q582 ?_
  obtain ⟨h3, b4, hf⟩ := Option.bind_eq_some_iff.mp hf
  refine SX10_11 b4 dX10_init_10 rfl rfl rfl rfl ?_
  refine w_aload_n dX10_init_13 rfl rfl ?_
  refine w_sipush dX10_init_14 (v := 512) (by decide) ?_
  obtain ⟨q5, b6, hf⟩ := Option.bind_eq_some_iff.mp hf
  refine x_newI (g := 26) b6 dX10_init_17 q582 ?_
  obtain ⟨h7, b8, hf⟩ := Option.bind_eq_some_iff.mp hf
  refine SX10_15 b8 dX10_init_19 rfl ?_
  refine w_aload_n dX10_init_22 rfl rfl ?_
  refine w_sipush dX10_init_23 (v := 512) (by decide) ?_
  obtain ⟨q9, b10, hf⟩ := Option.bind_eq_some_iff.mp hf
  refine x_newI (g := 27) b10 dX10_init_26 q582 ?_
  obtain ⟨h11, b12, hf⟩ := Option.bind_eq_some_iff.mp hf
  refine SX10_18 b12 dX10_init_28 rfl ?_
  refine w_aload_n dX10_init_31 rfl rfl ?_
  refine w_sipush dX10_init_32 (v := 1024) (by decide) ?_
  obtain ⟨q13, b14, hf⟩ := Option.bind_eq_some_iff.mp hf
  refine x_newB (g := 28) b14 dX10_init_35 q507 ?_
  obtain ⟨h15, b16, hf⟩ := Option.bind_eq_some_iff.mp hf
  refine SX10_21 b16 dX10_init_37 rfl ?_
  refine w_aload_n dX10_init_40 rfl rfl ?_
  refine w_bipush dX10_init_41 (v := 40) (by decide) ?_
  obtain ⟨q17, b18, hf⟩ := Option.bind_eq_some_iff.mp hf
  refine x_newB (g := 29) b18 dX10_init_43 q507 ?_
  obtain ⟨h19, b20, hf⟩ := Option.bind_eq_some_iff.mp hf
  refine SX10_25 b20 dX10_init_45 rfl rfl rfl rfl ?_
  refine w_aload_n dX10_init_48 rfl rfl ?_
  refine w_aload_n dX10_init_49 rfl rfl ?_
  obtain ⟨h21, b22, hf⟩ := Option.bind_eq_some_iff.mp hf
  refine SX10_28 b22 dX10_init_50 rfl rfl rfl rfl ?_
  cases hf
  exact w_vret dX10_init_53 rfl rfl
abbrev cX11_init : ByteArray := prog_29_method_1_code
def yX11_init : MethodName := ⟨RX11, "<init>", "(LTypeHouse$Trouble;LTypeHouse$Names;LTypeHouse$Settings;)V"⟩
def YX11_init : eY := (yX11_init, cX11_init, 4, none, [])
theorem mX11_init : e_mi YX11_init 3 := ⟨q733, rfl, rfl, q734, by decide, by decide +kernel, (e_sig (by decide +kernel))⟩
theorem dX11_init_0 : decode cX11_init 0 = .ok (.aload_n 0, 1) := dc_42 (by decide +kernel)
theorem dX11_init_1 : decode cX11_init 1 = .ok (.invokespecial 3, 3) := dc_183 (a := 0) (b := 3) (n := 3) (by decide +kernel)
theorem dX11_init_4 : decode cX11_init 4 = .ok (.aload_n 0, 1) := dc_42 (by decide +kernel)
theorem dX11_init_5 : decode cX11_init 5 = .ok (.ldc 9, 2) := dc_18 (a := 9) (by decide +kernel)
theorem dX11_init_7 : decode cX11_init 7 = .ok (.newarray .byte, 2) := dc_188_8 (by decide +kernel)
theorem dX11_init_9 : decode cX11_init 9 = .ok (.putfield 10, 3) := dc_181 (a := 0) (b := 10) (n := 10) (by decide +kernel)
theorem dX11_init_12 : decode cX11_init 12 = .ok (.aload_n 0, 1) := dc_42 (by decide +kernel)
theorem dX11_init_13 : decode cX11_init 13 = .ok (.aload_n 1, 1) := dc_43 (by decide +kernel)
theorem dX11_init_14 : decode cX11_init 14 = .ok (.putfield 16, 3) := dc_181 (a := 0) (b := 16) (n := 16) (by decide +kernel)
theorem dX11_init_17 : decode cX11_init 17 = .ok (.aload_n 0, 1) := dc_42 (by decide +kernel)
theorem dX11_init_18 : decode cX11_init 18 = .ok (.aload_n 2, 1) := dc_44 (by decide +kernel)
theorem dX11_init_19 : decode cX11_init 19 = .ok (.putfield 20, 3) := dc_181 (a := 0) (b := 20) (n := 20) (by decide +kernel)
theorem dX11_init_22 : decode cX11_init 22 = .ok (.aload_n 0, 1) := dc_42 (by decide +kernel)
theorem dX11_init_23 : decode cX11_init 23 = .ok (.aload_n 3, 1) := dc_45 (by decide +kernel)
theorem dX11_init_24 : decode cX11_init 24 = .ok (.putfield 24, 3) := dc_181 (a := 0) (b := 24) (n := 24) (by decide +kernel)
theorem dX11_init_27 : decode cX11_init 27 = .ok (.return_, 1) := dc_177 (by decide +kernel)
theorem SX11_10 {w : eW} {d : Nat} {Y : eY} {pc : Nat} {ls : eL} {st : List Value} {h : eH} {Q : eO → eH → Prop} {a : Nat} {h' : eH} {v : Value} (hf : p_F 10 h a 3 v = some h') (hd : decode Y.2.1 pc = .ok (.putfield 10, 3)) (hY : Y.1.cls = RX11) (hI : Y.1.name = "<init>") (hn : narrow (tyX11 3) v = v) (hfit : fits (tyX11 3) v = true) (kk : wp w d Y (pc + 3) ls st h' Q) : wp w d Y pc ls (v :: .ref a :: st) h Q := x_pF (ci := 10) (k := 3) hf hd rfl (by decide) (by rw [hY]; exact q740) rfl hI (by rw [hY]; rfl) (tyX11_ok 3 (by decide)) hn hfit kk
theorem SX11_16 {w : eW} {d : Nat} {Y : eY} {pc : Nat} {ls : eL} {st : List Value} {h : eH} {Q : eO → eH → Prop} {a : Nat} {h' : eH} {v : Value} (hf : p_F 10 h a 0 v = some h') (hd : decode Y.2.1 pc = .ok (.putfield 16, 3)) (hY : Y.1.cls = RX11) (hI : Y.1.name = "<init>") (hn : narrow (tyX11 0) v = v) (hfit : fits (tyX11 0) v = true) (kk : wp w d Y (pc + 3) ls st h' Q) : wp w d Y pc ls (v :: .ref a :: st) h Q := x_pF (ci := 10) (k := 0) hf hd rfl (by decide) (by rw [hY]; exact q737) rfl hI (by rw [hY]; rfl) (tyX11_ok 0 (by decide)) hn hfit kk
theorem SX11_20 {w : eW} {d : Nat} {Y : eY} {pc : Nat} {ls : eL} {st : List Value} {h : eH} {Q : eO → eH → Prop} {a : Nat} {h' : eH} {v : Value} (hf : p_F 10 h a 1 v = some h') (hd : decode Y.2.1 pc = .ok (.putfield 20, 3)) (hY : Y.1.cls = RX11) (hI : Y.1.name = "<init>") (hn : narrow (tyX11 1) v = v) (hfit : fits (tyX11 1) v = true) (kk : wp w d Y (pc + 3) ls st h' Q) : wp w d Y pc ls (v :: .ref a :: st) h Q := x_pF (ci := 10) (k := 1) hf hd rfl (by decide) (by rw [hY]; exact q738) rfl hI (by rw [hY]; rfl) (tyX11_ok 1 (by decide)) hn hfit kk
theorem SX11_24 {w : eW} {d : Nat} {Y : eY} {pc : Nat} {ls : eL} {st : List Value} {h : eH} {Q : eO → eH → Prop} {a : Nat} {h' : eH} {v : Value} (hf : p_F 10 h a 2 v = some h') (hd : decode Y.2.1 pc = .ok (.putfield 24, 3)) (hY : Y.1.cls = RX11) (hI : Y.1.name = "<init>") (hn : narrow (tyX11 2) v = v) (hfit : fits (tyX11 2) v = true) (kk : wp w d Y (pc + 3) ls st h' Q) : wp w d Y pc ls (v :: .ref a :: st) h Q := x_pF (ci := 10) (k := 2) hf hd rfl (by decide) (by rw [hY]; exact q739) rfl hI (by rw [hY]; rfl) (tyX11_ok 2 (by decide)) hn hfit kk
def fX11_init (this : Nat) (p0 : Nat) (p1 : Nat) (p2 : Nat) (h : eH) : Option (Unit × eH) :=
  (n_arr 102 30 (.int 0) h (65536 : Int32)).bind fun q1 =>
  (p_F 10 q1.2 this 3 (.ref q1.1)).bind fun h3 =>
  (p_F 10 h3 this 0 (.ref p0)).bind fun h5 =>
  (p_F 10 h5 this 1 (.ref p1)).bind fun h7 =>
  (p_F 10 h7 this 2 (.ref p2)).bind fun h9 =>
  some ((), h9)
theorem pX11_init {w : eW} {d : Nat} (hd : 1 ≤ d) {this : Nat} {p0 : Nat} {p1 : Nat} {p2 : Nat} {h : eH} {q} (hf : fX11_init this p0 p1 p2 h = some q) : wm w d YX11_init [.ref this, .ref p0, .ref p1, .ref p2] h (e_is (e_rn c_V q)) := by
  obtain ⟨d, rfl⟩ : ∃ e, d = e + 1 := ⟨d - 1, by omega⟩
  show wp w (d + 1) YX11_init 0 [some (.ref this), some (.ref p0), some (.ref p1), some (.ref p2)] [] h _
  unfold fX11_init at hf
  refine w_aload_n dX11_init_0 rfl rfl ?_
  refine w_obj dX11_init_1 q735 q490 q491 (by decide) ?_
  refine w_aload_n dX11_init_4 rfl rfl ?_
  refine w_ldc dX11_init_5 q736 ?_
  obtain ⟨q1, b2, hf⟩ := Option.bind_eq_some_iff.mp hf
  refine x_newB (g := 30) b2 dX11_init_7 q507 ?_
  obtain ⟨h3, b4, hf⟩ := Option.bind_eq_some_iff.mp hf
  refine SX11_10 b4 dX11_init_9 rfl rfl rfl rfl ?_
  refine w_aload_n dX11_init_12 rfl rfl ?_
  refine w_aload_n dX11_init_13 rfl rfl ?_
  obtain ⟨h5, b6, hf⟩ := Option.bind_eq_some_iff.mp hf
  refine SX11_16 b6 dX11_init_14 rfl rfl rfl rfl ?_
  refine w_aload_n dX11_init_17 rfl rfl ?_
  refine w_aload_n dX11_init_18 rfl rfl ?_
  obtain ⟨h7, b8, hf⟩ := Option.bind_eq_some_iff.mp hf
  refine SX11_20 b8 dX11_init_19 rfl rfl rfl rfl ?_
  refine w_aload_n dX11_init_22 rfl rfl ?_
  refine w_aload_n dX11_init_23 rfl rfl ?_
  obtain ⟨h9, b10, hf⟩ := Option.bind_eq_some_iff.mp hf
  refine SX11_24 b10 dX11_init_24 rfl rfl rfl rfl ?_
  cases hf
  exact w_vret dX11_init_27 rfl rfl
abbrev cX12_init : ByteArray := prog_14_method_1_code
def yX12_init : MethodName := ⟨RX12, "<init>", "(LTypeHouse$Trouble;)V"⟩
def YX12_init : eY := (yX12_init, cX12_init, 2, none, [])
theorem mX12_init : e_mi YX12_init 1 := ⟨q774, rfl, rfl, q775, by decide, by decide +kernel, (e_sig (by decide +kernel))⟩
theorem dX12_init_0 : decode cX12_init 0 = .ok (.aload_n 0, 1) := dc_42 (by decide +kernel)
theorem dX12_init_1 : decode cX12_init 1 = .ok (.invokespecial 3, 3) := dc_183 (a := 0) (b := 3) (n := 3) (by decide +kernel)
theorem dX12_init_4 : decode cX12_init 4 = .ok (.aload_n 0, 1) := dc_42 (by decide +kernel)
theorem dX12_init_5 : decode cX12_init 5 = .ok (.sipush 10000, 3) := dc_17 (a := 39) (b := 16) (v := 10000) (by decide +kernel)
theorem dX12_init_8 : decode cX12_init 8 = .ok (.newarray .int, 2) := dc_188_10 (by decide +kernel)
theorem dX12_init_10 : decode cX12_init 10 = .ok (.putfield 9, 3) := dc_181 (a := 0) (b := 9) (n := 9) (by decide +kernel)
theorem dX12_init_13 : decode cX12_init 13 = .ok (.aload_n 0, 1) := dc_42 (by decide +kernel)
theorem dX12_init_14 : decode cX12_init 14 = .ok (.bipush 64, 2) := dc_16 (a := 64) (v := 64) (by decide +kernel)
theorem dX12_init_16 : decode cX12_init 16 = .ok (.newarray .int, 2) := dc_188_10 (by decide +kernel)
theorem dX12_init_18 : decode cX12_init 18 = .ok (.putfield 15, 3) := dc_181 (a := 0) (b := 15) (n := 15) (by decide +kernel)
theorem dX12_init_21 : decode cX12_init 21 = .ok (.aload_n 0, 1) := dc_42 (by decide +kernel)
theorem dX12_init_22 : decode cX12_init 22 = .ok (.bipush 64, 2) := dc_16 (a := 64) (v := 64) (by decide +kernel)
theorem dX12_init_24 : decode cX12_init 24 = .ok (.newarray .int, 2) := dc_188_10 (by decide +kernel)
theorem dX12_init_26 : decode cX12_init 26 = .ok (.putfield 18, 3) := dc_181 (a := 0) (b := 18) (n := 18) (by decide +kernel)
theorem dX12_init_29 : decode cX12_init 29 = .ok (.aload_n 0, 1) := dc_42 (by decide +kernel)
theorem dX12_init_30 : decode cX12_init 30 = .ok (.bipush 64, 2) := dc_16 (a := 64) (v := 64) (by decide +kernel)
theorem dX12_init_32 : decode cX12_init 32 = .ok (.newarray .int, 2) := dc_188_10 (by decide +kernel)
theorem dX12_init_34 : decode cX12_init 34 = .ok (.putfield 21, 3) := dc_181 (a := 0) (b := 21) (n := 21) (by decide +kernel)
theorem dX12_init_37 : decode cX12_init 37 = .ok (.aload_n 0, 1) := dc_42 (by decide +kernel)
theorem dX12_init_38 : decode cX12_init 38 = .ok (.bipush 64, 2) := dc_16 (a := 64) (v := 64) (by decide +kernel)
theorem dX12_init_40 : decode cX12_init 40 = .ok (.newarray .int, 2) := dc_188_10 (by decide +kernel)
theorem dX12_init_42 : decode cX12_init 42 = .ok (.putfield 24, 3) := dc_181 (a := 0) (b := 24) (n := 24) (by decide +kernel)
theorem dX12_init_45 : decode cX12_init 45 = .ok (.aload_n 0, 1) := dc_42 (by decide +kernel)
theorem dX12_init_46 : decode cX12_init 46 = .ok (.aload_n 1, 1) := dc_43 (by decide +kernel)
theorem dX12_init_47 : decode cX12_init 47 = .ok (.putfield 27, 3) := dc_181 (a := 0) (b := 27) (n := 27) (by decide +kernel)
theorem dX12_init_50 : decode cX12_init 50 = .ok (.return_, 1) := dc_177 (by decide +kernel)
theorem SX12_15 {w : eW} {d : Nat} {Y : eY} {pc : Nat} {ls : eL} {st : List Value} {h : eH} {Q : eO → eH → Prop} {a : Nat} {h' : eH} {x : Nat} (hf : p_V 11 h a 3 (.ref x) = some h') (hd : decode Y.2.1 pc = .ok (.putfield 15, 3)) (hY : Y.1.cls = RX12) (kk : wp w d Y (pc + 3) ls st h' Q) : wp w d Y pc ls (.ref x :: .ref a :: st) h Q := x_pA (ci := 11) (k := 3) hf hd rfl (by decide) (by rw [hY]; exact q783) rfl rfl rfl rfl kk
theorem SX12_18 {w : eW} {d : Nat} {Y : eY} {pc : Nat} {ls : eL} {st : List Value} {h : eH} {Q : eO → eH → Prop} {a : Nat} {h' : eH} {x : Nat} (hf : p_V 11 h a 4 (.ref x) = some h') (hd : decode Y.2.1 pc = .ok (.putfield 18, 3)) (hY : Y.1.cls = RX12) (kk : wp w d Y (pc + 3) ls st h' Q) : wp w d Y pc ls (.ref x :: .ref a :: st) h Q := x_pA (ci := 11) (k := 4) hf hd rfl (by decide) (by rw [hY]; exact q785) rfl rfl rfl rfl kk
theorem SX12_21 {w : eW} {d : Nat} {Y : eY} {pc : Nat} {ls : eL} {st : List Value} {h : eH} {Q : eO → eH → Prop} {a : Nat} {h' : eH} {x : Nat} (hf : p_V 11 h a 5 (.ref x) = some h') (hd : decode Y.2.1 pc = .ok (.putfield 21, 3)) (hY : Y.1.cls = RX12) (kk : wp w d Y (pc + 3) ls st h' Q) : wp w d Y pc ls (.ref x :: .ref a :: st) h Q := x_pA (ci := 11) (k := 5) hf hd rfl (by decide) (by rw [hY]; exact q788) rfl rfl rfl rfl kk
theorem SX12_24 {w : eW} {d : Nat} {Y : eY} {pc : Nat} {ls : eL} {st : List Value} {h : eH} {Q : eO → eH → Prop} {a : Nat} {h' : eH} {x : Nat} (hf : p_V 11 h a 6 (.ref x) = some h') (hd : decode Y.2.1 pc = .ok (.putfield 24, 3)) (hY : Y.1.cls = RX12) (kk : wp w d Y (pc + 3) ls st h' Q) : wp w d Y pc ls (.ref x :: .ref a :: st) h Q := x_pA (ci := 11) (k := 6) hf hd rfl (by decide) (by rw [hY]; exact q790) rfl rfl rfl rfl kk
theorem SX12_27 {w : eW} {d : Nat} {Y : eY} {pc : Nat} {ls : eL} {st : List Value} {h : eH} {Q : eO → eH → Prop} {a : Nat} {h' : eH} {v : Value} (hf : p_F 11 h a 0 v = some h') (hd : decode Y.2.1 pc = .ok (.putfield 27, 3)) (hY : Y.1.cls = RX12) (hI : Y.1.name = "<init>") (hn : narrow (tyX12 0) v = v) (hfit : fits (tyX12 0) v = true) (kk : wp w d Y (pc + 3) ls st h' Q) : wp w d Y pc ls (v :: .ref a :: st) h Q := x_pF (ci := 11) (k := 0) hf hd rfl (by decide) (by rw [hY]; exact q777) rfl hI (by rw [hY]; rfl) (tyX12_ok 0 (by decide)) hn hfit kk
theorem SX12_9 {w : eW} {d : Nat} {Y : eY} {pc : Nat} {ls : eL} {st : List Value} {h : eH} {Q : eO → eH → Prop} {a : Nat} {h' : eH} {v : Value} (hf : p_F 11 h a 1 v = some h') (hd : decode Y.2.1 pc = .ok (.putfield 9, 3)) (hY : Y.1.cls = RX12) (hI : Y.1.name = "<init>") (hn : narrow (tyX12 1) v = v) (hfit : fits (tyX12 1) v = true) (kk : wp w d Y (pc + 3) ls st h' Q) : wp w d Y pc ls (v :: .ref a :: st) h Q := x_pF (ci := 11) (k := 1) hf hd rfl (by decide) (by rw [hY]; exact q778) rfl hI (by rw [hY]; rfl) (tyX12_ok 1 (by decide)) hn hfit kk
def fX12_init (this : Nat) (p0 : Nat) (h : eH) : Option (Unit × eH) :=
  (n_arr 100 31 (.int 0) h (10000 : Int32)).bind fun q1 =>
  (p_F 11 q1.2 this 1 (.ref q1.1)).bind fun h3 =>
  (n_arr 100 32 (.int 0) h3 (64 : Int32)).bind fun q5 =>
  (p_V 11 q5.2 this 3 (.ref q5.1)).bind fun h7 =>
  (n_arr 100 33 (.int 0) h7 (64 : Int32)).bind fun q9 =>
  (p_V 11 q9.2 this 4 (.ref q9.1)).bind fun h11 =>
  (n_arr 100 34 (.int 0) h11 (64 : Int32)).bind fun q13 =>
  (p_V 11 q13.2 this 5 (.ref q13.1)).bind fun h15 =>
  (n_arr 100 35 (.int 0) h15 (64 : Int32)).bind fun q17 =>
  (p_V 11 q17.2 this 6 (.ref q17.1)).bind fun h19 =>
  (p_F 11 h19 this 0 (.ref p0)).bind fun h21 =>
  some ((), h21)
theorem pX12_init {w : eW} {d : Nat} (hd : 1 ≤ d) {this : Nat} {p0 : Nat} {h : eH} {q} (hf : fX12_init this p0 h = some q) : wm w d YX12_init [.ref this, .ref p0] h (e_is (e_rn c_V q)) := by
  obtain ⟨d, rfl⟩ : ∃ e, d = e + 1 := ⟨d - 1, by omega⟩
  show wp w (d + 1) YX12_init 0 [some (.ref this), some (.ref p0)] [] h _
  unfold fX12_init at hf
  refine w_aload_n dX12_init_0 rfl rfl ?_
  refine w_obj dX12_init_1 q776 q490 q491 (by decide) ?_
  refine w_aload_n dX12_init_4 rfl rfl ?_
  refine w_sipush dX12_init_5 (v := 10000) (by decide) ?_
  obtain ⟨q1, b2, hf⟩ := Option.bind_eq_some_iff.mp hf
  refine x_newI (g := 31) b2 dX12_init_8 q582 ?_
  obtain ⟨h3, b4, hf⟩ := Option.bind_eq_some_iff.mp hf
  refine SX12_9 b4 dX12_init_10 rfl rfl rfl rfl ?_
  refine w_aload_n dX12_init_13 rfl rfl ?_
  refine w_bipush dX12_init_14 (v := 64) (by decide) ?_
  obtain ⟨q5, b6, hf⟩ := Option.bind_eq_some_iff.mp hf
  refine x_newI (g := 32) b6 dX12_init_16 q582 ?_
  obtain ⟨h7, b8, hf⟩ := Option.bind_eq_some_iff.mp hf
  refine SX12_15 b8 dX12_init_18 rfl ?_
  refine w_aload_n dX12_init_21 rfl rfl ?_
  refine w_bipush dX12_init_22 (v := 64) (by decide) ?_
  obtain ⟨q9, b10, hf⟩ := Option.bind_eq_some_iff.mp hf
  refine x_newI (g := 33) b10 dX12_init_24 q582 ?_
  obtain ⟨h11, b12, hf⟩ := Option.bind_eq_some_iff.mp hf
  refine SX12_18 b12 dX12_init_26 rfl ?_
  refine w_aload_n dX12_init_29 rfl rfl ?_
  refine w_bipush dX12_init_30 (v := 64) (by decide) ?_
  obtain ⟨q13, b14, hf⟩ := Option.bind_eq_some_iff.mp hf
  refine x_newI (g := 34) b14 dX12_init_32 q582 ?_
  obtain ⟨h15, b16, hf⟩ := Option.bind_eq_some_iff.mp hf
  refine SX12_21 b16 dX12_init_34 rfl ?_
  refine w_aload_n dX12_init_37 rfl rfl ?_
  refine w_bipush dX12_init_38 (v := 64) (by decide) ?_
  obtain ⟨q17, b18, hf⟩ := Option.bind_eq_some_iff.mp hf
  refine x_newI (g := 35) b18 dX12_init_40 q582 ?_
  obtain ⟨h19, b20, hf⟩ := Option.bind_eq_some_iff.mp hf
  refine SX12_24 b20 dX12_init_42 rfl ?_
  refine w_aload_n dX12_init_45 rfl rfl ?_
  refine w_aload_n dX12_init_46 rfl rfl ?_
  obtain ⟨h21, b22, hf⟩ := Option.bind_eq_some_iff.mp hf
  refine SX12_27 b22 dX12_init_47 rfl rfl rfl rfl ?_
  cases hf
  exact w_vret dX12_init_50 rfl rfl
abbrev cX13_init : ByteArray := prog_31_method_1_code
def yX13_init : MethodName := ⟨RX13, "<init>", "(LTypeHouse$Macros;LTypeHouse$SourceLines;)V"⟩
def YX13_init : eY := (yX13_init, cX13_init, 3, none, [])
theorem mX13_init : e_mi YX13_init 2 := ⟨q814, rfl, rfl, q815, by decide, by decide +kernel, (e_sig (by decide +kernel))⟩
theorem dX13_init_0 : decode cX13_init 0 = .ok (.aload_n 0, 1) := dc_42 (by decide +kernel)
theorem dX13_init_1 : decode cX13_init 1 = .ok (.invokespecial 3, 3) := dc_183 (a := 0) (b := 3) (n := 3) (by decide +kernel)
theorem dX13_init_4 : decode cX13_init 4 = .ok (.aload_n 0, 1) := dc_42 (by decide +kernel)
theorem dX13_init_5 : decode cX13_init 5 = .ok (.sipush 256, 3) := dc_17 (a := 1) (b := 0) (v := 256) (by decide +kernel)
theorem dX13_init_8 : decode cX13_init 8 = .ok (.newarray .int, 2) := dc_188_10 (by decide +kernel)
theorem dX13_init_10 : decode cX13_init 10 = .ok (.putfield 9, 3) := dc_181 (a := 0) (b := 9) (n := 9) (by decide +kernel)
theorem dX13_init_13 : decode cX13_init 13 = .ok (.aload_n 0, 1) := dc_42 (by decide +kernel)
theorem dX13_init_14 : decode cX13_init 14 = .ok (.aload_n 1, 1) := dc_43 (by decide +kernel)
theorem dX13_init_15 : decode cX13_init 15 = .ok (.putfield 15, 3) := dc_181 (a := 0) (b := 15) (n := 15) (by decide +kernel)
theorem dX13_init_18 : decode cX13_init 18 = .ok (.aload_n 0, 1) := dc_42 (by decide +kernel)
theorem dX13_init_19 : decode cX13_init 19 = .ok (.aload_n 2, 1) := dc_44 (by decide +kernel)
theorem dX13_init_20 : decode cX13_init 20 = .ok (.putfield 19, 3) := dc_181 (a := 0) (b := 19) (n := 19) (by decide +kernel)
theorem dX13_init_23 : decode cX13_init 23 = .ok (.return_, 1) := dc_177 (by decide +kernel)
theorem SX13_15 {w : eW} {d : Nat} {Y : eY} {pc : Nat} {ls : eL} {st : List Value} {h : eH} {Q : eO → eH → Prop} {a : Nat} {h' : eH} {v : Value} (hf : p_F 12 h a 0 v = some h') (hd : decode Y.2.1 pc = .ok (.putfield 15, 3)) (hY : Y.1.cls = RX13) (hI : Y.1.name = "<init>") (hn : narrow (tyX13 0) v = v) (hfit : fits (tyX13 0) v = true) (kk : wp w d Y (pc + 3) ls st h' Q) : wp w d Y pc ls (v :: .ref a :: st) h Q := x_pF (ci := 12) (k := 0) hf hd rfl (by decide) (by rw [hY]; exact q817) rfl hI (by rw [hY]; rfl) (tyX13_ok 0 (by decide)) hn hfit kk
theorem SX13_19 {w : eW} {d : Nat} {Y : eY} {pc : Nat} {ls : eL} {st : List Value} {h : eH} {Q : eO → eH → Prop} {a : Nat} {h' : eH} {v : Value} (hf : p_F 12 h a 1 v = some h') (hd : decode Y.2.1 pc = .ok (.putfield 19, 3)) (hY : Y.1.cls = RX13) (hI : Y.1.name = "<init>") (hn : narrow (tyX13 1) v = v) (hfit : fits (tyX13 1) v = true) (kk : wp w d Y (pc + 3) ls st h' Q) : wp w d Y pc ls (v :: .ref a :: st) h Q := x_pF (ci := 12) (k := 1) hf hd rfl (by decide) (by rw [hY]; exact q818) rfl hI (by rw [hY]; rfl) (tyX13_ok 1 (by decide)) hn hfit kk
theorem SX13_9 {w : eW} {d : Nat} {Y : eY} {pc : Nat} {ls : eL} {st : List Value} {h : eH} {Q : eO → eH → Prop} {a : Nat} {h' : eH} {x : Nat} (hf : p_V 12 h a 2 (.ref x) = some h') (hd : decode Y.2.1 pc = .ok (.putfield 9, 3)) (hY : Y.1.cls = RX13) (kk : wp w d Y (pc + 3) ls st h' Q) : wp w d Y pc ls (.ref x :: .ref a :: st) h Q := x_pA (ci := 12) (k := 2) hf hd rfl (by decide) (by rw [hY]; exact q819) rfl rfl rfl rfl kk
def fX13_init (this : Nat) (p0 : Nat) (p1 : Nat) (h : eH) : Option (Unit × eH) :=
  (n_arr 100 36 (.int 0) h (256 : Int32)).bind fun q1 =>
  (p_V 12 q1.2 this 2 (.ref q1.1)).bind fun h3 =>
  (p_F 12 h3 this 0 (.ref p0)).bind fun h5 =>
  (p_F 12 h5 this 1 (.ref p1)).bind fun h7 =>
  some ((), h7)
theorem pX13_init {w : eW} {d : Nat} (hd : 1 ≤ d) {this : Nat} {p0 : Nat} {p1 : Nat} {h : eH} {q} (hf : fX13_init this p0 p1 h = some q) : wm w d YX13_init [.ref this, .ref p0, .ref p1] h (e_is (e_rn c_V q)) := by
  obtain ⟨d, rfl⟩ : ∃ e, d = e + 1 := ⟨d - 1, by omega⟩
  show wp w (d + 1) YX13_init 0 [some (.ref this), some (.ref p0), some (.ref p1)] [] h _
  unfold fX13_init at hf
  refine w_aload_n dX13_init_0 rfl rfl ?_
  refine w_obj dX13_init_1 q816 q490 q491 (by decide) ?_
  refine w_aload_n dX13_init_4 rfl rfl ?_
  refine w_sipush dX13_init_5 (v := 256) (by decide) ?_
  obtain ⟨q1, b2, hf⟩ := Option.bind_eq_some_iff.mp hf
  refine x_newI (g := 36) b2 dX13_init_8 q582 ?_
  obtain ⟨h3, b4, hf⟩ := Option.bind_eq_some_iff.mp hf
  refine SX13_9 b4 dX13_init_10 rfl ?_
  refine w_aload_n dX13_init_13 rfl rfl ?_
  refine w_aload_n dX13_init_14 rfl rfl ?_
  obtain ⟨h5, b6, hf⟩ := Option.bind_eq_some_iff.mp hf
  refine SX13_15 b6 dX13_init_15 rfl rfl rfl rfl ?_
  refine w_aload_n dX13_init_18 rfl rfl ?_
  refine w_aload_n dX13_init_19 rfl rfl ?_
  obtain ⟨h7, b8, hf⟩ := Option.bind_eq_some_iff.mp hf
  refine SX13_19 b8 dX13_init_20 rfl rfl rfl rfl ?_
  cases hf
  exact w_vret dX13_init_23 rfl rfl
abbrev cX8_init : ByteArray := prog_4_method_1_code
def yX8_init : MethodName := ⟨RX8, "<init>", "(LTypeHouse$Trouble;LTypeHouse$FontTable;[LTypeHouse$Box;)V"⟩
def YX8_init : eY := (yX8_init, cX8_init, 4, none, [])
theorem mX8_init : e_mi YX8_init 3 := ⟨q641, rfl, rfl, q642, by decide, by decide +kernel, (e_sig (by decide +kernel))⟩
theorem dX8_init_0 : decode cX8_init 0 = .ok (.aload_n 0, 1) := dc_42 (by decide +kernel)
theorem dX8_init_1 : decode cX8_init 1 = .ok (.invokespecial 3, 3) := dc_183 (a := 0) (b := 3) (n := 3) (by decide +kernel)
theorem dX8_init_4 : decode cX8_init 4 = .ok (.aload_n 0, 1) := dc_42 (by decide +kernel)
theorem dX8_init_5 : decode cX8_init 5 = .ok (.new 9, 3) := dc_187 (a := 0) (b := 9) (n := 9) (by decide +kernel)
theorem dX8_init_8 : decode cX8_init 8 = .ok (.dup, 1) := dc_89 (by decide +kernel)
theorem dX8_init_9 : decode cX8_init 9 = .ok (.invokespecial 11, 3) := dc_183 (a := 0) (b := 11) (n := 11) (by decide +kernel)
theorem dX8_init_12 : decode cX8_init 12 = .ok (.putfield 12, 3) := dc_181 (a := 0) (b := 12) (n := 12) (by decide +kernel)
theorem dX8_init_15 : decode cX8_init 15 = .ok (.aload_n 0, 1) := dc_42 (by decide +kernel)
theorem dX8_init_16 : decode cX8_init 16 = .ok (.bipush 100, 2) := dc_16 (a := 100) (v := 100) (by decide +kernel)
theorem dX8_init_18 : decode cX8_init 18 = .ok (.newarray .boolean, 2) := dc_188_4 (by decide +kernel)
theorem dX8_init_20 : decode cX8_init 20 = .ok (.putfield 18, 3) := dc_181 (a := 0) (b := 18) (n := 18) (by decide +kernel)
theorem dX8_init_23 : decode cX8_init 23 = .ok (.aload_n 0, 1) := dc_42 (by decide +kernel)
theorem dX8_init_24 : decode cX8_init 24 = .ok (.bipush 100, 2) := dc_16 (a := 100) (v := 100) (by decide +kernel)
theorem dX8_init_26 : decode cX8_init 26 = .ok (.newarray .boolean, 2) := dc_188_4 (by decide +kernel)
theorem dX8_init_28 : decode cX8_init 28 = .ok (.putfield 22, 3) := dc_181 (a := 0) (b := 22) (n := 22) (by decide +kernel)
theorem dX8_init_31 : decode cX8_init 31 = .ok (.aload_n 0, 1) := dc_42 (by decide +kernel)
theorem dX8_init_32 : decode cX8_init 32 = .ok (.bipush 100, 2) := dc_16 (a := 100) (v := 100) (by decide +kernel)
theorem dX8_init_34 : decode cX8_init 34 = .ok (.newarray .boolean, 2) := dc_188_4 (by decide +kernel)
theorem dX8_init_36 : decode cX8_init 36 = .ok (.putfield 25, 3) := dc_181 (a := 0) (b := 25) (n := 25) (by decide +kernel)
theorem dX8_init_39 : decode cX8_init 39 = .ok (.aload_n 0, 1) := dc_42 (by decide +kernel)
theorem dX8_init_40 : decode cX8_init 40 = .ok (.sipush 256, 3) := dc_17 (a := 1) (b := 0) (v := 256) (by decide +kernel)
theorem dX8_init_43 : decode cX8_init 43 = .ok (.newarray .int, 2) := dc_188_10 (by decide +kernel)
theorem dX8_init_45 : decode cX8_init 45 = .ok (.putfield 28, 3) := dc_181 (a := 0) (b := 28) (n := 28) (by decide +kernel)
theorem dX8_init_48 : decode cX8_init 48 = .ok (.aload_n 0, 1) := dc_42 (by decide +kernel)
theorem dX8_init_49 : decode cX8_init 49 = .ok (.bipush 9, 2) := dc_16 (a := 9) (v := 9) (by decide +kernel)
theorem dX8_init_51 : decode cX8_init 51 = .ok (.newarray .int, 2) := dc_188_10 (by decide +kernel)
theorem dX8_init_53 : decode cX8_init 53 = .ok (.putfield 32, 3) := dc_181 (a := 0) (b := 32) (n := 32) (by decide +kernel)
theorem dX8_init_56 : decode cX8_init 56 = .ok (.aload_n 0, 1) := dc_42 (by decide +kernel)
theorem dX8_init_57 : decode cX8_init 57 = .ok (.bipush 64, 2) := dc_16 (a := 64) (v := 64) (by decide +kernel)
theorem dX8_init_59 : decode cX8_init 59 = .ok (.newarray .int, 2) := dc_188_10 (by decide +kernel)
theorem dX8_init_61 : decode cX8_init 61 = .ok (.putfield 35, 3) := dc_181 (a := 0) (b := 35) (n := 35) (by decide +kernel)
theorem dX8_init_64 : decode cX8_init 64 = .ok (.aload_n 0, 1) := dc_42 (by decide +kernel)
theorem dX8_init_65 : decode cX8_init 65 = .ok (.bipush 13, 2) := dc_16 (a := 13) (v := 13) (by decide +kernel)
theorem dX8_init_67 : decode cX8_init 67 = .ok (.newarray .int, 2) := dc_188_10 (by decide +kernel)
theorem dX8_init_69 : decode cX8_init 69 = .ok (.dup, 1) := dc_89 (by decide +kernel)
theorem dX8_init_70 : decode cX8_init 70 = .ok (.iconst 0, 1) := dc_3 (by decide +kernel)
theorem dX8_init_71 : decode cX8_init 71 = .ok (.sipush 1000, 3) := dc_17 (a := 3) (b := 232) (v := 1000) (by decide +kernel)
theorem dX8_init_74 : decode cX8_init 74 = .ok (.iastore, 1) := dc_79 (by decide +kernel)
theorem dX8_init_75 : decode cX8_init 75 = .ok (.dup, 1) := dc_89 (by decide +kernel)
theorem dX8_init_76 : decode cX8_init 76 = .ok (.iconst 1, 1) := dc_4 (by decide +kernel)
theorem dX8_init_77 : decode cX8_init 77 = .ok (.sipush 900, 3) := dc_17 (a := 3) (b := 132) (v := 900) (by decide +kernel)
theorem dX8_init_80 : decode cX8_init 80 = .ok (.iastore, 1) := dc_79 (by decide +kernel)
theorem dX8_init_81 : decode cX8_init 81 = .ok (.dup, 1) := dc_89 (by decide +kernel)
theorem dX8_init_82 : decode cX8_init 82 = .ok (.iconst 2, 1) := dc_5 (by decide +kernel)
theorem dX8_init_83 : decode cX8_init 83 = .ok (.sipush 500, 3) := dc_17 (a := 1) (b := 244) (v := 500) (by decide +kernel)
theorem dX8_init_86 : decode cX8_init 86 = .ok (.iastore, 1) := dc_79 (by decide +kernel)
theorem dX8_init_87 : decode cX8_init 87 = .ok (.dup, 1) := dc_89 (by decide +kernel)
theorem dX8_init_88 : decode cX8_init 88 = .ok (.iconst 3, 1) := dc_6 (by decide +kernel)
theorem dX8_init_89 : decode cX8_init 89 = .ok (.sipush 400, 3) := dc_17 (a := 1) (b := 144) (v := 400) (by decide +kernel)
theorem dX8_init_92 : decode cX8_init 92 = .ok (.iastore, 1) := dc_79 (by decide +kernel)
theorem dX8_init_93 : decode cX8_init 93 = .ok (.dup, 1) := dc_89 (by decide +kernel)
theorem dX8_init_94 : decode cX8_init 94 = .ok (.iconst 4, 1) := dc_7 (by decide +kernel)
theorem dX8_init_95 : decode cX8_init 95 = .ok (.bipush 100, 2) := dc_16 (a := 100) (v := 100) (by decide +kernel)
theorem dX8_init_97 : decode cX8_init 97 = .ok (.iastore, 1) := dc_79 (by decide +kernel)
theorem dX8_init_98 : decode cX8_init 98 = .ok (.dup, 1) := dc_89 (by decide +kernel)
theorem dX8_init_99 : decode cX8_init 99 = .ok (.iconst 5, 1) := dc_8 (by decide +kernel)
theorem dX8_init_100 : decode cX8_init 100 = .ok (.bipush 90, 2) := dc_16 (a := 90) (v := 90) (by decide +kernel)
theorem dX8_init_102 : decode cX8_init 102 = .ok (.iastore, 1) := dc_79 (by decide +kernel)
theorem dX8_init_103 : decode cX8_init 103 = .ok (.dup, 1) := dc_89 (by decide +kernel)
theorem dX8_init_104 : decode cX8_init 104 = .ok (.bipush 6, 2) := dc_16 (a := 6) (v := 6) (by decide +kernel)
theorem dX8_init_106 : decode cX8_init 106 = .ok (.bipush 50, 2) := dc_16 (a := 50) (v := 50) (by decide +kernel)
theorem dX8_init_108 : decode cX8_init 108 = .ok (.iastore, 1) := dc_79 (by decide +kernel)
theorem dX8_init_109 : decode cX8_init 109 = .ok (.dup, 1) := dc_89 (by decide +kernel)
theorem dX8_init_110 : decode cX8_init 110 = .ok (.bipush 7, 2) := dc_16 (a := 7) (v := 7) (by decide +kernel)
theorem dX8_init_112 : decode cX8_init 112 = .ok (.bipush 40, 2) := dc_16 (a := 40) (v := 40) (by decide +kernel)
theorem dX8_init_114 : decode cX8_init 114 = .ok (.iastore, 1) := dc_79 (by decide +kernel)
theorem dX8_init_115 : decode cX8_init 115 = .ok (.dup, 1) := dc_89 (by decide +kernel)
theorem dX8_init_116 : decode cX8_init 116 = .ok (.bipush 8, 2) := dc_16 (a := 8) (v := 8) (by decide +kernel)
theorem dX8_init_118 : decode cX8_init 118 = .ok (.bipush 10, 2) := dc_16 (a := 10) (v := 10) (by decide +kernel)
theorem dX8_init_120 : decode cX8_init 120 = .ok (.iastore, 1) := dc_79 (by decide +kernel)
theorem dX8_init_121 : decode cX8_init 121 = .ok (.dup, 1) := dc_89 (by decide +kernel)
theorem dX8_init_122 : decode cX8_init 122 = .ok (.bipush 9, 2) := dc_16 (a := 9) (v := 9) (by decide +kernel)
theorem dX8_init_124 : decode cX8_init 124 = .ok (.bipush 9, 2) := dc_16 (a := 9) (v := 9) (by decide +kernel)
theorem dX8_init_126 : decode cX8_init 126 = .ok (.iastore, 1) := dc_79 (by decide +kernel)
theorem dX8_init_127 : decode cX8_init 127 = .ok (.dup, 1) := dc_89 (by decide +kernel)
theorem dX8_init_128 : decode cX8_init 128 = .ok (.bipush 10, 2) := dc_16 (a := 10) (v := 10) (by decide +kernel)
theorem dX8_init_130 : decode cX8_init 130 = .ok (.iconst 5, 1) := dc_8 (by decide +kernel)
theorem dX8_init_131 : decode cX8_init 131 = .ok (.iastore, 1) := dc_79 (by decide +kernel)
theorem dX8_init_132 : decode cX8_init 132 = .ok (.dup, 1) := dc_89 (by decide +kernel)
theorem dX8_init_133 : decode cX8_init 133 = .ok (.bipush 11, 2) := dc_16 (a := 11) (v := 11) (by decide +kernel)
theorem dX8_init_135 : decode cX8_init 135 = .ok (.iconst 4, 1) := dc_7 (by decide +kernel)
theorem dX8_init_136 : decode cX8_init 136 = .ok (.iastore, 1) := dc_79 (by decide +kernel)
theorem dX8_init_137 : decode cX8_init 137 = .ok (.dup, 1) := dc_89 (by decide +kernel)
theorem dX8_init_138 : decode cX8_init 138 = .ok (.bipush 12, 2) := dc_16 (a := 12) (v := 12) (by decide +kernel)
theorem dX8_init_140 : decode cX8_init 140 = .ok (.iconst 1, 1) := dc_4 (by decide +kernel)
theorem dX8_init_141 : decode cX8_init 141 = .ok (.iastore, 1) := dc_79 (by decide +kernel)
theorem dX8_init_142 : decode cX8_init 142 = .ok (.putfield 38, 3) := dc_181 (a := 0) (b := 38) (n := 38) (by decide +kernel)
theorem dX8_init_145 : decode cX8_init 145 = .ok (.aload_n 0, 1) := dc_42 (by decide +kernel)
theorem dX8_init_146 : decode cX8_init 146 = .ok (.sipush 1640, 3) := dc_17 (a := 6) (b := 104) (v := 1640) (by decide +kernel)
theorem dX8_init_149 : decode cX8_init 149 = .ok (.newarray .byte, 2) := dc_188_8 (by decide +kernel)
theorem dX8_init_151 : decode cX8_init 151 = .ok (.putfield 41, 3) := dc_181 (a := 0) (b := 41) (n := 41) (by decide +kernel)
theorem dX8_init_154 : decode cX8_init 154 = .ok (.aload_n 0, 1) := dc_42 (by decide +kernel)
theorem dX8_init_155 : decode cX8_init 155 = .ok (.sipush 336, 3) := dc_17 (a := 1) (b := 80) (v := 336) (by decide +kernel)
theorem dX8_init_158 : decode cX8_init 158 = .ok (.newarray .int, 2) := dc_188_10 (by decide +kernel)
theorem dX8_init_160 : decode cX8_init 160 = .ok (.putfield 45, 3) := dc_181 (a := 0) (b := 45) (n := 45) (by decide +kernel)
theorem dX8_init_163 : decode cX8_init 163 = .ok (.aload_n 0, 1) := dc_42 (by decide +kernel)
theorem dX8_init_164 : decode cX8_init 164 = .ok (.iconst 4, 1) := dc_7 (by decide +kernel)
theorem dX8_init_165 : decode cX8_init 165 = .ok (.newarray .int, 2) := dc_188_10 (by decide +kernel)
theorem dX8_init_167 : decode cX8_init 167 = .ok (.putfield 48, 3) := dc_181 (a := 0) (b := 48) (n := 48) (by decide +kernel)
theorem dX8_init_170 : decode cX8_init 170 = .ok (.aload_n 0, 1) := dc_42 (by decide +kernel)
theorem dX8_init_171 : decode cX8_init 171 = .ok (.aload_n 1, 1) := dc_43 (by decide +kernel)
theorem dX8_init_172 : decode cX8_init 172 = .ok (.putfield 51, 3) := dc_181 (a := 0) (b := 51) (n := 51) (by decide +kernel)
theorem dX8_init_175 : decode cX8_init 175 = .ok (.aload_n 0, 1) := dc_42 (by decide +kernel)
theorem dX8_init_176 : decode cX8_init 176 = .ok (.aload_n 2, 1) := dc_44 (by decide +kernel)
theorem dX8_init_177 : decode cX8_init 177 = .ok (.putfield 55, 3) := dc_181 (a := 0) (b := 55) (n := 55) (by decide +kernel)
theorem dX8_init_180 : decode cX8_init 180 = .ok (.aload_n 0, 1) := dc_42 (by decide +kernel)
theorem dX8_init_181 : decode cX8_init 181 = .ok (.aload_n 3, 1) := dc_45 (by decide +kernel)
theorem dX8_init_182 : decode cX8_init 182 = .ok (.putfield 59, 3) := dc_181 (a := 0) (b := 59) (n := 59) (by decide +kernel)
theorem dX8_init_185 : decode cX8_init 185 = .ok (.aload_n 0, 1) := dc_42 (by decide +kernel)
theorem dX8_init_186 : decode cX8_init 186 = .ok (.new 63, 3) := dc_187 (a := 0) (b := 63) (n := 63) (by decide +kernel)
theorem dX8_init_189 : decode cX8_init 189 = .ok (.dup, 1) := dc_89 (by decide +kernel)
theorem dX8_init_190 : decode cX8_init 190 = .ok (.aload_n 1, 1) := dc_43 (by decide +kernel)
theorem dX8_init_191 : decode cX8_init 191 = .ok (.invokespecial 65, 3) := dc_183 (a := 0) (b := 65) (n := 65) (by decide +kernel)
theorem dX8_init_194 : decode cX8_init 194 = .ok (.putfield 68, 3) := dc_181 (a := 0) (b := 68) (n := 68) (by decide +kernel)
theorem dX8_init_197 : decode cX8_init 197 = .ok (.aload_n 0, 1) := dc_42 (by decide +kernel)
theorem dX8_init_198 : decode cX8_init 198 = .ok (.new 72, 3) := dc_187 (a := 0) (b := 72) (n := 72) (by decide +kernel)
theorem dX8_init_201 : decode cX8_init 201 = .ok (.dup, 1) := dc_89 (by decide +kernel)
theorem dX8_init_202 : decode cX8_init 202 = .ok (.aload_n 1, 1) := dc_43 (by decide +kernel)
theorem dX8_init_203 : decode cX8_init 203 = .ok (.aload_n 0, 1) := dc_42 (by decide +kernel)
theorem dX8_init_204 : decode cX8_init 204 = .ok (.getfield 68, 3) := dc_180 (a := 0) (b := 68) (n := 68) (by decide +kernel)
theorem dX8_init_207 : decode cX8_init 207 = .ok (.aload_n 0, 1) := dc_42 (by decide +kernel)
theorem dX8_init_208 : decode cX8_init 208 = .ok (.getfield 12, 3) := dc_180 (a := 0) (b := 12) (n := 12) (by decide +kernel)
theorem dX8_init_211 : decode cX8_init 211 = .ok (.invokespecial 74, 3) := dc_183 (a := 0) (b := 74) (n := 74) (by decide +kernel)
theorem dX8_init_214 : decode cX8_init 214 = .ok (.putfield 77, 3) := dc_181 (a := 0) (b := 77) (n := 77) (by decide +kernel)
theorem dX8_init_217 : decode cX8_init 217 = .ok (.aload_n 0, 1) := dc_42 (by decide +kernel)
theorem dX8_init_218 : decode cX8_init 218 = .ok (.new 81, 3) := dc_187 (a := 0) (b := 81) (n := 81) (by decide +kernel)
theorem dX8_init_221 : decode cX8_init 221 = .ok (.dup, 1) := dc_89 (by decide +kernel)
theorem dX8_init_222 : decode cX8_init 222 = .ok (.aload_n 1, 1) := dc_43 (by decide +kernel)
theorem dX8_init_223 : decode cX8_init 223 = .ok (.invokespecial 83, 3) := dc_183 (a := 0) (b := 83) (n := 83) (by decide +kernel)
theorem dX8_init_226 : decode cX8_init 226 = .ok (.putfield 84, 3) := dc_181 (a := 0) (b := 84) (n := 84) (by decide +kernel)
theorem dX8_init_229 : decode cX8_init 229 = .ok (.aload_n 0, 1) := dc_42 (by decide +kernel)
theorem dX8_init_230 : decode cX8_init 230 = .ok (.new 88, 3) := dc_187 (a := 0) (b := 88) (n := 88) (by decide +kernel)
theorem dX8_init_233 : decode cX8_init 233 = .ok (.dup, 1) := dc_89 (by decide +kernel)
theorem dX8_init_234 : decode cX8_init 234 = .ok (.aload_n 0, 1) := dc_42 (by decide +kernel)
theorem dX8_init_235 : decode cX8_init 235 = .ok (.getfield 84, 3) := dc_180 (a := 0) (b := 84) (n := 84) (by decide +kernel)
theorem dX8_init_238 : decode cX8_init 238 = .ok (.aload_n 0, 1) := dc_42 (by decide +kernel)
theorem dX8_init_239 : decode cX8_init 239 = .ok (.getfield 77, 3) := dc_180 (a := 0) (b := 77) (n := 77) (by decide +kernel)
theorem dX8_init_242 : decode cX8_init 242 = .ok (.invokespecial 90, 3) := dc_183 (a := 0) (b := 90) (n := 90) (by decide +kernel)
theorem dX8_init_245 : decode cX8_init 245 = .ok (.putfield 93, 3) := dc_181 (a := 0) (b := 93) (n := 93) (by decide +kernel)
theorem dX8_init_248 : decode cX8_init 248 = .ok (.return_, 1) := dc_177 (by decide +kernel)
theorem GX8_12 {w : eW} {d : Nat} {Y : eY} {pc : Nat} {ls : eL} {st : List Value} {h : eH} {Q : eO → eH → Prop} {a : Nat} {x : Nat} (hf : g_A 7 h a 4 = some x) (hd : decode Y.2.1 pc = .ok (.getfield 12, 3)) (hY : Y.1.cls = RX8) (kk : wp w d Y (pc + 3) ls (.ref x :: st) h Q) : wp w d Y pc ls (.ref a :: st) h Q := x_gA (ci := 7) (k := 4) hf hd rfl (by decide) (by rw [hY]; exact q835) kk
theorem GX8_68 {w : eW} {d : Nat} {Y : eY} {pc : Nat} {ls : eL} {st : List Value} {h : eH} {Q : eO → eH → Prop} {a : Nat} {x : Nat} (hf : g_A 7 h a 3 = some x) (hd : decode Y.2.1 pc = .ok (.getfield 68, 3)) (hY : Y.1.cls = RX8) (kk : wp w d Y (pc + 3) ls (.ref x :: st) h Q) : wp w d Y pc ls (.ref a :: st) h Q := x_gA (ci := 7) (k := 3) hf hd rfl (by decide) (by rw [hY]; exact q834) kk
theorem GX8_77 {w : eW} {d : Nat} {Y : eY} {pc : Nat} {ls : eL} {st : List Value} {h : eH} {Q : eO → eH → Prop} {a : Nat} {x : Nat} (hf : g_A 7 h a 5 = some x) (hd : decode Y.2.1 pc = .ok (.getfield 77, 3)) (hY : Y.1.cls = RX8) (kk : wp w d Y (pc + 3) ls (.ref x :: st) h Q) : wp w d Y pc ls (.ref a :: st) h Q := x_gA (ci := 7) (k := 5) hf hd rfl (by decide) (by rw [hY]; exact q837) kk
theorem GX8_84 {w : eW} {d : Nat} {Y : eY} {pc : Nat} {ls : eL} {st : List Value} {h : eH} {Q : eO → eH → Prop} {a : Nat} {x : Nat} (hf : g_A 7 h a 6 = some x) (hd : decode Y.2.1 pc = .ok (.getfield 84, 3)) (hY : Y.1.cls = RX8) (kk : wp w d Y (pc + 3) ls (.ref x :: st) h Q) : wp w d Y pc ls (.ref a :: st) h Q := x_gA (ci := 7) (k := 6) hf hd rfl (by decide) (by rw [hY]; exact q840) kk
theorem SX8_12 {w : eW} {d : Nat} {Y : eY} {pc : Nat} {ls : eL} {st : List Value} {h : eH} {Q : eO → eH → Prop} {a : Nat} {h' : eH} {v : Value} (hf : p_F 7 h a 4 v = some h') (hd : decode Y.2.1 pc = .ok (.putfield 12, 3)) (hY : Y.1.cls = RX8) (hI : Y.1.name = "<init>") (hn : narrow (tyX8 4) v = v) (hfit : fits (tyX8 4) v = true) (kk : wp w d Y (pc + 3) ls st h' Q) : wp w d Y pc ls (v :: .ref a :: st) h Q := x_pF (ci := 7) (k := 4) hf hd rfl (by decide) (by rw [hY]; exact q835) rfl hI (by rw [hY]; rfl) (tyX8_ok 4 (by decide)) hn hfit kk
theorem SX8_18 {w : eW} {d : Nat} {Y : eY} {pc : Nat} {ls : eL} {st : List Value} {h : eH} {Q : eO → eH → Prop} {a : Nat} {h' : eH} {v : Value} (hf : p_F 7 h a 12 v = some h') (hd : decode Y.2.1 pc = .ok (.putfield 18, 3)) (hY : Y.1.cls = RX8) (hI : Y.1.name = "<init>") (hn : narrow (tyX8 12) v = v) (hfit : fits (tyX8 12) v = true) (kk : wp w d Y (pc + 3) ls st h' Q) : wp w d Y pc ls (v :: .ref a :: st) h Q := x_pF (ci := 7) (k := 12) hf hd rfl (by decide) (by rw [hY]; exact q849) rfl hI (by rw [hY]; rfl) (tyX8_ok 12 (by decide)) hn hfit kk
theorem SX8_22 {w : eW} {d : Nat} {Y : eY} {pc : Nat} {ls : eL} {st : List Value} {h : eH} {Q : eO → eH → Prop} {a : Nat} {h' : eH} {v : Value} (hf : p_F 7 h a 13 v = some h') (hd : decode Y.2.1 pc = .ok (.putfield 22, 3)) (hY : Y.1.cls = RX8) (hI : Y.1.name = "<init>") (hn : narrow (tyX8 13) v = v) (hfit : fits (tyX8 13) v = true) (kk : wp w d Y (pc + 3) ls st h' Q) : wp w d Y pc ls (v :: .ref a :: st) h Q := x_pF (ci := 7) (k := 13) hf hd rfl (by decide) (by rw [hY]; exact q850) rfl hI (by rw [hY]; rfl) (tyX8_ok 13 (by decide)) hn hfit kk
theorem SX8_25 {w : eW} {d : Nat} {Y : eY} {pc : Nat} {ls : eL} {st : List Value} {h : eH} {Q : eO → eH → Prop} {a : Nat} {h' : eH} {v : Value} (hf : p_F 7 h a 14 v = some h') (hd : decode Y.2.1 pc = .ok (.putfield 25, 3)) (hY : Y.1.cls = RX8) (hI : Y.1.name = "<init>") (hn : narrow (tyX8 14) v = v) (hfit : fits (tyX8 14) v = true) (kk : wp w d Y (pc + 3) ls st h' Q) : wp w d Y pc ls (v :: .ref a :: st) h Q := x_pF (ci := 7) (k := 14) hf hd rfl (by decide) (by rw [hY]; exact q851) rfl hI (by rw [hY]; rfl) (tyX8_ok 14 (by decide)) hn hfit kk
theorem SX8_28 {w : eW} {d : Nat} {Y : eY} {pc : Nat} {ls : eL} {st : List Value} {h : eH} {Q : eO → eH → Prop} {a : Nat} {h' : eH} {x : Nat} (hf : p_V 7 h a 16 (.ref x) = some h') (hd : decode Y.2.1 pc = .ok (.putfield 28, 3)) (hY : Y.1.cls = RX8) (kk : wp w d Y (pc + 3) ls st h' Q) : wp w d Y pc ls (.ref x :: .ref a :: st) h Q := x_pA (ci := 7) (k := 16) hf hd rfl (by decide) (by rw [hY]; exact q854) rfl rfl rfl rfl kk
theorem SX8_32 {w : eW} {d : Nat} {Y : eY} {pc : Nat} {ls : eL} {st : List Value} {h : eH} {Q : eO → eH → Prop} {a : Nat} {h' : eH} {v : Value} (hf : p_F 7 h a 18 v = some h') (hd : decode Y.2.1 pc = .ok (.putfield 32, 3)) (hY : Y.1.cls = RX8) (hI : Y.1.name = "<init>") (hn : narrow (tyX8 18) v = v) (hfit : fits (tyX8 18) v = true) (kk : wp w d Y (pc + 3) ls st h' Q) : wp w d Y pc ls (v :: .ref a :: st) h Q := x_pF (ci := 7) (k := 18) hf hd rfl (by decide) (by rw [hY]; exact q856) rfl hI (by rw [hY]; rfl) (tyX8_ok 18 (by decide)) hn hfit kk
theorem SX8_35 {w : eW} {d : Nat} {Y : eY} {pc : Nat} {ls : eL} {st : List Value} {h : eH} {Q : eO → eH → Prop} {a : Nat} {h' : eH} {v : Value} (hf : p_F 7 h a 19 v = some h') (hd : decode Y.2.1 pc = .ok (.putfield 35, 3)) (hY : Y.1.cls = RX8) (hI : Y.1.name = "<init>") (hn : narrow (tyX8 19) v = v) (hfit : fits (tyX8 19) v = true) (kk : wp w d Y (pc + 3) ls st h' Q) : wp w d Y pc ls (v :: .ref a :: st) h Q := x_pF (ci := 7) (k := 19) hf hd rfl (by decide) (by rw [hY]; exact q857) rfl hI (by rw [hY]; rfl) (tyX8_ok 19 (by decide)) hn hfit kk
theorem SX8_38 {w : eW} {d : Nat} {Y : eY} {pc : Nat} {ls : eL} {st : List Value} {h : eH} {Q : eO → eH → Prop} {a : Nat} {h' : eH} {v : Value} (hf : p_F 7 h a 20 v = some h') (hd : decode Y.2.1 pc = .ok (.putfield 38, 3)) (hY : Y.1.cls = RX8) (hI : Y.1.name = "<init>") (hn : narrow (tyX8 20) v = v) (hfit : fits (tyX8 20) v = true) (kk : wp w d Y (pc + 3) ls st h' Q) : wp w d Y pc ls (v :: .ref a :: st) h Q := x_pF (ci := 7) (k := 20) hf hd rfl (by decide) (by rw [hY]; exact q858) rfl hI (by rw [hY]; rfl) (tyX8_ok 20 (by decide)) hn hfit kk
theorem SX8_41 {w : eW} {d : Nat} {Y : eY} {pc : Nat} {ls : eL} {st : List Value} {h : eH} {Q : eO → eH → Prop} {a : Nat} {h' : eH} {v : Value} (hf : p_F 7 h a 21 v = some h') (hd : decode Y.2.1 pc = .ok (.putfield 41, 3)) (hY : Y.1.cls = RX8) (hI : Y.1.name = "<init>") (hn : narrow (tyX8 21) v = v) (hfit : fits (tyX8 21) v = true) (kk : wp w d Y (pc + 3) ls st h' Q) : wp w d Y pc ls (v :: .ref a :: st) h Q := x_pF (ci := 7) (k := 21) hf hd rfl (by decide) (by rw [hY]; exact q859) rfl hI (by rw [hY]; rfl) (tyX8_ok 21 (by decide)) hn hfit kk
theorem SX8_45 {w : eW} {d : Nat} {Y : eY} {pc : Nat} {ls : eL} {st : List Value} {h : eH} {Q : eO → eH → Prop} {a : Nat} {h' : eH} {v : Value} (hf : p_F 7 h a 23 v = some h') (hd : decode Y.2.1 pc = .ok (.putfield 45, 3)) (hY : Y.1.cls = RX8) (hI : Y.1.name = "<init>") (hn : narrow (tyX8 23) v = v) (hfit : fits (tyX8 23) v = true) (kk : wp w d Y (pc + 3) ls st h' Q) : wp w d Y pc ls (v :: .ref a :: st) h Q := x_pF (ci := 7) (k := 23) hf hd rfl (by decide) (by rw [hY]; exact q861) rfl hI (by rw [hY]; rfl) (tyX8_ok 23 (by decide)) hn hfit kk
theorem SX8_48 {w : eW} {d : Nat} {Y : eY} {pc : Nat} {ls : eL} {st : List Value} {h : eH} {Q : eO → eH → Prop} {a : Nat} {h' : eH} {v : Value} (hf : p_F 7 h a 29 v = some h') (hd : decode Y.2.1 pc = .ok (.putfield 48, 3)) (hY : Y.1.cls = RX8) (hI : Y.1.name = "<init>") (hn : narrow (tyX8 29) v = v) (hfit : fits (tyX8 29) v = true) (kk : wp w d Y (pc + 3) ls st h' Q) : wp w d Y pc ls (v :: .ref a :: st) h Q := x_pF (ci := 7) (k := 29) hf hd rfl (by decide) (by rw [hY]; exact q867) rfl hI (by rw [hY]; rfl) (tyX8_ok 29 (by decide)) hn hfit kk
theorem SX8_51 {w : eW} {d : Nat} {Y : eY} {pc : Nat} {ls : eL} {st : List Value} {h : eH} {Q : eO → eH → Prop} {a : Nat} {h' : eH} {v : Value} (hf : p_F 7 h a 0 v = some h') (hd : decode Y.2.1 pc = .ok (.putfield 51, 3)) (hY : Y.1.cls = RX8) (hI : Y.1.name = "<init>") (hn : narrow (tyX8 0) v = v) (hfit : fits (tyX8 0) v = true) (kk : wp w d Y (pc + 3) ls st h' Q) : wp w d Y pc ls (v :: .ref a :: st) h Q := x_pF (ci := 7) (k := 0) hf hd rfl (by decide) (by rw [hY]; exact q831) rfl hI (by rw [hY]; rfl) (tyX8_ok 0 (by decide)) hn hfit kk
theorem SX8_55 {w : eW} {d : Nat} {Y : eY} {pc : Nat} {ls : eL} {st : List Value} {h : eH} {Q : eO → eH → Prop} {a : Nat} {h' : eH} {v : Value} (hf : p_F 7 h a 1 v = some h') (hd : decode Y.2.1 pc = .ok (.putfield 55, 3)) (hY : Y.1.cls = RX8) (hI : Y.1.name = "<init>") (hn : narrow (tyX8 1) v = v) (hfit : fits (tyX8 1) v = true) (kk : wp w d Y (pc + 3) ls st h' Q) : wp w d Y pc ls (v :: .ref a :: st) h Q := x_pF (ci := 7) (k := 1) hf hd rfl (by decide) (by rw [hY]; exact q832) rfl hI (by rw [hY]; rfl) (tyX8_ok 1 (by decide)) hn hfit kk
theorem SX8_59 {w : eW} {d : Nat} {Y : eY} {pc : Nat} {ls : eL} {st : List Value} {h : eH} {Q : eO → eH → Prop} {a : Nat} {h' : eH} {v : Value} (hf : p_F 7 h a 2 v = some h') (hd : decode Y.2.1 pc = .ok (.putfield 59, 3)) (hY : Y.1.cls = RX8) (hI : Y.1.name = "<init>") (hn : narrow (tyX8 2) v = v) (hfit : fits (tyX8 2) v = true) (kk : wp w d Y (pc + 3) ls st h' Q) : wp w d Y pc ls (v :: .ref a :: st) h Q := x_pF (ci := 7) (k := 2) hf hd rfl (by decide) (by rw [hY]; exact q833) rfl hI (by rw [hY]; rfl) (tyX8_ok 2 (by decide)) hn hfit kk
theorem SX8_68 {w : eW} {d : Nat} {Y : eY} {pc : Nat} {ls : eL} {st : List Value} {h : eH} {Q : eO → eH → Prop} {a : Nat} {h' : eH} {v : Value} (hf : p_F 7 h a 3 v = some h') (hd : decode Y.2.1 pc = .ok (.putfield 68, 3)) (hY : Y.1.cls = RX8) (hI : Y.1.name = "<init>") (hn : narrow (tyX8 3) v = v) (hfit : fits (tyX8 3) v = true) (kk : wp w d Y (pc + 3) ls st h' Q) : wp w d Y pc ls (v :: .ref a :: st) h Q := x_pF (ci := 7) (k := 3) hf hd rfl (by decide) (by rw [hY]; exact q834) rfl hI (by rw [hY]; rfl) (tyX8_ok 3 (by decide)) hn hfit kk
theorem SX8_77 {w : eW} {d : Nat} {Y : eY} {pc : Nat} {ls : eL} {st : List Value} {h : eH} {Q : eO → eH → Prop} {a : Nat} {h' : eH} {v : Value} (hf : p_F 7 h a 5 v = some h') (hd : decode Y.2.1 pc = .ok (.putfield 77, 3)) (hY : Y.1.cls = RX8) (hI : Y.1.name = "<init>") (hn : narrow (tyX8 5) v = v) (hfit : fits (tyX8 5) v = true) (kk : wp w d Y (pc + 3) ls st h' Q) : wp w d Y pc ls (v :: .ref a :: st) h Q := x_pF (ci := 7) (k := 5) hf hd rfl (by decide) (by rw [hY]; exact q837) rfl hI (by rw [hY]; rfl) (tyX8_ok 5 (by decide)) hn hfit kk
theorem SX8_84 {w : eW} {d : Nat} {Y : eY} {pc : Nat} {ls : eL} {st : List Value} {h : eH} {Q : eO → eH → Prop} {a : Nat} {h' : eH} {v : Value} (hf : p_F 7 h a 6 v = some h') (hd : decode Y.2.1 pc = .ok (.putfield 84, 3)) (hY : Y.1.cls = RX8) (hI : Y.1.name = "<init>") (hn : narrow (tyX8 6) v = v) (hfit : fits (tyX8 6) v = true) (kk : wp w d Y (pc + 3) ls st h' Q) : wp w d Y pc ls (v :: .ref a :: st) h Q := x_pF (ci := 7) (k := 6) hf hd rfl (by decide) (by rw [hY]; exact q840) rfl hI (by rw [hY]; rfl) (tyX8_ok 6 (by decide)) hn hfit kk
theorem SX8_93 {w : eW} {d : Nat} {Y : eY} {pc : Nat} {ls : eL} {st : List Value} {h : eH} {Q : eO → eH → Prop} {a : Nat} {h' : eH} {v : Value} (hf : p_F 7 h a 7 v = some h') (hd : decode Y.2.1 pc = .ok (.putfield 93, 3)) (hY : Y.1.cls = RX8) (hI : Y.1.name = "<init>") (hn : narrow (tyX8 7) v = v) (hfit : fits (tyX8 7) v = true) (kk : wp w d Y (pc + 3) ls st h' Q) : wp w d Y pc ls (v :: .ref a :: st) h Q := x_pF (ci := 7) (k := 7) hf hd rfl (by decide) (by rw [hY]; exact q841) rfl hI (by rw [hY]; rfl) (tyX8_ok 7 (by decide)) hn hfit kk
def fX8_init (this : Nat) (p0 : Nat) (p1 : Nat) (p2 : Nat) (h : eH) : Option (Unit × eH) :=
  (n_obj 8 37 12 tyX9 h).bind fun q1 =>
  (fX9_init q1.1 q1.2).bind fun q3 =>
  (p_F 7 q3.2 this 4 (.ref q1.1)).bind fun h4 =>
  (n_arr 103 38 (.int 0) h4 (100 : Int32)).bind fun q6 =>
  (p_F 7 q6.2 this 12 (.ref q6.1)).bind fun h8 =>
  (n_arr 103 39 (.int 0) h8 (100 : Int32)).bind fun q10 =>
  (p_F 7 q10.2 this 13 (.ref q10.1)).bind fun h12 =>
  (n_arr 103 40 (.int 0) h12 (100 : Int32)).bind fun q14 =>
  (p_F 7 q14.2 this 14 (.ref q14.1)).bind fun h16 =>
  (n_arr 100 41 (.int 0) h16 (256 : Int32)).bind fun q18 =>
  (p_V 7 q18.2 this 16 (.ref q18.1)).bind fun h20 =>
  (n_arr 100 42 (.int 0) h20 (9 : Int32)).bind fun q22 =>
  (p_F 7 q22.2 this 18 (.ref q22.1)).bind fun h24 =>
  (n_arr 100 43 (.int 0) h24 (64 : Int32)).bind fun q26 =>
  (p_F 7 q26.2 this 19 (.ref q26.1)).bind fun h28 =>
  (n_arr 100 44 (.int 0) h28 (13 : Int32)).bind fun q30 =>
  (q_V 100 q30.2 q30.1 (0 : Int32) (.int (1000 : Int32))).bind fun h32 =>
  (q_V 100 h32 q30.1 (1 : Int32) (.int (900 : Int32))).bind fun h34 =>
  (q_V 100 h34 q30.1 (2 : Int32) (.int (500 : Int32))).bind fun h36 =>
  (q_V 100 h36 q30.1 (3 : Int32) (.int (400 : Int32))).bind fun h38 =>
  (q_V 100 h38 q30.1 (4 : Int32) (.int (100 : Int32))).bind fun h40 =>
  (q_V 100 h40 q30.1 (5 : Int32) (.int (90 : Int32))).bind fun h42 =>
  (q_V 100 h42 q30.1 (6 : Int32) (.int (50 : Int32))).bind fun h44 =>
  (q_V 100 h44 q30.1 (7 : Int32) (.int (40 : Int32))).bind fun h46 =>
  (q_V 100 h46 q30.1 (8 : Int32) (.int (10 : Int32))).bind fun h48 =>
  (q_V 100 h48 q30.1 (9 : Int32) (.int (9 : Int32))).bind fun h50 =>
  (q_V 100 h50 q30.1 (10 : Int32) (.int (5 : Int32))).bind fun h52 =>
  (q_V 100 h52 q30.1 (11 : Int32) (.int (4 : Int32))).bind fun h54 =>
  (q_V 100 h54 q30.1 (12 : Int32) (.int (1 : Int32))).bind fun h56 =>
  (p_F 7 h56 this 20 (.ref q30.1)).bind fun h58 =>
  (n_arr 102 45 (.int 0) h58 (1640 : Int32)).bind fun q60 =>
  (p_F 7 q60.2 this 21 (.ref q60.1)).bind fun h62 =>
  (n_arr 100 46 (.int 0) h62 (336 : Int32)).bind fun q64 =>
  (p_F 7 q64.2 this 23 (.ref q64.1)).bind fun h66 =>
  (n_arr 100 47 (.int 0) h66 (4 : Int32)).bind fun q68 =>
  (p_F 7 q68.2 this 29 (.ref q68.1)).bind fun h70 =>
  (p_F 7 h70 this 0 (.ref p0)).bind fun h72 =>
  (p_F 7 h72 this 1 (.ref p1)).bind fun h74 =>
  (p_F 7 h74 this 2 (.ref p2)).bind fun h76 =>
  (n_obj 9 48 9 tyX10 h76).bind fun q78 =>
  (fX10_init q78.1 p0 q78.2).bind fun q80 =>
  (p_F 7 q80.2 this 3 (.ref q78.1)).bind fun h81 =>
  (n_obj 10 49 10 tyX11 h81).bind fun q83 =>
  (g_A 7 q83.2 this 3).bind fun a85 =>
  (g_A 7 q83.2 this 4).bind fun a87 =>
  (fX11_init q83.1 p0 a85 a87 q83.2).bind fun q89 =>
  (p_F 7 q89.2 this 5 (.ref q83.1)).bind fun h90 =>
  (n_obj 11 50 8 tyX12 h90).bind fun q92 =>
  (fX12_init q92.1 p0 q92.2).bind fun q94 =>
  (p_F 7 q94.2 this 6 (.ref q92.1)).bind fun h95 =>
  (n_obj 12 51 4 tyX13 h95).bind fun q97 =>
  (g_A 7 q97.2 this 6).bind fun a99 =>
  (g_A 7 q97.2 this 5).bind fun a101 =>
  (fX13_init q97.1 a99 a101 q97.2).bind fun q103 =>
  (p_F 7 q103.2 this 7 (.ref q97.1)).bind fun h104 =>
  some ((), h104)
theorem pX8_init {w : eW} {d : Nat} (hd : 2 ≤ d) {this : Nat} {p0 : Nat} {p1 : Nat} {p2 : Nat} {h : eH} {q} (hf : fX8_init this p0 p1 p2 h = some q) : wm w d YX8_init [.ref this, .ref p0, .ref p1, .ref p2] h (e_is (e_rn c_V q)) := by
  obtain ⟨d, rfl⟩ : ∃ e, d = e + 1 := ⟨d - 1, by omega⟩
  show wp w (d + 1) YX8_init 0 [some (.ref this), some (.ref p0), some (.ref p1), some (.ref p2)] [] h _
  unfold fX8_init at hf
  refine w_aload_n dX8_init_0 rfl rfl ?_
  refine w_obj dX8_init_1 q643 q490 q491 (by decide) ?_
  refine w_aload_n dX8_init_4 rfl rfl ?_
  obtain ⟨q1, b2, hf⟩ := Option.bind_eq_some_iff.mp hf
  refine x_new (ci := 8) (g := 37) b2 dX8_init_5 rfl tyX9_ok q644 q645 q434 ?_
  refine w_dup dX8_init_8 rfl ?_
  refine x_cnV hf (e_stIN (Yc := YX9_init) (b := q1.1) (av := []) (st := [.ref q1.1, .ref this]) dX8_init_9 q646 mX9_init) (e_mi.cd mX9_init) mX9_init.2.2.2.2.2.1 (Nat.le_of_ble_eq_true rfl) (Nat.le_of_ble_eq_true rfl) (fun q hq => pX9_init (by omega) hq) (fun q3 hf => ?_)
  obtain ⟨h4, b5, hf⟩ := Option.bind_eq_some_iff.mp hf
  refine SX8_12 b5 dX8_init_12 rfl rfl rfl rfl ?_
  refine w_aload_n dX8_init_15 rfl rfl ?_
  refine w_bipush dX8_init_16 (v := 100) (by decide) ?_
  obtain ⟨q6, b7, hf⟩ := Option.bind_eq_some_iff.mp hf
  refine x_newZ (g := 38) b7 dX8_init_18 q583 ?_
  obtain ⟨h8, b9, hf⟩ := Option.bind_eq_some_iff.mp hf
  refine SX8_18 b9 dX8_init_20 rfl rfl rfl rfl ?_
  refine w_aload_n dX8_init_23 rfl rfl ?_
  refine w_bipush dX8_init_24 (v := 100) (by decide) ?_
  obtain ⟨q10, b11, hf⟩ := Option.bind_eq_some_iff.mp hf
  refine x_newZ (g := 39) b11 dX8_init_26 q583 ?_
  obtain ⟨h12, b13, hf⟩ := Option.bind_eq_some_iff.mp hf
  refine SX8_22 b13 dX8_init_28 rfl rfl rfl rfl ?_
  refine w_aload_n dX8_init_31 rfl rfl ?_
  refine w_bipush dX8_init_32 (v := 100) (by decide) ?_
  obtain ⟨q14, b15, hf⟩ := Option.bind_eq_some_iff.mp hf
  refine x_newZ (g := 40) b15 dX8_init_34 q583 ?_
  obtain ⟨h16, b17, hf⟩ := Option.bind_eq_some_iff.mp hf
  refine SX8_25 b17 dX8_init_36 rfl rfl rfl rfl ?_
  refine w_aload_n dX8_init_39 rfl rfl ?_
  refine w_sipush dX8_init_40 (v := 256) (by decide) ?_
  obtain ⟨q18, b19, hf⟩ := Option.bind_eq_some_iff.mp hf
  refine x_newI (g := 41) b19 dX8_init_43 q582 ?_
  obtain ⟨h20, b21, hf⟩ := Option.bind_eq_some_iff.mp hf
  refine SX8_28 b21 dX8_init_45 rfl ?_
  refine w_aload_n dX8_init_48 rfl rfl ?_
  refine w_bipush dX8_init_49 (v := 9) (by decide) ?_
  obtain ⟨q22, b23, hf⟩ := Option.bind_eq_some_iff.mp hf
  refine x_newI (g := 42) b23 dX8_init_51 q582 ?_
  obtain ⟨h24, b25, hf⟩ := Option.bind_eq_some_iff.mp hf
  refine SX8_32 b25 dX8_init_53 rfl rfl rfl rfl ?_
  refine w_aload_n dX8_init_56 rfl rfl ?_
  refine w_bipush dX8_init_57 (v := 64) (by decide) ?_
  obtain ⟨q26, b27, hf⟩ := Option.bind_eq_some_iff.mp hf
  refine x_newI (g := 43) b27 dX8_init_59 q582 ?_
  obtain ⟨h28, b29, hf⟩ := Option.bind_eq_some_iff.mp hf
  refine SX8_35 b29 dX8_init_61 rfl rfl rfl rfl ?_
  refine w_aload_n dX8_init_64 rfl rfl ?_
  refine w_bipush dX8_init_65 (v := 13) (by decide) ?_
  obtain ⟨q30, b31, hf⟩ := Option.bind_eq_some_iff.mp hf
  refine x_newI (g := 44) b31 dX8_init_67 q582 ?_
  refine w_dup dX8_init_69 rfl ?_
  refine w_iconst dX8_init_70 (v := 0) (by decide) ?_
  refine w_sipush dX8_init_71 (v := 1000) (by decide) ?_
  obtain ⟨h32, b33, hf⟩ := Option.bind_eq_some_iff.mp hf
  refine x_qI b33 dX8_init_74 ?_
  refine w_dup dX8_init_75 rfl ?_
  refine w_iconst dX8_init_76 (v := 1) (by decide) ?_
  refine w_sipush dX8_init_77 (v := 900) (by decide) ?_
  obtain ⟨h34, b35, hf⟩ := Option.bind_eq_some_iff.mp hf
  refine x_qI b35 dX8_init_80 ?_
  refine w_dup dX8_init_81 rfl ?_
  refine w_iconst dX8_init_82 (v := 2) (by decide) ?_
  refine w_sipush dX8_init_83 (v := 500) (by decide) ?_
  obtain ⟨h36, b37, hf⟩ := Option.bind_eq_some_iff.mp hf
  refine x_qI b37 dX8_init_86 ?_
  refine w_dup dX8_init_87 rfl ?_
  refine w_iconst dX8_init_88 (v := 3) (by decide) ?_
  refine w_sipush dX8_init_89 (v := 400) (by decide) ?_
  obtain ⟨h38, b39, hf⟩ := Option.bind_eq_some_iff.mp hf
  refine x_qI b39 dX8_init_92 ?_
  refine w_dup dX8_init_93 rfl ?_
  refine w_iconst dX8_init_94 (v := 4) (by decide) ?_
  refine w_bipush dX8_init_95 (v := 100) (by decide) ?_
  obtain ⟨h40, b41, hf⟩ := Option.bind_eq_some_iff.mp hf
  refine x_qI b41 dX8_init_97 ?_
  refine w_dup dX8_init_98 rfl ?_
  refine w_iconst dX8_init_99 (v := 5) (by decide) ?_
  refine w_bipush dX8_init_100 (v := 90) (by decide) ?_
  obtain ⟨h42, b43, hf⟩ := Option.bind_eq_some_iff.mp hf
  refine x_qI b43 dX8_init_102 ?_
  refine w_dup dX8_init_103 rfl ?_
  refine w_bipush dX8_init_104 (v := 6) (by decide) ?_
  refine w_bipush dX8_init_106 (v := 50) (by decide) ?_
  obtain ⟨h44, b45, hf⟩ := Option.bind_eq_some_iff.mp hf
  refine x_qI b45 dX8_init_108 ?_
  refine w_dup dX8_init_109 rfl ?_
  refine w_bipush dX8_init_110 (v := 7) (by decide) ?_
  refine w_bipush dX8_init_112 (v := 40) (by decide) ?_
  obtain ⟨h46, b47, hf⟩ := Option.bind_eq_some_iff.mp hf
  refine x_qI b47 dX8_init_114 ?_
  refine w_dup dX8_init_115 rfl ?_
  refine w_bipush dX8_init_116 (v := 8) (by decide) ?_
  refine w_bipush dX8_init_118 (v := 10) (by decide) ?_
  obtain ⟨h48, b49, hf⟩ := Option.bind_eq_some_iff.mp hf
  refine x_qI b49 dX8_init_120 ?_
  refine w_dup dX8_init_121 rfl ?_
  refine w_bipush dX8_init_122 (v := 9) (by decide) ?_
  refine w_bipush dX8_init_124 (v := 9) (by decide) ?_
  obtain ⟨h50, b51, hf⟩ := Option.bind_eq_some_iff.mp hf
  refine x_qI b51 dX8_init_126 ?_
  refine w_dup dX8_init_127 rfl ?_
  refine w_bipush dX8_init_128 (v := 10) (by decide) ?_
  refine w_iconst dX8_init_130 (v := 5) (by decide) ?_
  obtain ⟨h52, b53, hf⟩ := Option.bind_eq_some_iff.mp hf
  refine x_qI b53 dX8_init_131 ?_
  refine w_dup dX8_init_132 rfl ?_
  refine w_bipush dX8_init_133 (v := 11) (by decide) ?_
  refine w_iconst dX8_init_135 (v := 4) (by decide) ?_
  obtain ⟨h54, b55, hf⟩ := Option.bind_eq_some_iff.mp hf
  refine x_qI b55 dX8_init_136 ?_
  refine w_dup dX8_init_137 rfl ?_
  refine w_bipush dX8_init_138 (v := 12) (by decide) ?_
  refine w_iconst dX8_init_140 (v := 1) (by decide) ?_
  obtain ⟨h56, b57, hf⟩ := Option.bind_eq_some_iff.mp hf
  refine x_qI b57 dX8_init_141 ?_
  obtain ⟨h58, b59, hf⟩ := Option.bind_eq_some_iff.mp hf
  refine SX8_38 b59 dX8_init_142 rfl rfl rfl rfl ?_
  refine w_aload_n dX8_init_145 rfl rfl ?_
  refine w_sipush dX8_init_146 (v := 1640) (by decide) ?_
  obtain ⟨q60, b61, hf⟩ := Option.bind_eq_some_iff.mp hf
  refine x_newB (g := 45) b61 dX8_init_149 q507 ?_
  obtain ⟨h62, b63, hf⟩ := Option.bind_eq_some_iff.mp hf
  refine SX8_41 b63 dX8_init_151 rfl rfl rfl rfl ?_
  refine w_aload_n dX8_init_154 rfl rfl ?_
  refine w_sipush dX8_init_155 (v := 336) (by decide) ?_
  obtain ⟨q64, b65, hf⟩ := Option.bind_eq_some_iff.mp hf
  refine x_newI (g := 46) b65 dX8_init_158 q582 ?_
  obtain ⟨h66, b67, hf⟩ := Option.bind_eq_some_iff.mp hf
  refine SX8_45 b67 dX8_init_160 rfl rfl rfl rfl ?_
  refine w_aload_n dX8_init_163 rfl rfl ?_
  refine w_iconst dX8_init_164 (v := 4) (by decide) ?_
  obtain ⟨q68, b69, hf⟩ := Option.bind_eq_some_iff.mp hf
  refine x_newI (g := 47) b69 dX8_init_165 q582 ?_
  obtain ⟨h70, b71, hf⟩ := Option.bind_eq_some_iff.mp hf
  refine SX8_48 b71 dX8_init_167 rfl rfl rfl rfl ?_
  refine w_aload_n dX8_init_170 rfl rfl ?_
  refine w_aload_n dX8_init_171 rfl rfl ?_
  obtain ⟨h72, b73, hf⟩ := Option.bind_eq_some_iff.mp hf
  refine SX8_51 b73 dX8_init_172 rfl rfl rfl rfl ?_
  refine w_aload_n dX8_init_175 rfl rfl ?_
  refine w_aload_n dX8_init_176 rfl rfl ?_
  obtain ⟨h74, b75, hf⟩ := Option.bind_eq_some_iff.mp hf
  refine SX8_55 b75 dX8_init_177 rfl rfl rfl rfl ?_
  refine w_aload_n dX8_init_180 rfl rfl ?_
  refine w_aload_n dX8_init_181 rfl rfl ?_
  obtain ⟨h76, b77, hf⟩ := Option.bind_eq_some_iff.mp hf
  refine SX8_59 b77 dX8_init_182 rfl rfl rfl rfl ?_
  refine w_aload_n dX8_init_185 rfl rfl ?_
  obtain ⟨q78, b79, hf⟩ := Option.bind_eq_some_iff.mp hf
  refine x_new (ci := 9) (g := 48) b79 dX8_init_186 rfl tyX10_ok q694 q695 q435 ?_
  refine w_dup dX8_init_189 rfl ?_
  refine w_aload_n dX8_init_190 rfl rfl ?_
  refine x_cnV hf (e_stI (Yc := YX10_init) (b := q78.1) (av := [.ref p0]) (st := [.ref q78.1, .ref this]) dX8_init_191 q696 mX10_init) (e_mi.cd mX10_init) mX10_init.2.2.2.2.2.1 (Nat.le_of_ble_eq_true rfl) (Nat.le_of_ble_eq_true rfl) (fun q hq => pX10_init (by omega) hq) (fun q80 hf => ?_)
  obtain ⟨h81, b82, hf⟩ := Option.bind_eq_some_iff.mp hf
  refine SX8_68 b82 dX8_init_194 rfl rfl rfl rfl ?_
  refine w_aload_n dX8_init_197 rfl rfl ?_
  obtain ⟨q83, b84, hf⟩ := Option.bind_eq_some_iff.mp hf
  refine x_new (ci := 10) (g := 49) b84 dX8_init_198 rfl tyX11_ok q730 q731 q436 ?_
  refine w_dup dX8_init_201 rfl ?_
  refine w_aload_n dX8_init_202 rfl rfl ?_
  refine w_aload_n dX8_init_203 rfl rfl ?_
  obtain ⟨a85, b86, hf⟩ := Option.bind_eq_some_iff.mp hf
  refine GX8_68 b86 dX8_init_204 rfl ?_
  refine w_aload_n dX8_init_207 rfl rfl ?_
  obtain ⟨a87, b88, hf⟩ := Option.bind_eq_some_iff.mp hf
  refine GX8_12 b88 dX8_init_208 rfl ?_
  refine x_cnV hf (e_stI (Yc := YX11_init) (b := q83.1) (av := [.ref p0, .ref a85, .ref a87]) (st := [.ref q83.1, .ref this]) dX8_init_211 q732 mX11_init) (e_mi.cd mX11_init) mX11_init.2.2.2.2.2.1 (Nat.le_of_ble_eq_true rfl) (Nat.le_of_ble_eq_true rfl) (fun q hq => pX11_init (by omega) hq) (fun q89 hf => ?_)
  obtain ⟨h90, b91, hf⟩ := Option.bind_eq_some_iff.mp hf
  refine SX8_77 b91 dX8_init_214 rfl rfl rfl rfl ?_
  refine w_aload_n dX8_init_217 rfl rfl ?_
  obtain ⟨q92, b93, hf⟩ := Option.bind_eq_some_iff.mp hf
  refine x_new (ci := 11) (g := 50) b93 dX8_init_218 rfl tyX12_ok q771 q772 q437 ?_
  refine w_dup dX8_init_221 rfl ?_
  refine w_aload_n dX8_init_222 rfl rfl ?_
  refine x_cnV hf (e_stI (Yc := YX12_init) (b := q92.1) (av := [.ref p0]) (st := [.ref q92.1, .ref this]) dX8_init_223 q773 mX12_init) (e_mi.cd mX12_init) mX12_init.2.2.2.2.2.1 (Nat.le_of_ble_eq_true rfl) (Nat.le_of_ble_eq_true rfl) (fun q hq => pX12_init (by omega) hq) (fun q94 hf => ?_)
  obtain ⟨h95, b96, hf⟩ := Option.bind_eq_some_iff.mp hf
  refine SX8_84 b96 dX8_init_226 rfl rfl rfl rfl ?_
  refine w_aload_n dX8_init_229 rfl rfl ?_
  obtain ⟨q97, b98, hf⟩ := Option.bind_eq_some_iff.mp hf
  refine x_new (ci := 12) (g := 51) b98 dX8_init_230 rfl tyX13_ok q811 q812 q438 ?_
  refine w_dup dX8_init_233 rfl ?_
  refine w_aload_n dX8_init_234 rfl rfl ?_
  obtain ⟨a99, b100, hf⟩ := Option.bind_eq_some_iff.mp hf
  refine GX8_84 b100 dX8_init_235 rfl ?_
  refine w_aload_n dX8_init_238 rfl rfl ?_
  obtain ⟨a101, b102, hf⟩ := Option.bind_eq_some_iff.mp hf
  refine GX8_77 b102 dX8_init_239 rfl ?_
  refine x_cnV hf (e_stI (Yc := YX13_init) (b := q97.1) (av := [.ref a99, .ref a101]) (st := [.ref q97.1, .ref this]) dX8_init_242 q813 mX13_init) (e_mi.cd mX13_init) mX13_init.2.2.2.2.2.1 (Nat.le_of_ble_eq_true rfl) (Nat.le_of_ble_eq_true rfl) (fun q hq => pX13_init (by omega) hq) (fun q103 hf => ?_)
  obtain ⟨h104, b105, hf⟩ := Option.bind_eq_some_iff.mp hf
  refine SX8_93 b105 dX8_init_245 rfl rfl rfl rfl ?_
  cases hf
  exact w_vret dX8_init_248 rfl rfl
abbrev cX1_grown : ByteArray := prog_1_method_3_code
def yX1_grown : MethodName := ⟨RX1, "grown", "([II)[I"⟩
def YX1_grown : eY := (yX1_grown, cX1_grown, 3, (Option.some (FieldType.array FieldType.int)), [])
theorem mX1_grown : e_ms YX1_grown 2 := ⟨q951, q426, q952, by decide, by decide +kernel, (e_sig (by decide +kernel))⟩
theorem dX1_grown_0 : decode cX1_grown 0 = .ok (.iload_n 1, 1) := dc_27 (by decide +kernel)
theorem dX1_grown_1 : decode cX1_grown 1 = .ok (.aload_n 0, 1) := dc_42 (by decide +kernel)
theorem dX1_grown_2 : decode cX1_grown 2 = .ok (.arraylength, 1) := dc_190 (by decide +kernel)
theorem dX1_grown_3 : decode cX1_grown 3 = .ok (.if_icmp .gt 5, 3) := dc_163 (a := 0) (b := 5) (v := 5) (by decide +kernel)
theorem dX1_grown_6 : decode cX1_grown 6 = .ok (.aload_n 0, 1) := dc_42 (by decide +kernel)
theorem dX1_grown_7 : decode cX1_grown 7 = .ok (.areturn, 1) := dc_176 (by decide +kernel)
theorem dX1_grown_8 : decode cX1_grown 8 = .ok (.iconst 2, 1) := dc_5 (by decide +kernel)
theorem dX1_grown_9 : decode cX1_grown 9 = .ok (.iload_n 1, 1) := dc_27 (by decide +kernel)
theorem dX1_grown_10 : decode cX1_grown 10 = .ok (.imul, 1) := dc_104 (by decide +kernel)
theorem dX1_grown_11 : decode cX1_grown 11 = .ok (.newarray .int, 2) := dc_188_10 (by decide +kernel)
theorem dX1_grown_13 : decode cX1_grown 13 = .ok (.astore_n 2, 1) := dc_77 (by decide +kernel)
theorem dX1_grown_14 : decode cX1_grown 14 = .ok (.aload_n 0, 1) := dc_42 (by decide +kernel)
theorem dX1_grown_15 : decode cX1_grown 15 = .ok (.iconst 0, 1) := dc_3 (by decide +kernel)
theorem dX1_grown_16 : decode cX1_grown 16 = .ok (.aload_n 2, 1) := dc_44 (by decide +kernel)
theorem dX1_grown_17 : decode cX1_grown 17 = .ok (.iconst 0, 1) := dc_3 (by decide +kernel)
theorem dX1_grown_18 : decode cX1_grown 18 = .ok (.aload_n 0, 1) := dc_42 (by decide +kernel)
theorem dX1_grown_19 : decode cX1_grown 19 = .ok (.arraylength, 1) := dc_190 (by decide +kernel)
theorem dX1_grown_20 : decode cX1_grown 20 = .ok (.invokestatic 10, 3) := dc_184 (a := 0) (b := 10) (n := 10) (by decide +kernel)
theorem dX1_grown_23 : decode cX1_grown 23 = .ok (.aload_n 2, 1) := dc_44 (by decide +kernel)
theorem dX1_grown_24 : decode cX1_grown 24 = .ok (.areturn, 1) := dc_176 (by decide +kernel)
def fX1_grown (p0 : Nat) (p1 : Int32) (h : eH) : Option (Nat × eH) :=
  (a_len h p0).bind fun x1 =>
  if x1 < p1 then
    (n_arr 100 52 (.int 0) h ((2 : Int32) * p1)).bind fun q4 =>
    (a_len q4.2 p0).bind fun x6 =>
    (a_cpy q4.2 p0 (0 : Int32) q4.1 (0 : Int32) x6).bind fun h8 =>
    some (q4.1, h8)
  else
    some (p0, h)
theorem pX1_grown {w : eW} {d : Nat} (hd : 1 ≤ d) {p0 : Nat} {p1 : Int32} {h : eH} {q} (hf : fX1_grown p0 p1 h = some q) : wm w d YX1_grown [.ref p0, .int p1] h (e_is (e_rn c_A q)) := by
  obtain ⟨d, rfl⟩ : ∃ e, d = e + 1 := ⟨d - 1, by omega⟩
  show wp w (d + 1) YX1_grown 0 [some (.ref p0), some (.int p1), none] [] h _
  unfold fX1_grown at hf
  refine w_iload_n dX1_grown_0 rfl rfl ?_
  refine w_aload_n dX1_grown_1 rfl rfl ?_
  obtain ⟨x1, b2, hf⟩ := Option.bind_eq_some_iff.mp hf
  refine x_len b2 dX1_grown_2 ?_
  refine w_icmp_gt 8 dX1_grown_3 (by decide) (fun c3 => ?_) (fun c3 => ?_)
  · replace hf := (if_pos (show x1 < p1 from c3)).symm.trans hf
    refine w_iconst dX1_grown_8 (v := 2) (by decide) ?_
    refine w_iload_n dX1_grown_9 rfl rfl ?_
    refine w_imul dX1_grown_10 ?_
    obtain ⟨q4, b5, hf⟩ := Option.bind_eq_some_iff.mp hf
    refine x_newI (g := 52) b5 dX1_grown_11 q582 ?_
    refine w_astore_n dX1_grown_13 rfl (by decide) (ls' := [some (.ref p0), some (.int p1), some (.ref q4.1)]) rfl ?_
    refine w_aload_n dX1_grown_14 rfl rfl ?_
    refine w_iconst dX1_grown_15 (v := 0) (by decide) ?_
    refine w_aload_n dX1_grown_16 rfl rfl ?_
    refine w_iconst dX1_grown_17 (v := 0) (by decide) ?_
    refine w_aload_n dX1_grown_18 rfl rfl ?_
    obtain ⟨x6, b7, hf⟩ := Option.bind_eq_some_iff.mp hf
    refine x_len b7 dX1_grown_19 ?_
    obtain ⟨h8, b9, hf⟩ := Option.bind_eq_some_iff.mp hf
    refine x_cpy b9 dX1_grown_20 q953 q955 q954 q441 (Nat.le_of_ble_eq_true rfl) ?_
    refine w_aload_n dX1_grown_23 rfl rfl ?_
    cases hf
    exact w_aret dX1_grown_24 rfl (Or.inr ⟨_, rfl⟩) (Or.inr ⟨_, rfl⟩) rfl
  · replace hf := (if_neg (show ¬ (x1 < p1) from c3)).symm.trans hf
    refine w_aload_n dX1_grown_6 rfl rfl ?_
    cases hf
    exact w_aret dX1_grown_7 rfl (Or.inr ⟨_, rfl⟩) (Or.inr ⟨_, rfl⟩) rfl
abbrev cX15_fresh : ByteArray := prog_33_method_3_code
def yX15_fresh : MethodName := ⟨RX15, "fresh", "(I)I"⟩
def YX15_fresh : eY := (yX15_fresh, cX15_fresh, 3, (Option.some FieldType.int), [])
theorem mX15_fresh : e_mv YX15_fresh RX15 1 := ⟨q948, qs0, q949, by decide, by decide +kernel, (e_sig (by decide +kernel))⟩
theorem dX15_fresh_0 : decode cX15_fresh 0 = .ok (.aload_n 0, 1) := dc_42 (by decide +kernel)
theorem dX15_fresh_1 : decode cX15_fresh 1 = .ok (.aload_n 0, 1) := dc_42 (by decide +kernel)
theorem dX15_fresh_2 : decode cX15_fresh 2 = .ok (.getfield 9, 3) := dc_180 (a := 0) (b := 9) (n := 9) (by decide +kernel)
theorem dX15_fresh_5 : decode cX15_fresh 5 = .ok (.aload_n 0, 1) := dc_42 (by decide +kernel)
theorem dX15_fresh_6 : decode cX15_fresh 6 = .ok (.getfield 56, 3) := dc_180 (a := 0) (b := 56) (n := 56) (by decide +kernel)
theorem dX15_fresh_9 : decode cX15_fresh 9 = .ok (.iconst 1, 1) := dc_4 (by decide +kernel)
theorem dX15_fresh_10 : decode cX15_fresh 10 = .ok (.iadd, 1) := dc_96 (by decide +kernel)
theorem dX15_fresh_11 : decode cX15_fresh 11 = .ok (.invokestatic 77, 3) := dc_184 (a := 0) (b := 77) (n := 77) (by decide +kernel)
theorem dX15_fresh_14 : decode cX15_fresh 14 = .ok (.putfield 9, 3) := dc_181 (a := 0) (b := 9) (n := 9) (by decide +kernel)
theorem dX15_fresh_17 : decode cX15_fresh 17 = .ok (.aload_n 0, 1) := dc_42 (by decide +kernel)
theorem dX15_fresh_18 : decode cX15_fresh 18 = .ok (.aload_n 0, 1) := dc_42 (by decide +kernel)
theorem dX15_fresh_19 : decode cX15_fresh 19 = .ok (.getfield 15, 3) := dc_180 (a := 0) (b := 15) (n := 15) (by decide +kernel)
theorem dX15_fresh_22 : decode cX15_fresh 22 = .ok (.aload_n 0, 1) := dc_42 (by decide +kernel)
theorem dX15_fresh_23 : decode cX15_fresh 23 = .ok (.getfield 56, 3) := dc_180 (a := 0) (b := 56) (n := 56) (by decide +kernel)
theorem dX15_fresh_26 : decode cX15_fresh 26 = .ok (.iconst 1, 1) := dc_4 (by decide +kernel)
theorem dX15_fresh_27 : decode cX15_fresh 27 = .ok (.iadd, 1) := dc_96 (by decide +kernel)
theorem dX15_fresh_28 : decode cX15_fresh 28 = .ok (.invokestatic 77, 3) := dc_184 (a := 0) (b := 77) (n := 77) (by decide +kernel)
theorem dX15_fresh_31 : decode cX15_fresh 31 = .ok (.putfield 15, 3) := dc_181 (a := 0) (b := 15) (n := 15) (by decide +kernel)
theorem dX15_fresh_34 : decode cX15_fresh 34 = .ok (.aload_n 0, 1) := dc_42 (by decide +kernel)
theorem dX15_fresh_35 : decode cX15_fresh 35 = .ok (.aload_n 0, 1) := dc_42 (by decide +kernel)
theorem dX15_fresh_36 : decode cX15_fresh 36 = .ok (.getfield 22, 3) := dc_180 (a := 0) (b := 22) (n := 22) (by decide +kernel)
theorem dX15_fresh_39 : decode cX15_fresh 39 = .ok (.aload_n 0, 1) := dc_42 (by decide +kernel)
theorem dX15_fresh_40 : decode cX15_fresh 40 = .ok (.getfield 56, 3) := dc_180 (a := 0) (b := 56) (n := 56) (by decide +kernel)
theorem dX15_fresh_43 : decode cX15_fresh 43 = .ok (.iconst 1, 1) := dc_4 (by decide +kernel)
theorem dX15_fresh_44 : decode cX15_fresh 44 = .ok (.iadd, 1) := dc_96 (by decide +kernel)
theorem dX15_fresh_45 : decode cX15_fresh 45 = .ok (.invokestatic 77, 3) := dc_184 (a := 0) (b := 77) (n := 77) (by decide +kernel)
theorem dX15_fresh_48 : decode cX15_fresh 48 = .ok (.putfield 22, 3) := dc_181 (a := 0) (b := 22) (n := 22) (by decide +kernel)
theorem dX15_fresh_51 : decode cX15_fresh 51 = .ok (.aload_n 0, 1) := dc_42 (by decide +kernel)
theorem dX15_fresh_52 : decode cX15_fresh 52 = .ok (.aload_n 0, 1) := dc_42 (by decide +kernel)
theorem dX15_fresh_53 : decode cX15_fresh 53 = .ok (.getfield 25, 3) := dc_180 (a := 0) (b := 25) (n := 25) (by decide +kernel)
theorem dX15_fresh_56 : decode cX15_fresh 56 = .ok (.aload_n 0, 1) := dc_42 (by decide +kernel)
theorem dX15_fresh_57 : decode cX15_fresh 57 = .ok (.getfield 56, 3) := dc_180 (a := 0) (b := 56) (n := 56) (by decide +kernel)
theorem dX15_fresh_60 : decode cX15_fresh 60 = .ok (.iconst 1, 1) := dc_4 (by decide +kernel)
theorem dX15_fresh_61 : decode cX15_fresh 61 = .ok (.iadd, 1) := dc_96 (by decide +kernel)
theorem dX15_fresh_62 : decode cX15_fresh 62 = .ok (.invokestatic 77, 3) := dc_184 (a := 0) (b := 77) (n := 77) (by decide +kernel)
theorem dX15_fresh_65 : decode cX15_fresh 65 = .ok (.putfield 25, 3) := dc_181 (a := 0) (b := 25) (n := 25) (by decide +kernel)
theorem dX15_fresh_68 : decode cX15_fresh 68 = .ok (.aload_n 0, 1) := dc_42 (by decide +kernel)
theorem dX15_fresh_69 : decode cX15_fresh 69 = .ok (.aload_n 0, 1) := dc_42 (by decide +kernel)
theorem dX15_fresh_70 : decode cX15_fresh 70 = .ok (.getfield 43, 3) := dc_180 (a := 0) (b := 43) (n := 43) (by decide +kernel)
theorem dX15_fresh_73 : decode cX15_fresh 73 = .ok (.aload_n 0, 1) := dc_42 (by decide +kernel)
theorem dX15_fresh_74 : decode cX15_fresh 74 = .ok (.getfield 56, 3) := dc_180 (a := 0) (b := 56) (n := 56) (by decide +kernel)
theorem dX15_fresh_77 : decode cX15_fresh 77 = .ok (.iconst 1, 1) := dc_4 (by decide +kernel)
theorem dX15_fresh_78 : decode cX15_fresh 78 = .ok (.iadd, 1) := dc_96 (by decide +kernel)
theorem dX15_fresh_79 : decode cX15_fresh 79 = .ok (.invokestatic 77, 3) := dc_184 (a := 0) (b := 77) (n := 77) (by decide +kernel)
theorem dX15_fresh_82 : decode cX15_fresh 82 = .ok (.putfield 43, 3) := dc_181 (a := 0) (b := 43) (n := 43) (by decide +kernel)
theorem dX15_fresh_85 : decode cX15_fresh 85 = .ok (.aload_n 0, 1) := dc_42 (by decide +kernel)
theorem dX15_fresh_86 : decode cX15_fresh 86 = .ok (.getfield 56, 3) := dc_180 (a := 0) (b := 56) (n := 56) (by decide +kernel)
theorem dX15_fresh_89 : decode cX15_fresh 89 = .ok (.aload_n 0, 1) := dc_42 (by decide +kernel)
theorem dX15_fresh_90 : decode cX15_fresh 90 = .ok (.getfield 18, 3) := dc_180 (a := 0) (b := 18) (n := 18) (by decide +kernel)
theorem dX15_fresh_93 : decode cX15_fresh 93 = .ok (.arraylength, 1) := dc_190 (by decide +kernel)
theorem dX15_fresh_94 : decode cX15_fresh 94 = .ok (.if_icmp .ne 31, 3) := dc_160 (a := 0) (b := 31) (v := 31) (by decide +kernel)
theorem dX15_fresh_97 : decode cX15_fresh 97 = .ok (.iconst 2, 1) := dc_5 (by decide +kernel)
theorem dX15_fresh_98 : decode cX15_fresh 98 = .ok (.aload_n 0, 1) := dc_42 (by decide +kernel)
theorem dX15_fresh_99 : decode cX15_fresh 99 = .ok (.getfield 56, 3) := dc_180 (a := 0) (b := 56) (n := 56) (by decide +kernel)
theorem dX15_fresh_102 : decode cX15_fresh 102 = .ok (.imul, 1) := dc_104 (by decide +kernel)
theorem dX15_fresh_103 : decode cX15_fresh 103 = .ok (.newarray .byte, 2) := dc_188_8 (by decide +kernel)
theorem dX15_fresh_105 : decode cX15_fresh 105 = .ok (.astore_n 2, 1) := dc_77 (by decide +kernel)
theorem dX15_fresh_106 : decode cX15_fresh 106 = .ok (.aload_n 0, 1) := dc_42 (by decide +kernel)
theorem dX15_fresh_107 : decode cX15_fresh 107 = .ok (.getfield 18, 3) := dc_180 (a := 0) (b := 18) (n := 18) (by decide +kernel)
theorem dX15_fresh_110 : decode cX15_fresh 110 = .ok (.iconst 0, 1) := dc_3 (by decide +kernel)
theorem dX15_fresh_111 : decode cX15_fresh 111 = .ok (.aload_n 2, 1) := dc_44 (by decide +kernel)
theorem dX15_fresh_112 : decode cX15_fresh 112 = .ok (.iconst 0, 1) := dc_3 (by decide +kernel)
theorem dX15_fresh_113 : decode cX15_fresh 113 = .ok (.aload_n 0, 1) := dc_42 (by decide +kernel)
theorem dX15_fresh_114 : decode cX15_fresh 114 = .ok (.getfield 56, 3) := dc_180 (a := 0) (b := 56) (n := 56) (by decide +kernel)
theorem dX15_fresh_117 : decode cX15_fresh 117 = .ok (.invokestatic 81, 3) := dc_184 (a := 0) (b := 81) (n := 81) (by decide +kernel)
theorem dX15_fresh_120 : decode cX15_fresh 120 = .ok (.aload_n 0, 1) := dc_42 (by decide +kernel)
theorem dX15_fresh_121 : decode cX15_fresh 121 = .ok (.aload_n 2, 1) := dc_44 (by decide +kernel)
theorem dX15_fresh_122 : decode cX15_fresh 122 = .ok (.putfield 18, 3) := dc_181 (a := 0) (b := 18) (n := 18) (by decide +kernel)
theorem dX15_fresh_125 : decode cX15_fresh 125 = .ok (.aload_n 0, 1) := dc_42 (by decide +kernel)
theorem dX15_fresh_126 : decode cX15_fresh 126 = .ok (.getfield 9, 3) := dc_180 (a := 0) (b := 9) (n := 9) (by decide +kernel)
theorem dX15_fresh_129 : decode cX15_fresh 129 = .ok (.aload_n 0, 1) := dc_42 (by decide +kernel)
theorem dX15_fresh_130 : decode cX15_fresh 130 = .ok (.getfield 56, 3) := dc_180 (a := 0) (b := 56) (n := 56) (by decide +kernel)
theorem dX15_fresh_133 : decode cX15_fresh 133 = .ok (.iconst (-1), 1) := dc_2 (by decide +kernel)
theorem dX15_fresh_134 : decode cX15_fresh 134 = .ok (.iastore, 1) := dc_79 (by decide +kernel)
theorem dX15_fresh_135 : decode cX15_fresh 135 = .ok (.aload_n 0, 1) := dc_42 (by decide +kernel)
theorem dX15_fresh_136 : decode cX15_fresh 136 = .ok (.getfield 15, 3) := dc_180 (a := 0) (b := 15) (n := 15) (by decide +kernel)
theorem dX15_fresh_139 : decode cX15_fresh 139 = .ok (.aload_n 0, 1) := dc_42 (by decide +kernel)
theorem dX15_fresh_140 : decode cX15_fresh 140 = .ok (.getfield 56, 3) := dc_180 (a := 0) (b := 56) (n := 56) (by decide +kernel)
theorem dX15_fresh_143 : decode cX15_fresh 143 = .ok (.iconst (-1), 1) := dc_2 (by decide +kernel)
theorem dX15_fresh_144 : decode cX15_fresh 144 = .ok (.iastore, 1) := dc_79 (by decide +kernel)
theorem dX15_fresh_145 : decode cX15_fresh 145 = .ok (.aload_n 0, 1) := dc_42 (by decide +kernel)
theorem dX15_fresh_146 : decode cX15_fresh 146 = .ok (.getfield 18, 3) := dc_180 (a := 0) (b := 18) (n := 18) (by decide +kernel)
theorem dX15_fresh_149 : decode cX15_fresh 149 = .ok (.aload_n 0, 1) := dc_42 (by decide +kernel)
theorem dX15_fresh_150 : decode cX15_fresh 150 = .ok (.getfield 56, 3) := dc_180 (a := 0) (b := 56) (n := 56) (by decide +kernel)
theorem dX15_fresh_153 : decode cX15_fresh 153 = .ok (.iload_n 1, 1) := dc_27 (by decide +kernel)
theorem dX15_fresh_154 : decode cX15_fresh 154 = .ok (.i2b, 1) := dc_145 (by decide +kernel)
theorem dX15_fresh_155 : decode cX15_fresh 155 = .ok (.bastore, 1) := dc_84 (by decide +kernel)
theorem dX15_fresh_156 : decode cX15_fresh 156 = .ok (.aload_n 0, 1) := dc_42 (by decide +kernel)
theorem dX15_fresh_157 : decode cX15_fresh 157 = .ok (.getfield 22, 3) := dc_180 (a := 0) (b := 22) (n := 22) (by decide +kernel)
theorem dX15_fresh_160 : decode cX15_fresh 160 = .ok (.aload_n 0, 1) := dc_42 (by decide +kernel)
theorem dX15_fresh_161 : decode cX15_fresh 161 = .ok (.getfield 56, 3) := dc_180 (a := 0) (b := 56) (n := 56) (by decide +kernel)
theorem dX15_fresh_164 : decode cX15_fresh 164 = .ok (.iconst 0, 1) := dc_3 (by decide +kernel)
theorem dX15_fresh_165 : decode cX15_fresh 165 = .ok (.iastore, 1) := dc_79 (by decide +kernel)
theorem dX15_fresh_166 : decode cX15_fresh 166 = .ok (.aload_n 0, 1) := dc_42 (by decide +kernel)
theorem dX15_fresh_167 : decode cX15_fresh 167 = .ok (.dup, 1) := dc_89 (by decide +kernel)
theorem dX15_fresh_168 : decode cX15_fresh 168 = .ok (.getfield 56, 3) := dc_180 (a := 0) (b := 56) (n := 56) (by decide +kernel)
theorem dX15_fresh_171 : decode cX15_fresh 171 = .ok (.dup_x1, 1) := dc_90 (by decide +kernel)
theorem dX15_fresh_172 : decode cX15_fresh 172 = .ok (.iconst 1, 1) := dc_4 (by decide +kernel)
theorem dX15_fresh_173 : decode cX15_fresh 173 = .ok (.iadd, 1) := dc_96 (by decide +kernel)
theorem dX15_fresh_174 : decode cX15_fresh 174 = .ok (.putfield 56, 3) := dc_181 (a := 0) (b := 56) (n := 56) (by decide +kernel)
theorem dX15_fresh_177 : decode cX15_fresh 177 = .ok (.ireturn, 1) := dc_172 (by decide +kernel)
theorem GX15_15 {w : eW} {d : Nat} {Y : eY} {pc : Nat} {ls : eL} {st : List Value} {h : eH} {Q : eO → eH → Prop} {a : Nat} {x : Nat} (hf : g_A 14 h a 1 = some x) (hd : decode Y.2.1 pc = .ok (.getfield 15, 3)) (hY : Y.1.cls = RX15) (kk : wp w d Y (pc + 3) ls (.ref x :: st) h Q) : wp w d Y pc ls (.ref a :: st) h Q := x_gA (ci := 14) (k := 1) hf hd rfl (by decide) (by rw [hY]; exact q958) kk
theorem GX15_18 {w : eW} {d : Nat} {Y : eY} {pc : Nat} {ls : eL} {st : List Value} {h : eH} {Q : eO → eH → Prop} {a : Nat} {x : Nat} (hf : g_A 14 h a 2 = some x) (hd : decode Y.2.1 pc = .ok (.getfield 18, 3)) (hY : Y.1.cls = RX15) (kk : wp w d Y (pc + 3) ls (.ref x :: st) h Q) : wp w d Y pc ls (.ref a :: st) h Q := x_gA (ci := 14) (k := 2) hf hd rfl (by decide) (by rw [hY]; exact q959) kk
theorem GX15_22 {w : eW} {d : Nat} {Y : eY} {pc : Nat} {ls : eL} {st : List Value} {h : eH} {Q : eO → eH → Prop} {a : Nat} {x : Nat} (hf : g_A 14 h a 3 = some x) (hd : decode Y.2.1 pc = .ok (.getfield 22, 3)) (hY : Y.1.cls = RX15) (kk : wp w d Y (pc + 3) ls (.ref x :: st) h Q) : wp w d Y pc ls (.ref a :: st) h Q := x_gA (ci := 14) (k := 3) hf hd rfl (by decide) (by rw [hY]; exact q960) kk
theorem GX15_25 {w : eW} {d : Nat} {Y : eY} {pc : Nat} {ls : eL} {st : List Value} {h : eH} {Q : eO → eH → Prop} {a : Nat} {x : Nat} (hf : g_A 14 h a 4 = some x) (hd : decode Y.2.1 pc = .ok (.getfield 25, 3)) (hY : Y.1.cls = RX15) (kk : wp w d Y (pc + 3) ls (.ref x :: st) h Q) : wp w d Y pc ls (.ref a :: st) h Q := x_gA (ci := 14) (k := 4) hf hd rfl (by decide) (by rw [hY]; exact q961) kk
theorem GX15_43 {w : eW} {d : Nat} {Y : eY} {pc : Nat} {ls : eL} {st : List Value} {h : eH} {Q : eO → eH → Prop} {a : Nat} {x : Nat} (hf : g_A 14 h a 12 = some x) (hd : decode Y.2.1 pc = .ok (.getfield 43, 3)) (hY : Y.1.cls = RX15) (kk : wp w d Y (pc + 3) ls (.ref x :: st) h Q) : wp w d Y pc ls (.ref a :: st) h Q := x_gA (ci := 14) (k := 12) hf hd rfl (by decide) (by rw [hY]; exact q969) kk
theorem GX15_56 {w : eW} {d : Nat} {Y : eY} {pc : Nat} {ls : eL} {st : List Value} {h : eH} {Q : eO → eH → Prop} {a : Nat} {x : Int32} (hf : g_I 14 h a 5 = some x) (hd : decode Y.2.1 pc = .ok (.getfield 56, 3)) (hY : Y.1.cls = RX15) (kk : wp w d Y (pc + 3) ls (.int x :: st) h Q) : wp w d Y pc ls (.ref a :: st) h Q := x_gI (ci := 14) (k := 5) hf hd rfl (by decide) (by rw [hY]; exact q962) kk
theorem GX15_9 {w : eW} {d : Nat} {Y : eY} {pc : Nat} {ls : eL} {st : List Value} {h : eH} {Q : eO → eH → Prop} {a : Nat} {x : Nat} (hf : g_A 14 h a 0 = some x) (hd : decode Y.2.1 pc = .ok (.getfield 9, 3)) (hY : Y.1.cls = RX15) (kk : wp w d Y (pc + 3) ls (.ref x :: st) h Q) : wp w d Y pc ls (.ref a :: st) h Q := x_gA (ci := 14) (k := 0) hf hd rfl (by decide) (by rw [hY]; exact q957) kk
theorem SX15_15 {w : eW} {d : Nat} {Y : eY} {pc : Nat} {ls : eL} {st : List Value} {h : eH} {Q : eO → eH → Prop} {a : Nat} {h' : eH} {x : Nat} (hf : p_V 14 h a 1 (.ref x) = some h') (hd : decode Y.2.1 pc = .ok (.putfield 15, 3)) (hY : Y.1.cls = RX15) (kk : wp w d Y (pc + 3) ls st h' Q) : wp w d Y pc ls (.ref x :: .ref a :: st) h Q := x_pA (ci := 14) (k := 1) hf hd rfl (by decide) (by rw [hY]; exact q958) rfl rfl rfl rfl kk
theorem SX15_18 {w : eW} {d : Nat} {Y : eY} {pc : Nat} {ls : eL} {st : List Value} {h : eH} {Q : eO → eH → Prop} {a : Nat} {h' : eH} {x : Nat} (hf : p_V 14 h a 2 (.ref x) = some h') (hd : decode Y.2.1 pc = .ok (.putfield 18, 3)) (hY : Y.1.cls = RX15) (kk : wp w d Y (pc + 3) ls st h' Q) : wp w d Y pc ls (.ref x :: .ref a :: st) h Q := x_pA (ci := 14) (k := 2) hf hd rfl (by decide) (by rw [hY]; exact q959) rfl rfl rfl rfl kk
theorem SX15_22 {w : eW} {d : Nat} {Y : eY} {pc : Nat} {ls : eL} {st : List Value} {h : eH} {Q : eO → eH → Prop} {a : Nat} {h' : eH} {x : Nat} (hf : p_V 14 h a 3 (.ref x) = some h') (hd : decode Y.2.1 pc = .ok (.putfield 22, 3)) (hY : Y.1.cls = RX15) (kk : wp w d Y (pc + 3) ls st h' Q) : wp w d Y pc ls (.ref x :: .ref a :: st) h Q := x_pA (ci := 14) (k := 3) hf hd rfl (by decide) (by rw [hY]; exact q960) rfl rfl rfl rfl kk
theorem SX15_25 {w : eW} {d : Nat} {Y : eY} {pc : Nat} {ls : eL} {st : List Value} {h : eH} {Q : eO → eH → Prop} {a : Nat} {h' : eH} {x : Nat} (hf : p_V 14 h a 4 (.ref x) = some h') (hd : decode Y.2.1 pc = .ok (.putfield 25, 3)) (hY : Y.1.cls = RX15) (kk : wp w d Y (pc + 3) ls st h' Q) : wp w d Y pc ls (.ref x :: .ref a :: st) h Q := x_pA (ci := 14) (k := 4) hf hd rfl (by decide) (by rw [hY]; exact q961) rfl rfl rfl rfl kk
theorem SX15_43 {w : eW} {d : Nat} {Y : eY} {pc : Nat} {ls : eL} {st : List Value} {h : eH} {Q : eO → eH → Prop} {a : Nat} {h' : eH} {x : Nat} (hf : p_V 14 h a 12 (.ref x) = some h') (hd : decode Y.2.1 pc = .ok (.putfield 43, 3)) (hY : Y.1.cls = RX15) (kk : wp w d Y (pc + 3) ls st h' Q) : wp w d Y pc ls (.ref x :: .ref a :: st) h Q := x_pA (ci := 14) (k := 12) hf hd rfl (by decide) (by rw [hY]; exact q969) rfl rfl rfl rfl kk
theorem SX15_56 {w : eW} {d : Nat} {Y : eY} {pc : Nat} {ls : eL} {st : List Value} {h : eH} {Q : eO → eH → Prop} {a : Nat} {h' : eH} {x : Int32} (hf : p_V 14 h a 5 (.int x) = some h') (hd : decode Y.2.1 pc = .ok (.putfield 56, 3)) (hY : Y.1.cls = RX15) (kk : wp w d Y (pc + 3) ls st h' Q) : wp w d Y pc ls (.int x :: .ref a :: st) h Q := x_pI (ci := 14) (k := 5) hf hd rfl (by decide) (by rw [hY]; exact q962) rfl rfl kk
theorem SX15_9 {w : eW} {d : Nat} {Y : eY} {pc : Nat} {ls : eL} {st : List Value} {h : eH} {Q : eO → eH → Prop} {a : Nat} {h' : eH} {x : Nat} (hf : p_V 14 h a 0 (.ref x) = some h') (hd : decode Y.2.1 pc = .ok (.putfield 9, 3)) (hY : Y.1.cls = RX15) (kk : wp w d Y (pc + 3) ls st h' Q) : wp w d Y pc ls (.ref x :: .ref a :: st) h Q := x_pA (ci := 14) (k := 0) hf hd rfl (by decide) (by rw [hY]; exact q957) rfl rfl rfl rfl kk
def fX15_fresh_b125 (l0 : Nat) (l1 : Int32) (h : eH) : Option (Int32 × eH) :=
  (g_A 14 h l0 0).bind fun a1 =>
  (g_I 14 h l0 5).bind fun x3 =>
  (q_V 100 h a1 x3 (.int (-1 : Int32))).bind fun h5 =>
  (g_A 14 h5 l0 1).bind fun a7 =>
  (g_I 14 h5 l0 5).bind fun x9 =>
  (q_V 100 h5 a7 x9 (.int (-1 : Int32))).bind fun h11 =>
  (g_A 14 h11 l0 2).bind fun a13 =>
  (g_I 14 h11 l0 5).bind fun x15 =>
  (q_V 102 h11 a13 x15 (.int ((l1).toInt8.toInt32).toInt8.toInt32)).bind fun h17 =>
  (g_A 14 h17 l0 3).bind fun a19 =>
  (g_I 14 h17 l0 5).bind fun x21 =>
  (q_V 100 h17 a19 x21 (.int (0 : Int32))).bind fun h23 =>
  (g_I 14 h23 l0 5).bind fun x25 =>
  (p_V 14 h23 l0 5 (.int (x25 + (1 : Int32)))).bind fun h27 =>
  some (x25, h27)
theorem pX15_fresh_b125 {w : eW} {d : Nat} (hd : 2 ≤ d + 1) {l0 : Nat} {l1 : Int32} {h : eH} {q} (hf : fX15_fresh_b125 l0 l1 h = some q) : wp w (d + 1) YX15_fresh 125 [some (.ref l0), some (.int l1), none] [] h (e_is (e_rn c_I q)) := by
  unfold fX15_fresh_b125 at hf
  refine w_aload_n dX15_fresh_125 rfl rfl ?_
  obtain ⟨a1, b2, hf⟩ := Option.bind_eq_some_iff.mp hf
  refine GX15_9 b2 dX15_fresh_126 rfl ?_
  refine w_aload_n dX15_fresh_129 rfl rfl ?_
  obtain ⟨x3, b4, hf⟩ := Option.bind_eq_some_iff.mp hf
  refine GX15_56 b4 dX15_fresh_130 rfl ?_
  refine w_iconst dX15_fresh_133 (v := -1) (by decide) ?_
  obtain ⟨h5, b6, hf⟩ := Option.bind_eq_some_iff.mp hf
  refine x_qI b6 dX15_fresh_134 ?_
  refine w_aload_n dX15_fresh_135 rfl rfl ?_
  obtain ⟨a7, b8, hf⟩ := Option.bind_eq_some_iff.mp hf
  refine GX15_15 b8 dX15_fresh_136 rfl ?_
  refine w_aload_n dX15_fresh_139 rfl rfl ?_
  obtain ⟨x9, b10, hf⟩ := Option.bind_eq_some_iff.mp hf
  refine GX15_56 b10 dX15_fresh_140 rfl ?_
  refine w_iconst dX15_fresh_143 (v := -1) (by decide) ?_
  obtain ⟨h11, b12, hf⟩ := Option.bind_eq_some_iff.mp hf
  refine x_qI b12 dX15_fresh_144 ?_
  refine w_aload_n dX15_fresh_145 rfl rfl ?_
  obtain ⟨a13, b14, hf⟩ := Option.bind_eq_some_iff.mp hf
  refine GX15_18 b14 dX15_fresh_146 rfl ?_
  refine w_aload_n dX15_fresh_149 rfl rfl ?_
  obtain ⟨x15, b16, hf⟩ := Option.bind_eq_some_iff.mp hf
  refine GX15_56 b16 dX15_fresh_150 rfl ?_
  refine w_iload_n dX15_fresh_153 rfl rfl ?_
  refine w_i2b dX15_fresh_154 ?_
  obtain ⟨h17, b18, hf⟩ := Option.bind_eq_some_iff.mp hf
  refine x_qB b18 dX15_fresh_155 ?_
  refine w_aload_n dX15_fresh_156 rfl rfl ?_
  obtain ⟨a19, b20, hf⟩ := Option.bind_eq_some_iff.mp hf
  refine GX15_22 b20 dX15_fresh_157 rfl ?_
  refine w_aload_n dX15_fresh_160 rfl rfl ?_
  obtain ⟨x21, b22, hf⟩ := Option.bind_eq_some_iff.mp hf
  refine GX15_56 b22 dX15_fresh_161 rfl ?_
  refine w_iconst dX15_fresh_164 (v := 0) (by decide) ?_
  obtain ⟨h23, b24, hf⟩ := Option.bind_eq_some_iff.mp hf
  refine x_qI b24 dX15_fresh_165 ?_
  refine w_aload_n dX15_fresh_166 rfl rfl ?_
  refine w_dup dX15_fresh_167 rfl ?_
  obtain ⟨x25, b26, hf⟩ := Option.bind_eq_some_iff.mp hf
  refine GX15_56 b26 dX15_fresh_168 rfl ?_
  refine w_dup_x1 dX15_fresh_171 rfl rfl ?_
  refine w_iconst dX15_fresh_172 (v := 1) (by decide) ?_
  refine w_iadd dX15_fresh_173 ?_
  obtain ⟨h27, b28, hf⟩ := Option.bind_eq_some_iff.mp hf
  refine SX15_56 b28 dX15_fresh_174 rfl ?_
  cases hf
  exact w_iret dX15_fresh_177 rfl rfl rfl
def fX15_fresh (this : Nat) (p0 : Int32) (h : eH) : Option (Int32 × eH) :=
  (g_A 14 h this 0).bind fun a1 =>
  (g_I 14 h this 5).bind fun x3 =>
  (fX1_grown a1 (x3 + (1 : Int32)) h).bind fun q5 =>
  (p_V 14 q5.2 this 0 (.ref q5.1)).bind fun h6 =>
  (g_A 14 h6 this 1).bind fun a8 =>
  (g_I 14 h6 this 5).bind fun x10 =>
  (fX1_grown a8 (x10 + (1 : Int32)) h6).bind fun q12 =>
  (p_V 14 q12.2 this 1 (.ref q12.1)).bind fun h13 =>
  (g_A 14 h13 this 3).bind fun a15 =>
  (g_I 14 h13 this 5).bind fun x17 =>
  (fX1_grown a15 (x17 + (1 : Int32)) h13).bind fun q19 =>
  (p_V 14 q19.2 this 3 (.ref q19.1)).bind fun h20 =>
  (g_A 14 h20 this 4).bind fun a22 =>
  (g_I 14 h20 this 5).bind fun x24 =>
  (fX1_grown a22 (x24 + (1 : Int32)) h20).bind fun q26 =>
  (p_V 14 q26.2 this 4 (.ref q26.1)).bind fun h27 =>
  (g_A 14 h27 this 12).bind fun a29 =>
  (g_I 14 h27 this 5).bind fun x31 =>
  (fX1_grown a29 (x31 + (1 : Int32)) h27).bind fun q33 =>
  (p_V 14 q33.2 this 12 (.ref q33.1)).bind fun h34 =>
  (g_I 14 h34 this 5).bind fun x36 =>
  (g_A 14 h34 this 2).bind fun a38 =>
  (a_len h34 a38).bind fun x40 =>
  if ¬ x36 = x40 then
    fX15_fresh_b125 this p0 h34
  else
    (g_I 14 h34 this 5).bind fun x43 =>
    (n_arr 102 53 (.int 0) h34 ((2 : Int32) * x43)).bind fun q45 =>
    (g_A 14 q45.2 this 2).bind fun a47 =>
    (g_I 14 q45.2 this 5).bind fun x49 =>
    (a_cpy q45.2 a47 (0 : Int32) q45.1 (0 : Int32) x49).bind fun h51 =>
    (p_V 14 h51 this 2 (.ref q45.1)).bind fun h53 =>
    fX15_fresh_b125 this p0 h53
theorem pX15_fresh {w : eW} {d : Nat} (hd : 2 ≤ d) {this : Nat} {p0 : Int32} {h : eH} {q} (hf : fX15_fresh this p0 h = some q) : wm w d YX15_fresh [.ref this, .int p0] h (e_is (e_rn c_I q)) := by
  obtain ⟨d, rfl⟩ : ∃ e, d = e + 1 := ⟨d - 1, by omega⟩
  show wp w (d + 1) YX15_fresh 0 [some (.ref this), some (.int p0), none] [] h _
  unfold fX15_fresh at hf
  refine w_aload_n dX15_fresh_0 rfl rfl ?_
  refine w_aload_n dX15_fresh_1 rfl rfl ?_
  obtain ⟨a1, b2, hf⟩ := Option.bind_eq_some_iff.mp hf
  refine GX15_9 b2 dX15_fresh_2 rfl ?_
  refine w_aload_n dX15_fresh_5 rfl rfl ?_
  obtain ⟨x3, b4, hf⟩ := Option.bind_eq_some_iff.mp hf
  refine GX15_56 b4 dX15_fresh_6 rfl ?_
  refine w_iconst dX15_fresh_9 (v := 1) (by decide) ?_
  refine w_iadd dX15_fresh_10 ?_
  refine x_cnA hf (e_stSN (Yc := YX1_grown) (av := [.ref a1, .int (x3 + (1 : Int32))]) (st := [.ref this]) dX15_fresh_11 q950 mX1_grown) mX1_grown.2.2.1 mX1_grown.2.2.2.2.1 (Nat.le_of_ble_eq_true rfl) (Nat.le_of_ble_eq_true rfl) (fun q hq => pX1_grown (by omega) hq) (fun q5 hf => ?_)
  obtain ⟨h6, b7, hf⟩ := Option.bind_eq_some_iff.mp hf
  refine SX15_9 b7 dX15_fresh_14 rfl ?_
  refine w_aload_n dX15_fresh_17 rfl rfl ?_
  refine w_aload_n dX15_fresh_18 rfl rfl ?_
  obtain ⟨a8, b9, hf⟩ := Option.bind_eq_some_iff.mp hf
  refine GX15_15 b9 dX15_fresh_19 rfl ?_
  refine w_aload_n dX15_fresh_22 rfl rfl ?_
  obtain ⟨x10, b11, hf⟩ := Option.bind_eq_some_iff.mp hf
  refine GX15_56 b11 dX15_fresh_23 rfl ?_
  refine w_iconst dX15_fresh_26 (v := 1) (by decide) ?_
  refine w_iadd dX15_fresh_27 ?_
  refine x_cnA hf (e_stSN (Yc := YX1_grown) (av := [.ref a8, .int (x10 + (1 : Int32))]) (st := [.ref this]) dX15_fresh_28 q950 mX1_grown) mX1_grown.2.2.1 mX1_grown.2.2.2.2.1 (Nat.le_of_ble_eq_true rfl) (Nat.le_of_ble_eq_true rfl) (fun q hq => pX1_grown (by omega) hq) (fun q12 hf => ?_)
  obtain ⟨h13, b14, hf⟩ := Option.bind_eq_some_iff.mp hf
  refine SX15_15 b14 dX15_fresh_31 rfl ?_
  refine w_aload_n dX15_fresh_34 rfl rfl ?_
  refine w_aload_n dX15_fresh_35 rfl rfl ?_
  obtain ⟨a15, b16, hf⟩ := Option.bind_eq_some_iff.mp hf
  refine GX15_22 b16 dX15_fresh_36 rfl ?_
  refine w_aload_n dX15_fresh_39 rfl rfl ?_
  obtain ⟨x17, b18, hf⟩ := Option.bind_eq_some_iff.mp hf
  refine GX15_56 b18 dX15_fresh_40 rfl ?_
  refine w_iconst dX15_fresh_43 (v := 1) (by decide) ?_
  refine w_iadd dX15_fresh_44 ?_
  refine x_cnA hf (e_stSN (Yc := YX1_grown) (av := [.ref a15, .int (x17 + (1 : Int32))]) (st := [.ref this]) dX15_fresh_45 q950 mX1_grown) mX1_grown.2.2.1 mX1_grown.2.2.2.2.1 (Nat.le_of_ble_eq_true rfl) (Nat.le_of_ble_eq_true rfl) (fun q hq => pX1_grown (by omega) hq) (fun q19 hf => ?_)
  obtain ⟨h20, b21, hf⟩ := Option.bind_eq_some_iff.mp hf
  refine SX15_22 b21 dX15_fresh_48 rfl ?_
  refine w_aload_n dX15_fresh_51 rfl rfl ?_
  refine w_aload_n dX15_fresh_52 rfl rfl ?_
  obtain ⟨a22, b23, hf⟩ := Option.bind_eq_some_iff.mp hf
  refine GX15_25 b23 dX15_fresh_53 rfl ?_
  refine w_aload_n dX15_fresh_56 rfl rfl ?_
  obtain ⟨x24, b25, hf⟩ := Option.bind_eq_some_iff.mp hf
  refine GX15_56 b25 dX15_fresh_57 rfl ?_
  refine w_iconst dX15_fresh_60 (v := 1) (by decide) ?_
  refine w_iadd dX15_fresh_61 ?_
  refine x_cnA hf (e_stSN (Yc := YX1_grown) (av := [.ref a22, .int (x24 + (1 : Int32))]) (st := [.ref this]) dX15_fresh_62 q950 mX1_grown) mX1_grown.2.2.1 mX1_grown.2.2.2.2.1 (Nat.le_of_ble_eq_true rfl) (Nat.le_of_ble_eq_true rfl) (fun q hq => pX1_grown (by omega) hq) (fun q26 hf => ?_)
  obtain ⟨h27, b28, hf⟩ := Option.bind_eq_some_iff.mp hf
  refine SX15_25 b28 dX15_fresh_65 rfl ?_
  refine w_aload_n dX15_fresh_68 rfl rfl ?_
  refine w_aload_n dX15_fresh_69 rfl rfl ?_
  obtain ⟨a29, b30, hf⟩ := Option.bind_eq_some_iff.mp hf
  refine GX15_43 b30 dX15_fresh_70 rfl ?_
  refine w_aload_n dX15_fresh_73 rfl rfl ?_
  obtain ⟨x31, b32, hf⟩ := Option.bind_eq_some_iff.mp hf
  refine GX15_56 b32 dX15_fresh_74 rfl ?_
  refine w_iconst dX15_fresh_77 (v := 1) (by decide) ?_
  refine w_iadd dX15_fresh_78 ?_
  refine x_cnA hf (e_stSN (Yc := YX1_grown) (av := [.ref a29, .int (x31 + (1 : Int32))]) (st := [.ref this]) dX15_fresh_79 q950 mX1_grown) mX1_grown.2.2.1 mX1_grown.2.2.2.2.1 (Nat.le_of_ble_eq_true rfl) (Nat.le_of_ble_eq_true rfl) (fun q hq => pX1_grown (by omega) hq) (fun q33 hf => ?_)
  obtain ⟨h34, b35, hf⟩ := Option.bind_eq_some_iff.mp hf
  refine SX15_43 b35 dX15_fresh_82 rfl ?_
  refine w_aload_n dX15_fresh_85 rfl rfl ?_
  obtain ⟨x36, b37, hf⟩ := Option.bind_eq_some_iff.mp hf
  refine GX15_56 b37 dX15_fresh_86 rfl ?_
  refine w_aload_n dX15_fresh_89 rfl rfl ?_
  obtain ⟨a38, b39, hf⟩ := Option.bind_eq_some_iff.mp hf
  refine GX15_18 b39 dX15_fresh_90 rfl ?_
  obtain ⟨x40, b41, hf⟩ := Option.bind_eq_some_iff.mp hf
  refine x_len b41 dX15_fresh_93 ?_
  refine w_icmp_ne 125 dX15_fresh_94 (by decide) (fun c42 => ?_) (fun c42 => ?_)
  · replace hf := (if_pos (show ¬ x36 = x40 from c42)).symm.trans hf
    exact (pX15_fresh_b125 hd hf).to ⟨rfl, rfl, trivial⟩
  · replace hf := (if_neg (show ¬ (¬ x36 = x40) from (fun z => z c42))).symm.trans hf
    refine w_iconst dX15_fresh_97 (v := 2) (by decide) ?_
    refine w_aload_n dX15_fresh_98 rfl rfl ?_
    obtain ⟨x43, b44, hf⟩ := Option.bind_eq_some_iff.mp hf
    refine GX15_56 b44 dX15_fresh_99 rfl ?_
    refine w_imul dX15_fresh_102 ?_
    obtain ⟨q45, b46, hf⟩ := Option.bind_eq_some_iff.mp hf
    refine x_newB (g := 53) b46 dX15_fresh_103 q507 ?_
    refine w_astore_n dX15_fresh_105 rfl (by decide) (ls' := [some (.ref this), some (.int p0), some (.ref q45.1)]) rfl ?_
    refine w_aload_n dX15_fresh_106 rfl rfl ?_
    obtain ⟨a47, b48, hf⟩ := Option.bind_eq_some_iff.mp hf
    refine GX15_18 b48 dX15_fresh_107 rfl ?_
    refine w_iconst dX15_fresh_110 (v := 0) (by decide) ?_
    refine w_aload_n dX15_fresh_111 rfl rfl ?_
    refine w_iconst dX15_fresh_112 (v := 0) (by decide) ?_
    refine w_aload_n dX15_fresh_113 rfl rfl ?_
    obtain ⟨x49, b50, hf⟩ := Option.bind_eq_some_iff.mp hf
    refine GX15_56 b50 dX15_fresh_114 rfl ?_
    obtain ⟨h51, b52, hf⟩ := Option.bind_eq_some_iff.mp hf
    refine x_cpy b52 dX15_fresh_117 q956 q955 q954 q441 (Nat.le_of_ble_eq_true rfl) ?_
    refine w_aload_n dX15_fresh_120 rfl rfl ?_
    refine w_aload_n dX15_fresh_121 rfl rfl ?_
    obtain ⟨h53, b54, hf⟩ := Option.bind_eq_some_iff.mp hf
    refine SX15_18 b54 dX15_fresh_122 rfl ?_
    exact (pX15_fresh_b125 hd hf).to ⟨rfl, rfl, trivial⟩
abbrev cX15_clear : ByteArray := prog_33_method_2_code
def yX15_clear : MethodName := ⟨RX15, "clear", "()V"⟩
def YX15_clear : eY := (yX15_clear, cX15_clear, 2, none, [])
theorem mX15_clear : e_mv YX15_clear RX15 0 := ⟨q943, q944, q945, by decide, by decide +kernel, (e_sig (by decide +kernel))⟩
theorem dX15_clear_0 : decode cX15_clear 0 = .ok (.aload_n 0, 1) := dc_42 (by decide +kernel)
theorem dX15_clear_1 : decode cX15_clear 1 = .ok (.iconst 0, 1) := dc_3 (by decide +kernel)
theorem dX15_clear_2 : decode cX15_clear 2 = .ok (.putfield 56, 3) := dc_181 (a := 0) (b := 56) (n := 56) (by decide +kernel)
theorem dX15_clear_5 : decode cX15_clear 5 = .ok (.aload_n 0, 1) := dc_42 (by decide +kernel)
theorem dX15_clear_6 : decode cX15_clear 6 = .ok (.iconst 1, 1) := dc_4 (by decide +kernel)
theorem dX15_clear_7 : decode cX15_clear 7 = .ok (.putfield 60, 3) := dc_181 (a := 0) (b := 60) (n := 60) (by decide +kernel)
theorem dX15_clear_10 : decode cX15_clear 10 = .ok (.aload_n 0, 1) := dc_42 (by decide +kernel)
theorem dX15_clear_11 : decode cX15_clear 11 = .ok (.iconst 0, 1) := dc_3 (by decide +kernel)
theorem dX15_clear_12 : decode cX15_clear 12 = .ok (.putfield 63, 3) := dc_181 (a := 0) (b := 63) (n := 63) (by decide +kernel)
theorem dX15_clear_15 : decode cX15_clear 15 = .ok (.aload_n 0, 1) := dc_42 (by decide +kernel)
theorem dX15_clear_16 : decode cX15_clear 16 = .ok (.iconst 0, 1) := dc_3 (by decide +kernel)
theorem dX15_clear_17 : decode cX15_clear 17 = .ok (.putfield 66, 3) := dc_181 (a := 0) (b := 66) (n := 66) (by decide +kernel)
theorem dX15_clear_20 : decode cX15_clear 20 = .ok (.aload_n 0, 1) := dc_42 (by decide +kernel)
theorem dX15_clear_21 : decode cX15_clear 21 = .ok (.iconst 0, 1) := dc_3 (by decide +kernel)
theorem dX15_clear_22 : decode cX15_clear 22 = .ok (.invokevirtual 69, 3) := dc_182 (a := 0) (b := 69) (n := 69) (by decide +kernel)
theorem dX15_clear_25 : decode cX15_clear 25 = .ok (.istore_n 1, 1) := dc_60 (by decide +kernel)
theorem dX15_clear_26 : decode cX15_clear 26 = .ok (.aload_n 0, 1) := dc_42 (by decide +kernel)
theorem dX15_clear_27 : decode cX15_clear 27 = .ok (.iconst 0, 1) := dc_3 (by decide +kernel)
theorem dX15_clear_28 : decode cX15_clear 28 = .ok (.putfield 73, 3) := dc_181 (a := 0) (b := 73) (n := 73) (by decide +kernel)
theorem dX15_clear_31 : decode cX15_clear 31 = .ok (.return_, 1) := dc_177 (by decide +kernel)
theorem SX15_60 {w : eW} {d : Nat} {Y : eY} {pc : Nat} {ls : eL} {st : List Value} {h : eH} {Q : eO → eH → Prop} {a : Nat} {h' : eH} {x : Int32} (hf : p_V 14 h a 9 (.int x) = some h') (hd : decode Y.2.1 pc = .ok (.putfield 60, 3)) (hY : Y.1.cls = RX15) (kk : wp w d Y (pc + 3) ls st h' Q) : wp w d Y pc ls (.int x :: .ref a :: st) h Q := x_pI (ci := 14) (k := 9) hf hd rfl (by decide) (by rw [hY]; exact q966) rfl rfl kk
theorem SX15_63 {w : eW} {d : Nat} {Y : eY} {pc : Nat} {ls : eL} {st : List Value} {h : eH} {Q : eO → eH → Prop} {a : Nat} {h' : eH} {x : Int32} (hf : p_V 14 h a 16 (.int x) = some h') (hd : decode Y.2.1 pc = .ok (.putfield 63, 3)) (hY : Y.1.cls = RX15) (kk : wp w d Y (pc + 3) ls st h' Q) : wp w d Y pc ls (.int x :: .ref a :: st) h Q := x_pI (ci := 14) (k := 16) hf hd rfl (by decide) (by rw [hY]; exact q973) rfl rfl kk
theorem SX15_66 {w : eW} {d : Nat} {Y : eY} {pc : Nat} {ls : eL} {st : List Value} {h : eH} {Q : eO → eH → Prop} {a : Nat} {h' : eH} {x : Int32} (hf : p_V 14 h a 17 (.int x) = some h') (hd : decode Y.2.1 pc = .ok (.putfield 66, 3)) (hY : Y.1.cls = RX15) (kk : wp w d Y (pc + 3) ls st h' Q) : wp w d Y pc ls (.int x :: .ref a :: st) h Q := x_pI (ci := 14) (k := 17) hf hd rfl (by decide) (by rw [hY]; exact q975) rfl rfl kk
theorem SX15_73 {w : eW} {d : Nat} {Y : eY} {pc : Nat} {ls : eL} {st : List Value} {h : eH} {Q : eO → eH → Prop} {a : Nat} {h' : eH} {x : Int32} (hf : p_Z 14 h a 15 x = some h') (hd : decode Y.2.1 pc = .ok (.putfield 73, 3)) (hY : Y.1.cls = RX15) (kk : wp w d Y (pc + 3) ls st h' Q) : wp w d Y pc ls (.int x :: .ref a :: st) h Q := x_pZ (ci := 14) (k := 15) hf hd rfl (by decide) (by rw [hY]; exact q972) rfl rfl kk
def fX15_clear (this : Nat) (h : eH) : Option (Unit × eH) :=
  (p_V 14 h this 5 (.int (0 : Int32))).bind fun h1 =>
  (p_V 14 h1 this 9 (.int (1 : Int32))).bind fun h3 =>
  (p_V 14 h3 this 16 (.int (0 : Int32))).bind fun h5 =>
  (p_V 14 h5 this 17 (.int (0 : Int32))).bind fun h7 =>
  (k_ok 14 h7 this).bind fun _ =>
  (fX15_fresh this (0 : Int32) h7).bind fun q10 =>
  (p_Z 14 q10.2 this 15 (0 : Int32)).bind fun h11 =>
  some ((), h11)
theorem pX15_clear {w : eW} {d : Nat} (hd : 3 ≤ d) {this : Nat} {h : eH} {q} (hf : fX15_clear this h = some q) : wm w d YX15_clear [.ref this] h (e_is (e_rn c_V q)) := by
  obtain ⟨d, rfl⟩ : ∃ e, d = e + 1 := ⟨d - 1, by omega⟩
  show wp w (d + 1) YX15_clear 0 [some (.ref this), none] [] h _
  unfold fX15_clear at hf
  refine w_aload_n dX15_clear_0 rfl rfl ?_
  refine w_iconst dX15_clear_1 (v := 0) (by decide) ?_
  obtain ⟨h1, b2, hf⟩ := Option.bind_eq_some_iff.mp hf
  refine SX15_56 b2 dX15_clear_2 rfl ?_
  refine w_aload_n dX15_clear_5 rfl rfl ?_
  refine w_iconst dX15_clear_6 (v := 1) (by decide) ?_
  obtain ⟨h3, b4, hf⟩ := Option.bind_eq_some_iff.mp hf
  refine SX15_60 b4 dX15_clear_7 rfl ?_
  refine w_aload_n dX15_clear_10 rfl rfl ?_
  refine w_iconst dX15_clear_11 (v := 0) (by decide) ?_
  obtain ⟨h5, b6, hf⟩ := Option.bind_eq_some_iff.mp hf
  refine SX15_63 b6 dX15_clear_12 rfl ?_
  refine w_aload_n dX15_clear_15 rfl rfl ?_
  refine w_iconst dX15_clear_16 (v := 0) (by decide) ?_
  obtain ⟨h7, b8, hf⟩ := Option.bind_eq_some_iff.mp hf
  refine SX15_66 b8 dX15_clear_17 rfl ?_
  refine w_aload_n dX15_clear_20 rfl rfl ?_
  refine w_iconst dX15_clear_21 (v := 0) (by decide) ?_
  obtain ⟨_, b9, hf⟩ := Option.bind_eq_some_iff.mp hf
  refine x_cnI hf (e_stV (Yc := YX15_fresh) (ci := 14) (av := [.int (0 : Int32)]) (st := []) dX15_clear_22 q946 mX15_fresh rfl (k_ok_some b9).1 (k_ok_some b9).2) mX15_fresh.2.2.1 mX15_fresh.2.2.2.2.1 (Nat.le_of_ble_eq_true rfl) (Nat.le_of_ble_eq_true rfl) (fun q hq => pX15_fresh (by omega) hq) (fun q10 hf => ?_)
  refine w_istore_n dX15_clear_25 rfl (by decide) (ls' := [some (.ref this), some (.int q10.1)]) rfl ?_
  refine w_aload_n dX15_clear_26 rfl rfl ?_
  refine w_iconst dX15_clear_27 (v := 0) (by decide) ?_
  obtain ⟨h11, b12, hf⟩ := Option.bind_eq_some_iff.mp hf
  refine SX15_73 b12 dX15_clear_28 rfl ?_
  cases hf
  exact w_vret dX15_clear_31 rfl rfl
abbrev cX15_init : ByteArray := prog_33_method_1_code
def yX15_init : MethodName := ⟨RX15, "<init>", "()V"⟩
def YX15_init : eY := (yX15_init, cX15_init, 1, none, [])
theorem mX15_init : e_mi YX15_init 0 := ⟨q939, rfl, rfl, q940, by decide, by decide +kernel, (e_sig (by decide +kernel))⟩
theorem dX15_init_0 : decode cX15_init 0 = .ok (.aload_n 0, 1) := dc_42 (by decide +kernel)
theorem dX15_init_1 : decode cX15_init 1 = .ok (.invokespecial 3, 3) := dc_183 (a := 0) (b := 3) (n := 3) (by decide +kernel)
theorem dX15_init_4 : decode cX15_init 4 = .ok (.aload_n 0, 1) := dc_42 (by decide +kernel)
theorem dX15_init_5 : decode cX15_init 5 = .ok (.bipush 64, 2) := dc_16 (a := 64) (v := 64) (by decide +kernel)
theorem dX15_init_7 : decode cX15_init 7 = .ok (.newarray .int, 2) := dc_188_10 (by decide +kernel)
theorem dX15_init_9 : decode cX15_init 9 = .ok (.putfield 9, 3) := dc_181 (a := 0) (b := 9) (n := 9) (by decide +kernel)
theorem dX15_init_12 : decode cX15_init 12 = .ok (.aload_n 0, 1) := dc_42 (by decide +kernel)
theorem dX15_init_13 : decode cX15_init 13 = .ok (.bipush 64, 2) := dc_16 (a := 64) (v := 64) (by decide +kernel)
theorem dX15_init_15 : decode cX15_init 15 = .ok (.newarray .int, 2) := dc_188_10 (by decide +kernel)
theorem dX15_init_17 : decode cX15_init 17 = .ok (.putfield 15, 3) := dc_181 (a := 0) (b := 15) (n := 15) (by decide +kernel)
theorem dX15_init_20 : decode cX15_init 20 = .ok (.aload_n 0, 1) := dc_42 (by decide +kernel)
theorem dX15_init_21 : decode cX15_init 21 = .ok (.bipush 64, 2) := dc_16 (a := 64) (v := 64) (by decide +kernel)
theorem dX15_init_23 : decode cX15_init 23 = .ok (.newarray .byte, 2) := dc_188_8 (by decide +kernel)
theorem dX15_init_25 : decode cX15_init 25 = .ok (.putfield 18, 3) := dc_181 (a := 0) (b := 18) (n := 18) (by decide +kernel)
theorem dX15_init_28 : decode cX15_init 28 = .ok (.aload_n 0, 1) := dc_42 (by decide +kernel)
theorem dX15_init_29 : decode cX15_init 29 = .ok (.bipush 64, 2) := dc_16 (a := 64) (v := 64) (by decide +kernel)
theorem dX15_init_31 : decode cX15_init 31 = .ok (.newarray .int, 2) := dc_188_10 (by decide +kernel)
theorem dX15_init_33 : decode cX15_init 33 = .ok (.putfield 22, 3) := dc_181 (a := 0) (b := 22) (n := 22) (by decide +kernel)
theorem dX15_init_36 : decode cX15_init 36 = .ok (.aload_n 0, 1) := dc_42 (by decide +kernel)
theorem dX15_init_37 : decode cX15_init 37 = .ok (.bipush 64, 2) := dc_16 (a := 64) (v := 64) (by decide +kernel)
theorem dX15_init_39 : decode cX15_init 39 = .ok (.newarray .int, 2) := dc_188_10 (by decide +kernel)
theorem dX15_init_41 : decode cX15_init 41 = .ok (.putfield 25, 3) := dc_181 (a := 0) (b := 25) (n := 25) (by decide +kernel)
theorem dX15_init_44 : decode cX15_init 44 = .ok (.aload_n 0, 1) := dc_42 (by decide +kernel)
theorem dX15_init_45 : decode cX15_init 45 = .ok (.bipush 64, 2) := dc_16 (a := 64) (v := 64) (by decide +kernel)
theorem dX15_init_47 : decode cX15_init 47 = .ok (.newarray .int, 2) := dc_188_10 (by decide +kernel)
theorem dX15_init_49 : decode cX15_init 49 = .ok (.putfield 28, 3) := dc_181 (a := 0) (b := 28) (n := 28) (by decide +kernel)
theorem dX15_init_52 : decode cX15_init 52 = .ok (.aload_n 0, 1) := dc_42 (by decide +kernel)
theorem dX15_init_53 : decode cX15_init 53 = .ok (.bipush 64, 2) := dc_16 (a := 64) (v := 64) (by decide +kernel)
theorem dX15_init_55 : decode cX15_init 55 = .ok (.newarray .int, 2) := dc_188_10 (by decide +kernel)
theorem dX15_init_57 : decode cX15_init 57 = .ok (.putfield 31, 3) := dc_181 (a := 0) (b := 31) (n := 31) (by decide +kernel)
theorem dX15_init_60 : decode cX15_init 60 = .ok (.aload_n 0, 1) := dc_42 (by decide +kernel)
theorem dX15_init_61 : decode cX15_init 61 = .ok (.bipush 64, 2) := dc_16 (a := 64) (v := 64) (by decide +kernel)
theorem dX15_init_63 : decode cX15_init 63 = .ok (.newarray .int, 2) := dc_188_10 (by decide +kernel)
theorem dX15_init_65 : decode cX15_init 65 = .ok (.putfield 34, 3) := dc_181 (a := 0) (b := 34) (n := 34) (by decide +kernel)
theorem dX15_init_68 : decode cX15_init 68 = .ok (.aload_n 0, 1) := dc_42 (by decide +kernel)
theorem dX15_init_69 : decode cX15_init 69 = .ok (.sipush 256, 3) := dc_17 (a := 1) (b := 0) (v := 256) (by decide +kernel)
theorem dX15_init_72 : decode cX15_init 72 = .ok (.newarray .int, 2) := dc_188_10 (by decide +kernel)
theorem dX15_init_74 : decode cX15_init 74 = .ok (.putfield 37, 3) := dc_181 (a := 0) (b := 37) (n := 37) (by decide +kernel)
theorem dX15_init_77 : decode cX15_init 77 = .ok (.aload_n 0, 1) := dc_42 (by decide +kernel)
theorem dX15_init_78 : decode cX15_init 78 = .ok (.sipush 256, 3) := dc_17 (a := 1) (b := 0) (v := 256) (by decide +kernel)
theorem dX15_init_81 : decode cX15_init 81 = .ok (.newarray .int, 2) := dc_188_10 (by decide +kernel)
theorem dX15_init_83 : decode cX15_init 83 = .ok (.putfield 40, 3) := dc_181 (a := 0) (b := 40) (n := 40) (by decide +kernel)
theorem dX15_init_86 : decode cX15_init 86 = .ok (.aload_n 0, 1) := dc_42 (by decide +kernel)
theorem dX15_init_87 : decode cX15_init 87 = .ok (.bipush 64, 2) := dc_16 (a := 64) (v := 64) (by decide +kernel)
theorem dX15_init_89 : decode cX15_init 89 = .ok (.newarray .int, 2) := dc_188_10 (by decide +kernel)
theorem dX15_init_91 : decode cX15_init 91 = .ok (.putfield 43, 3) := dc_181 (a := 0) (b := 43) (n := 43) (by decide +kernel)
theorem dX15_init_94 : decode cX15_init 94 = .ok (.aload_n 0, 1) := dc_42 (by decide +kernel)
theorem dX15_init_95 : decode cX15_init 95 = .ok (.sipush 256, 3) := dc_17 (a := 1) (b := 0) (v := 256) (by decide +kernel)
theorem dX15_init_98 : decode cX15_init 98 = .ok (.newarray .boolean, 2) := dc_188_4 (by decide +kernel)
theorem dX15_init_100 : decode cX15_init 100 = .ok (.putfield 46, 3) := dc_181 (a := 0) (b := 46) (n := 46) (by decide +kernel)
theorem dX15_init_103 : decode cX15_init 103 = .ok (.aload_n 0, 1) := dc_42 (by decide +kernel)
theorem dX15_init_104 : decode cX15_init 104 = .ok (.sipush 1000, 3) := dc_17 (a := 3) (b := 232) (v := 1000) (by decide +kernel)
theorem dX15_init_107 : decode cX15_init 107 = .ok (.newarray .int, 2) := dc_188_10 (by decide +kernel)
theorem dX15_init_109 : decode cX15_init 109 = .ok (.putfield 50, 3) := dc_181 (a := 0) (b := 50) (n := 50) (by decide +kernel)
theorem dX15_init_112 : decode cX15_init 112 = .ok (.aload_n 0, 1) := dc_42 (by decide +kernel)
theorem dX15_init_113 : decode cX15_init 113 = .ok (.invokevirtual 53, 3) := dc_182 (a := 0) (b := 53) (n := 53) (by decide +kernel)
theorem dX15_init_116 : decode cX15_init 116 = .ok (.return_, 1) := dc_177 (by decide +kernel)
theorem SX15_28 {w : eW} {d : Nat} {Y : eY} {pc : Nat} {ls : eL} {st : List Value} {h : eH} {Q : eO → eH → Prop} {a : Nat} {h' : eH} {x : Nat} (hf : p_V 14 h a 6 (.ref x) = some h') (hd : decode Y.2.1 pc = .ok (.putfield 28, 3)) (hY : Y.1.cls = RX15) (kk : wp w d Y (pc + 3) ls st h' Q) : wp w d Y pc ls (.ref x :: .ref a :: st) h Q := x_pA (ci := 14) (k := 6) hf hd rfl (by decide) (by rw [hY]; exact q963) rfl rfl rfl rfl kk
theorem SX15_31 {w : eW} {d : Nat} {Y : eY} {pc : Nat} {ls : eL} {st : List Value} {h : eH} {Q : eO → eH → Prop} {a : Nat} {h' : eH} {x : Nat} (hf : p_V 14 h a 7 (.ref x) = some h') (hd : decode Y.2.1 pc = .ok (.putfield 31, 3)) (hY : Y.1.cls = RX15) (kk : wp w d Y (pc + 3) ls st h' Q) : wp w d Y pc ls (.ref x :: .ref a :: st) h Q := x_pA (ci := 14) (k := 7) hf hd rfl (by decide) (by rw [hY]; exact q964) rfl rfl rfl rfl kk
theorem SX15_34 {w : eW} {d : Nat} {Y : eY} {pc : Nat} {ls : eL} {st : List Value} {h : eH} {Q : eO → eH → Prop} {a : Nat} {h' : eH} {x : Nat} (hf : p_V 14 h a 8 (.ref x) = some h') (hd : decode Y.2.1 pc = .ok (.putfield 34, 3)) (hY : Y.1.cls = RX15) (kk : wp w d Y (pc + 3) ls st h' Q) : wp w d Y pc ls (.ref x :: .ref a :: st) h Q := x_pA (ci := 14) (k := 8) hf hd rfl (by decide) (by rw [hY]; exact q965) rfl rfl rfl rfl kk
theorem SX15_37 {w : eW} {d : Nat} {Y : eY} {pc : Nat} {ls : eL} {st : List Value} {h : eH} {Q : eO → eH → Prop} {a : Nat} {h' : eH} {x : Nat} (hf : p_V 14 h a 10 (.ref x) = some h') (hd : decode Y.2.1 pc = .ok (.putfield 37, 3)) (hY : Y.1.cls = RX15) (kk : wp w d Y (pc + 3) ls st h' Q) : wp w d Y pc ls (.ref x :: .ref a :: st) h Q := x_pA (ci := 14) (k := 10) hf hd rfl (by decide) (by rw [hY]; exact q967) rfl rfl rfl rfl kk
theorem SX15_40 {w : eW} {d : Nat} {Y : eY} {pc : Nat} {ls : eL} {st : List Value} {h : eH} {Q : eO → eH → Prop} {a : Nat} {h' : eH} {x : Nat} (hf : p_V 14 h a 11 (.ref x) = some h') (hd : decode Y.2.1 pc = .ok (.putfield 40, 3)) (hY : Y.1.cls = RX15) (kk : wp w d Y (pc + 3) ls st h' Q) : wp w d Y pc ls (.ref x :: .ref a :: st) h Q := x_pA (ci := 14) (k := 11) hf hd rfl (by decide) (by rw [hY]; exact q968) rfl rfl rfl rfl kk
theorem SX15_46 {w : eW} {d : Nat} {Y : eY} {pc : Nat} {ls : eL} {st : List Value} {h : eH} {Q : eO → eH → Prop} {a : Nat} {h' : eH} {x : Nat} (hf : p_V 14 h a 13 (.ref x) = some h') (hd : decode Y.2.1 pc = .ok (.putfield 46, 3)) (hY : Y.1.cls = RX15) (kk : wp w d Y (pc + 3) ls st h' Q) : wp w d Y pc ls (.ref x :: .ref a :: st) h Q := x_pA (ci := 14) (k := 13) hf hd rfl (by decide) (by rw [hY]; exact q970) rfl rfl rfl rfl kk
theorem SX15_50 {w : eW} {d : Nat} {Y : eY} {pc : Nat} {ls : eL} {st : List Value} {h : eH} {Q : eO → eH → Prop} {a : Nat} {h' : eH} {v : Value} (hf : p_F 14 h a 18 v = some h') (hd : decode Y.2.1 pc = .ok (.putfield 50, 3)) (hY : Y.1.cls = RX15) (hI : Y.1.name = "<init>") (hn : narrow (tyX15 18) v = v) (hfit : fits (tyX15 18) v = true) (kk : wp w d Y (pc + 3) ls st h' Q) : wp w d Y pc ls (v :: .ref a :: st) h Q := x_pF (ci := 14) (k := 18) hf hd rfl (by decide) (by rw [hY]; exact q977) rfl hI (by rw [hY]; rfl) (tyX15_ok 18 (by decide)) hn hfit kk
def fX15_init (this : Nat) (h : eH) : Option (Unit × eH) :=
  (n_arr 100 54 (.int 0) h (64 : Int32)).bind fun q1 =>
  (p_V 14 q1.2 this 0 (.ref q1.1)).bind fun h3 =>
  (n_arr 100 55 (.int 0) h3 (64 : Int32)).bind fun q5 =>
  (p_V 14 q5.2 this 1 (.ref q5.1)).bind fun h7 =>
  (n_arr 102 56 (.int 0) h7 (64 : Int32)).bind fun q9 =>
  (p_V 14 q9.2 this 2 (.ref q9.1)).bind fun h11 =>
  (n_arr 100 57 (.int 0) h11 (64 : Int32)).bind fun q13 =>
  (p_V 14 q13.2 this 3 (.ref q13.1)).bind fun h15 =>
  (n_arr 100 58 (.int 0) h15 (64 : Int32)).bind fun q17 =>
  (p_V 14 q17.2 this 4 (.ref q17.1)).bind fun h19 =>
  (n_arr 100 59 (.int 0) h19 (64 : Int32)).bind fun q21 =>
  (p_V 14 q21.2 this 6 (.ref q21.1)).bind fun h23 =>
  (n_arr 100 60 (.int 0) h23 (64 : Int32)).bind fun q25 =>
  (p_V 14 q25.2 this 7 (.ref q25.1)).bind fun h27 =>
  (n_arr 100 61 (.int 0) h27 (64 : Int32)).bind fun q29 =>
  (p_V 14 q29.2 this 8 (.ref q29.1)).bind fun h31 =>
  (n_arr 100 62 (.int 0) h31 (256 : Int32)).bind fun q33 =>
  (p_V 14 q33.2 this 10 (.ref q33.1)).bind fun h35 =>
  (n_arr 100 63 (.int 0) h35 (256 : Int32)).bind fun q37 =>
  (p_V 14 q37.2 this 11 (.ref q37.1)).bind fun h39 =>
  (n_arr 100 64 (.int 0) h39 (64 : Int32)).bind fun q41 =>
  (p_V 14 q41.2 this 12 (.ref q41.1)).bind fun h43 =>
  (n_arr 103 65 (.int 0) h43 (256 : Int32)).bind fun q45 =>
  (p_V 14 q45.2 this 13 (.ref q45.1)).bind fun h47 =>
  (n_arr 100 66 (.int 0) h47 (1000 : Int32)).bind fun q49 =>
  (p_F 14 q49.2 this 18 (.ref q49.1)).bind fun h51 =>
  (k_ok 14 h51 this).bind fun _ =>
  (fX15_clear this h51).bind fun q54 =>
  some ((), q54.2)
theorem pX15_init {w : eW} {d : Nat} (hd : 4 ≤ d) {this : Nat} {h : eH} {q} (hf : fX15_init this h = some q) : wm w d YX15_init [.ref this] h (e_is (e_rn c_V q)) := by
  obtain ⟨d, rfl⟩ : ∃ e, d = e + 1 := ⟨d - 1, by omega⟩
  show wp w (d + 1) YX15_init 0 [some (.ref this)] [] h _
  unfold fX15_init at hf
  refine w_aload_n dX15_init_0 rfl rfl ?_
  refine w_obj dX15_init_1 q941 q490 q491 (by decide) ?_
  refine w_aload_n dX15_init_4 rfl rfl ?_
  refine w_bipush dX15_init_5 (v := 64) (by decide) ?_
  obtain ⟨q1, b2, hf⟩ := Option.bind_eq_some_iff.mp hf
  refine x_newI (g := 54) b2 dX15_init_7 q582 ?_
  obtain ⟨h3, b4, hf⟩ := Option.bind_eq_some_iff.mp hf
  refine SX15_9 b4 dX15_init_9 rfl ?_
  refine w_aload_n dX15_init_12 rfl rfl ?_
  refine w_bipush dX15_init_13 (v := 64) (by decide) ?_
  obtain ⟨q5, b6, hf⟩ := Option.bind_eq_some_iff.mp hf
  refine x_newI (g := 55) b6 dX15_init_15 q582 ?_
  obtain ⟨h7, b8, hf⟩ := Option.bind_eq_some_iff.mp hf
  refine SX15_15 b8 dX15_init_17 rfl ?_
  refine w_aload_n dX15_init_20 rfl rfl ?_
  refine w_bipush dX15_init_21 (v := 64) (by decide) ?_
  obtain ⟨q9, b10, hf⟩ := Option.bind_eq_some_iff.mp hf
  refine x_newB (g := 56) b10 dX15_init_23 q507 ?_
  obtain ⟨h11, b12, hf⟩ := Option.bind_eq_some_iff.mp hf
  refine SX15_18 b12 dX15_init_25 rfl ?_
  refine w_aload_n dX15_init_28 rfl rfl ?_
  refine w_bipush dX15_init_29 (v := 64) (by decide) ?_
  obtain ⟨q13, b14, hf⟩ := Option.bind_eq_some_iff.mp hf
  refine x_newI (g := 57) b14 dX15_init_31 q582 ?_
  obtain ⟨h15, b16, hf⟩ := Option.bind_eq_some_iff.mp hf
  refine SX15_22 b16 dX15_init_33 rfl ?_
  refine w_aload_n dX15_init_36 rfl rfl ?_
  refine w_bipush dX15_init_37 (v := 64) (by decide) ?_
  obtain ⟨q17, b18, hf⟩ := Option.bind_eq_some_iff.mp hf
  refine x_newI (g := 58) b18 dX15_init_39 q582 ?_
  obtain ⟨h19, b20, hf⟩ := Option.bind_eq_some_iff.mp hf
  refine SX15_25 b20 dX15_init_41 rfl ?_
  refine w_aload_n dX15_init_44 rfl rfl ?_
  refine w_bipush dX15_init_45 (v := 64) (by decide) ?_
  obtain ⟨q21, b22, hf⟩ := Option.bind_eq_some_iff.mp hf
  refine x_newI (g := 59) b22 dX15_init_47 q582 ?_
  obtain ⟨h23, b24, hf⟩ := Option.bind_eq_some_iff.mp hf
  refine SX15_28 b24 dX15_init_49 rfl ?_
  refine w_aload_n dX15_init_52 rfl rfl ?_
  refine w_bipush dX15_init_53 (v := 64) (by decide) ?_
  obtain ⟨q25, b26, hf⟩ := Option.bind_eq_some_iff.mp hf
  refine x_newI (g := 60) b26 dX15_init_55 q582 ?_
  obtain ⟨h27, b28, hf⟩ := Option.bind_eq_some_iff.mp hf
  refine SX15_31 b28 dX15_init_57 rfl ?_
  refine w_aload_n dX15_init_60 rfl rfl ?_
  refine w_bipush dX15_init_61 (v := 64) (by decide) ?_
  obtain ⟨q29, b30, hf⟩ := Option.bind_eq_some_iff.mp hf
  refine x_newI (g := 61) b30 dX15_init_63 q582 ?_
  obtain ⟨h31, b32, hf⟩ := Option.bind_eq_some_iff.mp hf
  refine SX15_34 b32 dX15_init_65 rfl ?_
  refine w_aload_n dX15_init_68 rfl rfl ?_
  refine w_sipush dX15_init_69 (v := 256) (by decide) ?_
  obtain ⟨q33, b34, hf⟩ := Option.bind_eq_some_iff.mp hf
  refine x_newI (g := 62) b34 dX15_init_72 q582 ?_
  obtain ⟨h35, b36, hf⟩ := Option.bind_eq_some_iff.mp hf
  refine SX15_37 b36 dX15_init_74 rfl ?_
  refine w_aload_n dX15_init_77 rfl rfl ?_
  refine w_sipush dX15_init_78 (v := 256) (by decide) ?_
  obtain ⟨q37, b38, hf⟩ := Option.bind_eq_some_iff.mp hf
  refine x_newI (g := 63) b38 dX15_init_81 q582 ?_
  obtain ⟨h39, b40, hf⟩ := Option.bind_eq_some_iff.mp hf
  refine SX15_40 b40 dX15_init_83 rfl ?_
  refine w_aload_n dX15_init_86 rfl rfl ?_
  refine w_bipush dX15_init_87 (v := 64) (by decide) ?_
  obtain ⟨q41, b42, hf⟩ := Option.bind_eq_some_iff.mp hf
  refine x_newI (g := 64) b42 dX15_init_89 q582 ?_
  obtain ⟨h43, b44, hf⟩ := Option.bind_eq_some_iff.mp hf
  refine SX15_43 b44 dX15_init_91 rfl ?_
  refine w_aload_n dX15_init_94 rfl rfl ?_
  refine w_sipush dX15_init_95 (v := 256) (by decide) ?_
  obtain ⟨q45, b46, hf⟩ := Option.bind_eq_some_iff.mp hf
  refine x_newZ (g := 65) b46 dX15_init_98 q583 ?_
  obtain ⟨h47, b48, hf⟩ := Option.bind_eq_some_iff.mp hf
  refine SX15_46 b48 dX15_init_100 rfl ?_
  refine w_aload_n dX15_init_103 rfl rfl ?_
  refine w_sipush dX15_init_104 (v := 1000) (by decide) ?_
  obtain ⟨q49, b50, hf⟩ := Option.bind_eq_some_iff.mp hf
  refine x_newI (g := 66) b50 dX15_init_107 q582 ?_
  obtain ⟨h51, b52, hf⟩ := Option.bind_eq_some_iff.mp hf
  refine SX15_50 b52 dX15_init_109 rfl rfl rfl rfl ?_
  refine w_aload_n dX15_init_112 rfl rfl ?_
  obtain ⟨_, b53, hf⟩ := Option.bind_eq_some_iff.mp hf
  refine x_cnV hf (e_stV (Yc := YX15_clear) (ci := 14) (av := []) (st := []) dX15_init_113 q942 mX15_clear rfl (k_ok_some b53).1 (k_ok_some b53).2) mX15_clear.2.2.1 mX15_clear.2.2.2.2.1 (Nat.le_of_ble_eq_true rfl) (Nat.le_of_ble_eq_true rfl) (fun q hq => pX15_clear (by omega) hq) (fun q54 hf => ?_)
  cases hf
  exact w_vret dX15_init_116 rfl rfl
abbrev cX16_init : ByteArray := prog_32_method_1_code
def yX16_init : MethodName := ⟨RX16, "<init>", "()V"⟩
def YX16_init : eY := (yX16_init, cX16_init, 1, none, [])
theorem mX16_init : e_mi YX16_init 0 := ⟨q1038, rfl, rfl, q1039, by decide, by decide +kernel, (e_sig (by decide +kernel))⟩
theorem dX16_init_0 : decode cX16_init 0 = .ok (.aload_n 0, 1) := dc_42 (by decide +kernel)
theorem dX16_init_1 : decode cX16_init 1 = .ok (.invokespecial 3, 3) := dc_183 (a := 0) (b := 3) (n := 3) (by decide +kernel)
theorem dX16_init_4 : decode cX16_init 4 = .ok (.aload_n 0, 1) := dc_42 (by decide +kernel)
theorem dX16_init_5 : decode cX16_init 5 = .ok (.sipush 512, 3) := dc_17 (a := 2) (b := 0) (v := 512) (by decide +kernel)
theorem dX16_init_8 : decode cX16_init 8 = .ok (.newarray .int, 2) := dc_188_10 (by decide +kernel)
theorem dX16_init_10 : decode cX16_init 10 = .ok (.putfield 11, 3) := dc_181 (a := 0) (b := 11) (n := 11) (by decide +kernel)
theorem dX16_init_13 : decode cX16_init 13 = .ok (.aload_n 0, 1) := dc_42 (by decide +kernel)
theorem dX16_init_14 : decode cX16_init 14 = .ok (.sipush 300, 3) := dc_17 (a := 1) (b := 44) (v := 300) (by decide +kernel)
theorem dX16_init_17 : decode cX16_init 17 = .ok (.newarray .int, 2) := dc_188_10 (by decide +kernel)
theorem dX16_init_19 : decode cX16_init 19 = .ok (.putfield 15, 3) := dc_181 (a := 0) (b := 15) (n := 15) (by decide +kernel)
theorem dX16_init_22 : decode cX16_init 22 = .ok (.aload_n 0, 1) := dc_42 (by decide +kernel)
theorem dX16_init_23 : decode cX16_init 23 = .ok (.sipush 300, 3) := dc_17 (a := 1) (b := 44) (v := 300) (by decide +kernel)
theorem dX16_init_26 : decode cX16_init 26 = .ok (.newarray .int, 2) := dc_188_10 (by decide +kernel)
theorem dX16_init_28 : decode cX16_init 28 = .ok (.putfield 18, 3) := dc_181 (a := 0) (b := 18) (n := 18) (by decide +kernel)
theorem dX16_init_31 : decode cX16_init 31 = .ok (.aload_n 0, 1) := dc_42 (by decide +kernel)
theorem dX16_init_32 : decode cX16_init 32 = .ok (.sipush 300, 3) := dc_17 (a := 1) (b := 44) (v := 300) (by decide +kernel)
theorem dX16_init_35 : decode cX16_init 35 = .ok (.newarray .long, 2) := dc_188_11 (by decide +kernel)
theorem dX16_init_37 : decode cX16_init 37 = .ok (.putfield 21, 3) := dc_181 (a := 0) (b := 21) (n := 21) (by decide +kernel)
theorem dX16_init_40 : decode cX16_init 40 = .ok (.aload_n 0, 1) := dc_42 (by decide +kernel)
theorem dX16_init_41 : decode cX16_init 41 = .ok (.sipush 8000, 3) := dc_17 (a := 31) (b := 64) (v := 8000) (by decide +kernel)
theorem dX16_init_44 : decode cX16_init 44 = .ok (.newarray .byte, 2) := dc_188_8 (by decide +kernel)
theorem dX16_init_46 : decode cX16_init 46 = .ok (.putfield 25, 3) := dc_181 (a := 0) (b := 25) (n := 25) (by decide +kernel)
theorem dX16_init_49 : decode cX16_init 49 = .ok (.aload_n 0, 1) := dc_42 (by decide +kernel)
theorem dX16_init_50 : decode cX16_init 50 = .ok (.ldc 29, 2) := dc_18 (a := 29) (by decide +kernel)
theorem dX16_init_52 : decode cX16_init 52 = .ok (.newarray .int, 2) := dc_188_10 (by decide +kernel)
theorem dX16_init_54 : decode cX16_init 54 = .ok (.putfield 30, 3) := dc_181 (a := 0) (b := 30) (n := 30) (by decide +kernel)
theorem dX16_init_57 : decode cX16_init 57 = .ok (.aload_n 0, 1) := dc_42 (by decide +kernel)
theorem dX16_init_58 : decode cX16_init 58 = .ok (.ldc 29, 2) := dc_18 (a := 29) (by decide +kernel)
theorem dX16_init_60 : decode cX16_init 60 = .ok (.newarray .long, 2) := dc_188_11 (by decide +kernel)
theorem dX16_init_62 : decode cX16_init 62 = .ok (.putfield 33, 3) := dc_181 (a := 0) (b := 33) (n := 33) (by decide +kernel)
theorem dX16_init_65 : decode cX16_init 65 = .ok (.return_, 1) := dc_177 (by decide +kernel)
theorem SX16_11 {w : eW} {d : Nat} {Y : eY} {pc : Nat} {ls : eL} {st : List Value} {h : eH} {Q : eO → eH → Prop} {a : Nat} {h' : eH} {v : Value} (hf : p_F 15 h a 0 v = some h') (hd : decode Y.2.1 pc = .ok (.putfield 11, 3)) (hY : Y.1.cls = RX16) (hI : Y.1.name = "<init>") (hn : narrow (tyX16 0) v = v) (hfit : fits (tyX16 0) v = true) (kk : wp w d Y (pc + 3) ls st h' Q) : wp w d Y pc ls (v :: .ref a :: st) h Q := x_pF (ci := 15) (k := 0) hf hd rfl (by decide) (by rw [hY]; exact q1042) rfl hI (by rw [hY]; rfl) (tyX16_ok 0 (by decide)) hn hfit kk
theorem SX16_15 {w : eW} {d : Nat} {Y : eY} {pc : Nat} {ls : eL} {st : List Value} {h : eH} {Q : eO → eH → Prop} {a : Nat} {h' : eH} {v : Value} (hf : p_F 15 h a 1 v = some h') (hd : decode Y.2.1 pc = .ok (.putfield 15, 3)) (hY : Y.1.cls = RX16) (hI : Y.1.name = "<init>") (hn : narrow (tyX16 1) v = v) (hfit : fits (tyX16 1) v = true) (kk : wp w d Y (pc + 3) ls st h' Q) : wp w d Y pc ls (v :: .ref a :: st) h Q := x_pF (ci := 15) (k := 1) hf hd rfl (by decide) (by rw [hY]; exact q1043) rfl hI (by rw [hY]; rfl) (tyX16_ok 1 (by decide)) hn hfit kk
theorem SX16_18 {w : eW} {d : Nat} {Y : eY} {pc : Nat} {ls : eL} {st : List Value} {h : eH} {Q : eO → eH → Prop} {a : Nat} {h' : eH} {v : Value} (hf : p_F 15 h a 2 v = some h') (hd : decode Y.2.1 pc = .ok (.putfield 18, 3)) (hY : Y.1.cls = RX16) (hI : Y.1.name = "<init>") (hn : narrow (tyX16 2) v = v) (hfit : fits (tyX16 2) v = true) (kk : wp w d Y (pc + 3) ls st h' Q) : wp w d Y pc ls (v :: .ref a :: st) h Q := x_pF (ci := 15) (k := 2) hf hd rfl (by decide) (by rw [hY]; exact q1044) rfl hI (by rw [hY]; rfl) (tyX16_ok 2 (by decide)) hn hfit kk
theorem SX16_21 {w : eW} {d : Nat} {Y : eY} {pc : Nat} {ls : eL} {st : List Value} {h : eH} {Q : eO → eH → Prop} {a : Nat} {h' : eH} {v : Value} (hf : p_F 15 h a 3 v = some h') (hd : decode Y.2.1 pc = .ok (.putfield 21, 3)) (hY : Y.1.cls = RX16) (hI : Y.1.name = "<init>") (hn : narrow (tyX16 3) v = v) (hfit : fits (tyX16 3) v = true) (kk : wp w d Y (pc + 3) ls st h' Q) : wp w d Y pc ls (v :: .ref a :: st) h Q := x_pF (ci := 15) (k := 3) hf hd rfl (by decide) (by rw [hY]; exact q1045) rfl hI (by rw [hY]; rfl) (tyX16_ok 3 (by decide)) hn hfit kk
theorem SX16_25 {w : eW} {d : Nat} {Y : eY} {pc : Nat} {ls : eL} {st : List Value} {h : eH} {Q : eO → eH → Prop} {a : Nat} {h' : eH} {v : Value} (hf : p_F 15 h a 4 v = some h') (hd : decode Y.2.1 pc = .ok (.putfield 25, 3)) (hY : Y.1.cls = RX16) (hI : Y.1.name = "<init>") (hn : narrow (tyX16 4) v = v) (hfit : fits (tyX16 4) v = true) (kk : wp w d Y (pc + 3) ls st h' Q) : wp w d Y pc ls (v :: .ref a :: st) h Q := x_pF (ci := 15) (k := 4) hf hd rfl (by decide) (by rw [hY]; exact q1046) rfl hI (by rw [hY]; rfl) (tyX16_ok 4 (by decide)) hn hfit kk
theorem SX16_30 {w : eW} {d : Nat} {Y : eY} {pc : Nat} {ls : eL} {st : List Value} {h : eH} {Q : eO → eH → Prop} {a : Nat} {h' : eH} {v : Value} (hf : p_F 15 h a 9 v = some h') (hd : decode Y.2.1 pc = .ok (.putfield 30, 3)) (hY : Y.1.cls = RX16) (hI : Y.1.name = "<init>") (hn : narrow (tyX16 9) v = v) (hfit : fits (tyX16 9) v = true) (kk : wp w d Y (pc + 3) ls st h' Q) : wp w d Y pc ls (v :: .ref a :: st) h Q := x_pF (ci := 15) (k := 9) hf hd rfl (by decide) (by rw [hY]; exact q1053) rfl hI (by rw [hY]; rfl) (tyX16_ok 9 (by decide)) hn hfit kk
theorem SX16_33 {w : eW} {d : Nat} {Y : eY} {pc : Nat} {ls : eL} {st : List Value} {h : eH} {Q : eO → eH → Prop} {a : Nat} {h' : eH} {v : Value} (hf : p_F 15 h a 10 v = some h') (hd : decode Y.2.1 pc = .ok (.putfield 33, 3)) (hY : Y.1.cls = RX16) (hI : Y.1.name = "<init>") (hn : narrow (tyX16 10) v = v) (hfit : fits (tyX16 10) v = true) (kk : wp w d Y (pc + 3) ls st h' Q) : wp w d Y pc ls (v :: .ref a :: st) h Q := x_pF (ci := 15) (k := 10) hf hd rfl (by decide) (by rw [hY]; exact q1054) rfl hI (by rw [hY]; rfl) (tyX16_ok 10 (by decide)) hn hfit kk
def fX16_init (this : Nat) (h : eH) : Option (Unit × eH) :=
  (n_arr 100 67 (.int 0) h (512 : Int32)).bind fun q1 =>
  (p_F 15 q1.2 this 0 (.ref q1.1)).bind fun h3 =>
  (n_arr 100 68 (.int 0) h3 (300 : Int32)).bind fun q5 =>
  (p_F 15 q5.2 this 1 (.ref q5.1)).bind fun h7 =>
  (n_arr 100 69 (.int 0) h7 (300 : Int32)).bind fun q9 =>
  (p_F 15 q9.2 this 2 (.ref q9.1)).bind fun h11 =>
  (n_arr 101 70 (.long 0) h11 (300 : Int32)).bind fun q13 =>
  (p_F 15 q13.2 this 3 (.ref q13.1)).bind fun h15 =>
  (n_arr 102 71 (.int 0) h15 (8000 : Int32)).bind fun q17 =>
  (p_F 15 q17.2 this 4 (.ref q17.1)).bind fun h19 =>
  (n_arr 100 72 (.int 0) h19 (32769 : Int32)).bind fun q21 =>
  (p_F 15 q21.2 this 9 (.ref q21.1)).bind fun h23 =>
  (n_arr 101 73 (.long 0) h23 (32769 : Int32)).bind fun q25 =>
  (p_F 15 q25.2 this 10 (.ref q25.1)).bind fun h27 =>
  some ((), h27)
theorem pX16_init {w : eW} {d : Nat} (hd : 1 ≤ d) {this : Nat} {h : eH} {q} (hf : fX16_init this h = some q) : wm w d YX16_init [.ref this] h (e_is (e_rn c_V q)) := by
  obtain ⟨d, rfl⟩ : ∃ e, d = e + 1 := ⟨d - 1, by omega⟩
  show wp w (d + 1) YX16_init 0 [some (.ref this)] [] h _
  unfold fX16_init at hf
  refine w_aload_n dX16_init_0 rfl rfl ?_
  refine w_obj dX16_init_1 q1040 q490 q491 (by decide) ?_
  refine w_aload_n dX16_init_4 rfl rfl ?_
  refine w_sipush dX16_init_5 (v := 512) (by decide) ?_
  obtain ⟨q1, b2, hf⟩ := Option.bind_eq_some_iff.mp hf
  refine x_newI (g := 67) b2 dX16_init_8 q582 ?_
  obtain ⟨h3, b4, hf⟩ := Option.bind_eq_some_iff.mp hf
  refine SX16_11 b4 dX16_init_10 rfl rfl rfl rfl ?_
  refine w_aload_n dX16_init_13 rfl rfl ?_
  refine w_sipush dX16_init_14 (v := 300) (by decide) ?_
  obtain ⟨q5, b6, hf⟩ := Option.bind_eq_some_iff.mp hf
  refine x_newI (g := 68) b6 dX16_init_17 q582 ?_
  obtain ⟨h7, b8, hf⟩ := Option.bind_eq_some_iff.mp hf
  refine SX16_15 b8 dX16_init_19 rfl rfl rfl rfl ?_
  refine w_aload_n dX16_init_22 rfl rfl ?_
  refine w_sipush dX16_init_23 (v := 300) (by decide) ?_
  obtain ⟨q9, b10, hf⟩ := Option.bind_eq_some_iff.mp hf
  refine x_newI (g := 69) b10 dX16_init_26 q582 ?_
  obtain ⟨h11, b12, hf⟩ := Option.bind_eq_some_iff.mp hf
  refine SX16_18 b12 dX16_init_28 rfl rfl rfl rfl ?_
  refine w_aload_n dX16_init_31 rfl rfl ?_
  refine w_sipush dX16_init_32 (v := 300) (by decide) ?_
  obtain ⟨q13, b14, hf⟩ := Option.bind_eq_some_iff.mp hf
  refine x_newL (g := 70) b14 dX16_init_35 q1081 ?_
  obtain ⟨h15, b16, hf⟩ := Option.bind_eq_some_iff.mp hf
  refine SX16_21 b16 dX16_init_37 rfl rfl rfl rfl ?_
  refine w_aload_n dX16_init_40 rfl rfl ?_
  refine w_sipush dX16_init_41 (v := 8000) (by decide) ?_
  obtain ⟨q17, b18, hf⟩ := Option.bind_eq_some_iff.mp hf
  refine x_newB (g := 71) b18 dX16_init_44 q507 ?_
  obtain ⟨h19, b20, hf⟩ := Option.bind_eq_some_iff.mp hf
  refine SX16_25 b20 dX16_init_46 rfl rfl rfl rfl ?_
  refine w_aload_n dX16_init_49 rfl rfl ?_
  refine w_ldc dX16_init_50 q1041 ?_
  obtain ⟨q21, b22, hf⟩ := Option.bind_eq_some_iff.mp hf
  refine x_newI (g := 72) b22 dX16_init_52 q582 ?_
  obtain ⟨h23, b24, hf⟩ := Option.bind_eq_some_iff.mp hf
  refine SX16_30 b24 dX16_init_54 rfl rfl rfl rfl ?_
  refine w_aload_n dX16_init_57 rfl rfl ?_
  refine w_ldc dX16_init_58 q1041 ?_
  obtain ⟨q25, b26, hf⟩ := Option.bind_eq_some_iff.mp hf
  refine x_newL (g := 73) b26 dX16_init_60 q1081 ?_
  obtain ⟨h27, b28, hf⟩ := Option.bind_eq_some_iff.mp hf
  refine SX16_33 b28 dX16_init_62 rfl rfl rfl rfl ?_
  cases hf
  exact w_vret dX16_init_65 rfl rfl
abbrev cX17_init : ByteArray := prog_12_method_1_code
def yX17_init : MethodName := ⟨RX17, "<init>", "()V"⟩
def YX17_init : eY := (yX17_init, cX17_init, 1, none, [])
theorem mX17_init : e_mi YX17_init 0 := ⟨q1085, rfl, rfl, q1086, by decide, by decide +kernel, (e_sig (by decide +kernel))⟩
theorem dX17_init_0 : decode cX17_init 0 = .ok (.aload_n 0, 1) := dc_42 (by decide +kernel)
theorem dX17_init_1 : decode cX17_init 1 = .ok (.invokespecial 3, 3) := dc_183 (a := 0) (b := 3) (n := 3) (by decide +kernel)
theorem dX17_init_4 : decode cX17_init 4 = .ok (.aload_n 0, 1) := dc_42 (by decide +kernel)
theorem dX17_init_5 : decode cX17_init 5 = .ok (.bipush 66, 2) := dc_16 (a := 66) (v := 66) (by decide +kernel)
theorem dX17_init_7 : decode cX17_init 7 = .ok (.newarray .byte, 2) := dc_188_8 (by decide +kernel)
theorem dX17_init_9 : decode cX17_init 9 = .ok (.putfield 9, 3) := dc_181 (a := 0) (b := 9) (n := 9) (by decide +kernel)
theorem dX17_init_12 : decode cX17_init 12 = .ok (.aload_n 0, 1) := dc_42 (by decide +kernel)
theorem dX17_init_13 : decode cX17_init 13 = .ok (.bipush 67, 2) := dc_16 (a := 67) (v := 67) (by decide +kernel)
theorem dX17_init_15 : decode cX17_init 15 = .ok (.newarray .byte, 2) := dc_188_8 (by decide +kernel)
theorem dX17_init_17 : decode cX17_init 17 = .ok (.putfield 15, 3) := dc_181 (a := 0) (b := 15) (n := 15) (by decide +kernel)
theorem dX17_init_20 : decode cX17_init 20 = .ok (.return_, 1) := dc_177 (by decide +kernel)
theorem SX17_15 {w : eW} {d : Nat} {Y : eY} {pc : Nat} {ls : eL} {st : List Value} {h : eH} {Q : eO → eH → Prop} {a : Nat} {h' : eH} {v : Value} (hf : p_F 16 h a 1 v = some h') (hd : decode Y.2.1 pc = .ok (.putfield 15, 3)) (hY : Y.1.cls = RX17) (hI : Y.1.name = "<init>") (hn : narrow (tyX17 1) v = v) (hfit : fits (tyX17 1) v = true) (kk : wp w d Y (pc + 3) ls st h' Q) : wp w d Y pc ls (v :: .ref a :: st) h Q := x_pF (ci := 16) (k := 1) hf hd rfl (by decide) (by rw [hY]; exact q1091) rfl hI (by rw [hY]; rfl) (tyX17_ok 1 (by decide)) hn hfit kk
theorem SX17_9 {w : eW} {d : Nat} {Y : eY} {pc : Nat} {ls : eL} {st : List Value} {h : eH} {Q : eO → eH → Prop} {a : Nat} {h' : eH} {v : Value} (hf : p_F 16 h a 0 v = some h') (hd : decode Y.2.1 pc = .ok (.putfield 9, 3)) (hY : Y.1.cls = RX17) (hI : Y.1.name = "<init>") (hn : narrow (tyX17 0) v = v) (hfit : fits (tyX17 0) v = true) (kk : wp w d Y (pc + 3) ls st h' Q) : wp w d Y pc ls (v :: .ref a :: st) h Q := x_pF (ci := 16) (k := 0) hf hd rfl (by decide) (by rw [hY]; exact q1088) rfl hI (by rw [hY]; rfl) (tyX17_ok 0 (by decide)) hn hfit kk
def fX17_init (this : Nat) (h : eH) : Option (Unit × eH) :=
  (n_arr 102 74 (.int 0) h (66 : Int32)).bind fun q1 =>
  (p_F 16 q1.2 this 0 (.ref q1.1)).bind fun h3 =>
  (n_arr 102 75 (.int 0) h3 (67 : Int32)).bind fun q5 =>
  (p_F 16 q5.2 this 1 (.ref q5.1)).bind fun h7 =>
  some ((), h7)
theorem pX17_init {w : eW} {d : Nat} (hd : 1 ≤ d) {this : Nat} {h : eH} {q} (hf : fX17_init this h = some q) : wm w d YX17_init [.ref this] h (e_is (e_rn c_V q)) := by
  obtain ⟨d, rfl⟩ : ∃ e, d = e + 1 := ⟨d - 1, by omega⟩
  show wp w (d + 1) YX17_init 0 [some (.ref this)] [] h _
  unfold fX17_init at hf
  refine w_aload_n dX17_init_0 rfl rfl ?_
  refine w_obj dX17_init_1 q1087 q490 q491 (by decide) ?_
  refine w_aload_n dX17_init_4 rfl rfl ?_
  refine w_bipush dX17_init_5 (v := 66) (by decide) ?_
  obtain ⟨q1, b2, hf⟩ := Option.bind_eq_some_iff.mp hf
  refine x_newB (g := 74) b2 dX17_init_7 q507 ?_
  obtain ⟨h3, b4, hf⟩ := Option.bind_eq_some_iff.mp hf
  refine SX17_9 b4 dX17_init_9 rfl rfl rfl rfl ?_
  refine w_aload_n dX17_init_12 rfl rfl ?_
  refine w_bipush dX17_init_13 (v := 67) (by decide) ?_
  obtain ⟨q5, b6, hf⟩ := Option.bind_eq_some_iff.mp hf
  refine x_newB (g := 75) b6 dX17_init_15 q507 ?_
  obtain ⟨h7, b8, hf⟩ := Option.bind_eq_some_iff.mp hf
  refine SX17_15 b8 dX17_init_17 rfl rfl rfl rfl ?_
  cases hf
  exact w_vret dX17_init_20 rfl rfl
abbrev cX14_init : ByteArray := prog_10_method_1_code
def yX14_init : MethodName := ⟨RX14, "<init>", "()V"⟩
def YX14_init : eY := (yX14_init, cX14_init, 1, none, [])
theorem mX14_init : e_mi YX14_init 0 := ⟨q933, rfl, rfl, q934, by decide, by decide +kernel, (e_sig (by decide +kernel))⟩
theorem dX14_init_0 : decode cX14_init 0 = .ok (.aload_n 0, 1) := dc_42 (by decide +kernel)
theorem dX14_init_1 : decode cX14_init 1 = .ok (.invokespecial 3, 3) := dc_183 (a := 0) (b := 3) (n := 3) (by decide +kernel)
theorem dX14_init_4 : decode cX14_init 4 = .ok (.aload_n 0, 1) := dc_42 (by decide +kernel)
theorem dX14_init_5 : decode cX14_init 5 = .ok (.new 9, 3) := dc_187 (a := 0) (b := 9) (n := 9) (by decide +kernel)
theorem dX14_init_8 : decode cX14_init 8 = .ok (.dup, 1) := dc_89 (by decide +kernel)
theorem dX14_init_9 : decode cX14_init 9 = .ok (.invokespecial 11, 3) := dc_183 (a := 0) (b := 11) (n := 11) (by decide +kernel)
theorem dX14_init_12 : decode cX14_init 12 = .ok (.putfield 12, 3) := dc_181 (a := 0) (b := 12) (n := 12) (by decide +kernel)
theorem dX14_init_15 : decode cX14_init 15 = .ok (.aload_n 0, 1) := dc_42 (by decide +kernel)
theorem dX14_init_16 : decode cX14_init 16 = .ok (.new 18, 3) := dc_187 (a := 0) (b := 18) (n := 18) (by decide +kernel)
theorem dX14_init_19 : decode cX14_init 19 = .ok (.dup, 1) := dc_89 (by decide +kernel)
theorem dX14_init_20 : decode cX14_init 20 = .ok (.invokespecial 20, 3) := dc_183 (a := 0) (b := 20) (n := 20) (by decide +kernel)
theorem dX14_init_23 : decode cX14_init 23 = .ok (.putfield 21, 3) := dc_181 (a := 0) (b := 21) (n := 21) (by decide +kernel)
theorem dX14_init_26 : decode cX14_init 26 = .ok (.aload_n 0, 1) := dc_42 (by decide +kernel)
theorem dX14_init_27 : decode cX14_init 27 = .ok (.new 25, 3) := dc_187 (a := 0) (b := 25) (n := 25) (by decide +kernel)
theorem dX14_init_30 : decode cX14_init 30 = .ok (.dup, 1) := dc_89 (by decide +kernel)
theorem dX14_init_31 : decode cX14_init 31 = .ok (.invokespecial 27, 3) := dc_183 (a := 0) (b := 27) (n := 27) (by decide +kernel)
theorem dX14_init_34 : decode cX14_init 34 = .ok (.putfield 28, 3) := dc_181 (a := 0) (b := 28) (n := 28) (by decide +kernel)
theorem dX14_init_37 : decode cX14_init 37 = .ok (.aload_n 0, 1) := dc_42 (by decide +kernel)
theorem dX14_init_38 : decode cX14_init 38 = .ok (.new 25, 3) := dc_187 (a := 0) (b := 25) (n := 25) (by decide +kernel)
theorem dX14_init_41 : decode cX14_init 41 = .ok (.dup, 1) := dc_89 (by decide +kernel)
theorem dX14_init_42 : decode cX14_init 42 = .ok (.invokespecial 27, 3) := dc_183 (a := 0) (b := 27) (n := 27) (by decide +kernel)
theorem dX14_init_45 : decode cX14_init 45 = .ok (.putfield 32, 3) := dc_181 (a := 0) (b := 32) (n := 32) (by decide +kernel)
theorem dX14_init_48 : decode cX14_init 48 = .ok (.return_, 1) := dc_177 (by decide +kernel)
theorem SX14_12 {w : eW} {d : Nat} {Y : eY} {pc : Nat} {ls : eL} {st : List Value} {h : eH} {Q : eO → eH → Prop} {a : Nat} {h' : eH} {v : Value} (hf : p_F 13 h a 0 v = some h') (hd : decode Y.2.1 pc = .ok (.putfield 12, 3)) (hY : Y.1.cls = RX14) (hI : Y.1.name = "<init>") (hn : narrow (tyX14 0) v = v) (hfit : fits (tyX14 0) v = true) (kk : wp w d Y (pc + 3) ls st h' Q) : wp w d Y pc ls (v :: .ref a :: st) h Q := x_pF (ci := 13) (k := 0) hf hd rfl (by decide) (by rw [hY]; exact q1106) rfl hI (by rw [hY]; rfl) (tyX14_ok 0 (by decide)) hn hfit kk
theorem SX14_21 {w : eW} {d : Nat} {Y : eY} {pc : Nat} {ls : eL} {st : List Value} {h : eH} {Q : eO → eH → Prop} {a : Nat} {h' : eH} {v : Value} (hf : p_F 13 h a 1 v = some h') (hd : decode Y.2.1 pc = .ok (.putfield 21, 3)) (hY : Y.1.cls = RX14) (hI : Y.1.name = "<init>") (hn : narrow (tyX14 1) v = v) (hfit : fits (tyX14 1) v = true) (kk : wp w d Y (pc + 3) ls st h' Q) : wp w d Y pc ls (v :: .ref a :: st) h Q := x_pF (ci := 13) (k := 1) hf hd rfl (by decide) (by rw [hY]; exact q1107) rfl hI (by rw [hY]; rfl) (tyX14_ok 1 (by decide)) hn hfit kk
theorem SX14_28 {w : eW} {d : Nat} {Y : eY} {pc : Nat} {ls : eL} {st : List Value} {h : eH} {Q : eO → eH → Prop} {a : Nat} {h' : eH} {v : Value} (hf : p_F 13 h a 2 v = some h') (hd : decode Y.2.1 pc = .ok (.putfield 28, 3)) (hY : Y.1.cls = RX14) (hI : Y.1.name = "<init>") (hn : narrow (tyX14 2) v = v) (hfit : fits (tyX14 2) v = true) (kk : wp w d Y (pc + 3) ls st h' Q) : wp w d Y pc ls (v :: .ref a :: st) h Q := x_pF (ci := 13) (k := 2) hf hd rfl (by decide) (by rw [hY]; exact q1108) rfl hI (by rw [hY]; rfl) (tyX14_ok 2 (by decide)) hn hfit kk
theorem SX14_32 {w : eW} {d : Nat} {Y : eY} {pc : Nat} {ls : eL} {st : List Value} {h : eH} {Q : eO → eH → Prop} {a : Nat} {h' : eH} {v : Value} (hf : p_F 13 h a 3 v = some h') (hd : decode Y.2.1 pc = .ok (.putfield 32, 3)) (hY : Y.1.cls = RX14) (hI : Y.1.name = "<init>") (hn : narrow (tyX14 3) v = v) (hfit : fits (tyX14 3) v = true) (kk : wp w d Y (pc + 3) ls st h' Q) : wp w d Y pc ls (v :: .ref a :: st) h Q := x_pF (ci := 13) (k := 3) hf hd rfl (by decide) (by rw [hY]; exact q1109) rfl hI (by rw [hY]; rfl) (tyX14_ok 3 (by decide)) hn hfit kk
def fX14_init (this : Nat) (h : eH) : Option (Unit × eH) :=
  (n_obj 14 76 25 tyX15 h).bind fun q1 =>
  (fX15_init q1.1 q1.2).bind fun q3 =>
  (p_F 13 q3.2 this 0 (.ref q1.1)).bind fun h4 =>
  (n_obj 15 77 12 tyX16 h4).bind fun q6 =>
  (fX16_init q6.1 q6.2).bind fun q8 =>
  (p_F 13 q8.2 this 1 (.ref q6.1)).bind fun h9 =>
  (n_obj 16 78 3 tyX17 h9).bind fun q11 =>
  (fX17_init q11.1 q11.2).bind fun q13 =>
  (p_F 13 q13.2 this 2 (.ref q11.1)).bind fun h14 =>
  (n_obj 16 79 3 tyX17 h14).bind fun q16 =>
  (fX17_init q16.1 q16.2).bind fun q18 =>
  (p_F 13 q18.2 this 3 (.ref q16.1)).bind fun h19 =>
  some ((), h19)
theorem pX14_init {w : eW} {d : Nat} (hd : 5 ≤ d) {this : Nat} {h : eH} {q} (hf : fX14_init this h = some q) : wm w d YX14_init [.ref this] h (e_is (e_rn c_V q)) := by
  obtain ⟨d, rfl⟩ : ∃ e, d = e + 1 := ⟨d - 1, by omega⟩
  show wp w (d + 1) YX14_init 0 [some (.ref this)] [] h _
  unfold fX14_init at hf
  refine w_aload_n dX14_init_0 rfl rfl ?_
  refine w_obj dX14_init_1 q935 q490 q491 (by decide) ?_
  refine w_aload_n dX14_init_4 rfl rfl ?_
  obtain ⟨q1, b2, hf⟩ := Option.bind_eq_some_iff.mp hf
  refine x_new (ci := 14) (g := 76) b2 dX14_init_5 rfl tyX15_ok q936 q937 q440 ?_
  refine w_dup dX14_init_8 rfl ?_
  refine x_cnV hf (e_stI (Yc := YX15_init) (b := q1.1) (av := []) (st := [.ref q1.1, .ref this]) dX14_init_9 q938 mX15_init) (e_mi.cd mX15_init) mX15_init.2.2.2.2.2.1 (Nat.le_of_ble_eq_true rfl) (Nat.le_of_ble_eq_true rfl) (fun q hq => pX15_init (by omega) hq) (fun q3 hf => ?_)
  obtain ⟨h4, b5, hf⟩ := Option.bind_eq_some_iff.mp hf
  refine SX14_12 b5 dX14_init_12 rfl rfl rfl rfl ?_
  refine w_aload_n dX14_init_15 rfl rfl ?_
  obtain ⟨q6, b7, hf⟩ := Option.bind_eq_some_iff.mp hf
  refine x_new (ci := 15) (g := 77) b7 dX14_init_16 rfl tyX16_ok q1035 q1036 q442 ?_
  refine w_dup dX14_init_19 rfl ?_
  refine x_cnV hf (e_stIN (Yc := YX16_init) (b := q6.1) (av := []) (st := [.ref q6.1, .ref this]) dX14_init_20 q1037 mX16_init) (e_mi.cd mX16_init) mX16_init.2.2.2.2.2.1 (Nat.le_of_ble_eq_true rfl) (Nat.le_of_ble_eq_true rfl) (fun q hq => pX16_init (by omega) hq) (fun q8 hf => ?_)
  obtain ⟨h9, b10, hf⟩ := Option.bind_eq_some_iff.mp hf
  refine SX14_21 b10 dX14_init_23 rfl rfl rfl rfl ?_
  refine w_aload_n dX14_init_26 rfl rfl ?_
  obtain ⟨q11, b12, hf⟩ := Option.bind_eq_some_iff.mp hf
  refine x_new (ci := 16) (g := 78) b12 dX14_init_27 rfl tyX17_ok q1082 q1083 q443 ?_
  refine w_dup dX14_init_30 rfl ?_
  refine x_cnV hf (e_stIN (Yc := YX17_init) (b := q11.1) (av := []) (st := [.ref q11.1, .ref this]) dX14_init_31 q1084 mX17_init) (e_mi.cd mX17_init) mX17_init.2.2.2.2.2.1 (Nat.le_of_ble_eq_true rfl) (Nat.le_of_ble_eq_true rfl) (fun q hq => pX17_init (by omega) hq) (fun q13 hf => ?_)
  obtain ⟨h14, b15, hf⟩ := Option.bind_eq_some_iff.mp hf
  refine SX14_28 b15 dX14_init_34 rfl rfl rfl rfl ?_
  refine w_aload_n dX14_init_37 rfl rfl ?_
  obtain ⟨q16, b17, hf⟩ := Option.bind_eq_some_iff.mp hf
  refine x_new (ci := 16) (g := 79) b17 dX14_init_38 rfl tyX17_ok q1082 q1083 q443 ?_
  refine w_dup dX14_init_41 rfl ?_
  refine x_cnV hf (e_stIN (Yc := YX17_init) (b := q16.1) (av := []) (st := [.ref q16.1, .ref this]) dX14_init_42 q1084 mX17_init) (e_mi.cd mX17_init) mX17_init.2.2.2.2.2.1 (Nat.le_of_ble_eq_true rfl) (Nat.le_of_ble_eq_true rfl) (fun q hq => pX17_init (by omega) hq) (fun q18 hf => ?_)
  obtain ⟨h19, b20, hf⟩ := Option.bind_eq_some_iff.mp hf
  refine SX14_32 b20 dX14_init_45 rfl rfl rfl rfl ?_
  cases hf
  exact w_vret dX14_init_48 rfl rfl
abbrev cX18_init : ByteArray := prog_27_method_1_code
def yX18_init : MethodName := ⟨RX18, "<init>", "()V"⟩
def YX18_init : eY := (yX18_init, cX18_init, 1, none, [])
theorem mX18_init : e_mi YX18_init 0 := ⟨q1134, rfl, rfl, q1135, by decide, by decide +kernel, (e_sig (by decide +kernel))⟩
theorem dX18_init_0 : decode cX18_init 0 = .ok (.aload_n 0, 1) := dc_42 (by decide +kernel)
theorem dX18_init_1 : decode cX18_init 1 = .ok (.invokespecial 3, 3) := dc_183 (a := 0) (b := 3) (n := 3) (by decide +kernel)
theorem dX18_init_4 : decode cX18_init 4 = .ok (.aload_n 0, 1) := dc_42 (by decide +kernel)
theorem dX18_init_5 : decode cX18_init 5 = .ok (.sipush 1132, 3) := dc_17 (a := 4) (b := 108) (v := 1132) (by decide +kernel)
theorem dX18_init_8 : decode cX18_init 8 = .ok (.newarray .int, 2) := dc_188_10 (by decide +kernel)
theorem dX18_init_10 : decode cX18_init 10 = .ok (.putfield 11, 3) := dc_181 (a := 0) (b := 11) (n := 11) (by decide +kernel)
theorem dX18_init_13 : decode cX18_init 13 = .ok (.aload_n 0, 1) := dc_42 (by decide +kernel)
theorem dX18_init_14 : decode cX18_init 14 = .ok (.sipush 1132, 3) := dc_17 (a := 4) (b := 108) (v := 1132) (by decide +kernel)
theorem dX18_init_17 : decode cX18_init 17 = .ok (.newarray .int, 2) := dc_188_10 (by decide +kernel)
theorem dX18_init_19 : decode cX18_init 19 = .ok (.putfield 15, 3) := dc_181 (a := 0) (b := 15) (n := 15) (by decide +kernel)
theorem dX18_init_22 : decode cX18_init 22 = .ok (.aload_n 0, 1) := dc_42 (by decide +kernel)
theorem dX18_init_23 : decode cX18_init 23 = .ok (.sipush 1132, 3) := dc_17 (a := 4) (b := 108) (v := 1132) (by decide +kernel)
theorem dX18_init_26 : decode cX18_init 26 = .ok (.newarray .int, 2) := dc_188_10 (by decide +kernel)
theorem dX18_init_28 : decode cX18_init 28 = .ok (.putfield 18, 3) := dc_181 (a := 0) (b := 18) (n := 18) (by decide +kernel)
theorem dX18_init_31 : decode cX18_init 31 = .ok (.aload_n 0, 1) := dc_42 (by decide +kernel)
theorem dX18_init_32 : decode cX18_init 32 = .ok (.sipush 1132, 3) := dc_17 (a := 4) (b := 108) (v := 1132) (by decide +kernel)
theorem dX18_init_35 : decode cX18_init 35 = .ok (.newarray .int, 2) := dc_188_10 (by decide +kernel)
theorem dX18_init_37 : decode cX18_init 37 = .ok (.putfield 21, 3) := dc_181 (a := 0) (b := 21) (n := 21) (by decide +kernel)
theorem dX18_init_40 : decode cX18_init 40 = .ok (.return_, 1) := dc_177 (by decide +kernel)
theorem SX18_11 {w : eW} {d : Nat} {Y : eY} {pc : Nat} {ls : eL} {st : List Value} {h : eH} {Q : eO → eH → Prop} {a : Nat} {h' : eH} {v : Value} (hf : p_F 17 h a 0 v = some h') (hd : decode Y.2.1 pc = .ok (.putfield 11, 3)) (hY : Y.1.cls = RX18) (hI : Y.1.name = "<init>") (hn : narrow (tyX18 0) v = v) (hfit : fits (tyX18 0) v = true) (kk : wp w d Y (pc + 3) ls st h' Q) : wp w d Y pc ls (v :: .ref a :: st) h Q := x_pF (ci := 17) (k := 0) hf hd rfl (by decide) (by rw [hY]; exact q1137) rfl hI (by rw [hY]; rfl) (tyX18_ok 0 (by decide)) hn hfit kk
theorem SX18_15 {w : eW} {d : Nat} {Y : eY} {pc : Nat} {ls : eL} {st : List Value} {h : eH} {Q : eO → eH → Prop} {a : Nat} {h' : eH} {v : Value} (hf : p_F 17 h a 1 v = some h') (hd : decode Y.2.1 pc = .ok (.putfield 15, 3)) (hY : Y.1.cls = RX18) (hI : Y.1.name = "<init>") (hn : narrow (tyX18 1) v = v) (hfit : fits (tyX18 1) v = true) (kk : wp w d Y (pc + 3) ls st h' Q) : wp w d Y pc ls (v :: .ref a :: st) h Q := x_pF (ci := 17) (k := 1) hf hd rfl (by decide) (by rw [hY]; exact q1138) rfl hI (by rw [hY]; rfl) (tyX18_ok 1 (by decide)) hn hfit kk
theorem SX18_18 {w : eW} {d : Nat} {Y : eY} {pc : Nat} {ls : eL} {st : List Value} {h : eH} {Q : eO → eH → Prop} {a : Nat} {h' : eH} {v : Value} (hf : p_F 17 h a 2 v = some h') (hd : decode Y.2.1 pc = .ok (.putfield 18, 3)) (hY : Y.1.cls = RX18) (hI : Y.1.name = "<init>") (hn : narrow (tyX18 2) v = v) (hfit : fits (tyX18 2) v = true) (kk : wp w d Y (pc + 3) ls st h' Q) : wp w d Y pc ls (v :: .ref a :: st) h Q := x_pF (ci := 17) (k := 2) hf hd rfl (by decide) (by rw [hY]; exact q1139) rfl hI (by rw [hY]; rfl) (tyX18_ok 2 (by decide)) hn hfit kk
theorem SX18_21 {w : eW} {d : Nat} {Y : eY} {pc : Nat} {ls : eL} {st : List Value} {h : eH} {Q : eO → eH → Prop} {a : Nat} {h' : eH} {v : Value} (hf : p_F 17 h a 5 v = some h') (hd : decode Y.2.1 pc = .ok (.putfield 21, 3)) (hY : Y.1.cls = RX18) (hI : Y.1.name = "<init>") (hn : narrow (tyX18 5) v = v) (hfit : fits (tyX18 5) v = true) (kk : wp w d Y (pc + 3) ls st h' Q) : wp w d Y pc ls (v :: .ref a :: st) h Q := x_pF (ci := 17) (k := 5) hf hd rfl (by decide) (by rw [hY]; exact q1143) rfl hI (by rw [hY]; rfl) (tyX18_ok 5 (by decide)) hn hfit kk
def fX18_init (this : Nat) (h : eH) : Option (Unit × eH) :=
  (n_arr 100 80 (.int 0) h (1132 : Int32)).bind fun q1 =>
  (p_F 17 q1.2 this 0 (.ref q1.1)).bind fun h3 =>
  (n_arr 100 81 (.int 0) h3 (1132 : Int32)).bind fun q5 =>
  (p_F 17 q5.2 this 1 (.ref q5.1)).bind fun h7 =>
  (n_arr 100 82 (.int 0) h7 (1132 : Int32)).bind fun q9 =>
  (p_F 17 q9.2 this 2 (.ref q9.1)).bind fun h11 =>
  (n_arr 100 83 (.int 0) h11 (1132 : Int32)).bind fun q13 =>
  (p_F 17 q13.2 this 5 (.ref q13.1)).bind fun h15 =>
  some ((), h15)
theorem pX18_init {w : eW} {d : Nat} (hd : 1 ≤ d) {this : Nat} {h : eH} {q} (hf : fX18_init this h = some q) : wm w d YX18_init [.ref this] h (e_is (e_rn c_V q)) := by
  obtain ⟨d, rfl⟩ : ∃ e, d = e + 1 := ⟨d - 1, by omega⟩
  show wp w (d + 1) YX18_init 0 [some (.ref this)] [] h _
  unfold fX18_init at hf
  refine w_aload_n dX18_init_0 rfl rfl ?_
  refine w_obj dX18_init_1 q1136 q490 q491 (by decide) ?_
  refine w_aload_n dX18_init_4 rfl rfl ?_
  refine w_sipush dX18_init_5 (v := 1132) (by decide) ?_
  obtain ⟨q1, b2, hf⟩ := Option.bind_eq_some_iff.mp hf
  refine x_newI (g := 80) b2 dX18_init_8 q582 ?_
  obtain ⟨h3, b4, hf⟩ := Option.bind_eq_some_iff.mp hf
  refine SX18_11 b4 dX18_init_10 rfl rfl rfl rfl ?_
  refine w_aload_n dX18_init_13 rfl rfl ?_
  refine w_sipush dX18_init_14 (v := 1132) (by decide) ?_
  obtain ⟨q5, b6, hf⟩ := Option.bind_eq_some_iff.mp hf
  refine x_newI (g := 81) b6 dX18_init_17 q582 ?_
  obtain ⟨h7, b8, hf⟩ := Option.bind_eq_some_iff.mp hf
  refine SX18_15 b8 dX18_init_19 rfl rfl rfl rfl ?_
  refine w_aload_n dX18_init_22 rfl rfl ?_
  refine w_sipush dX18_init_23 (v := 1132) (by decide) ?_
  obtain ⟨q9, b10, hf⟩ := Option.bind_eq_some_iff.mp hf
  refine x_newI (g := 82) b10 dX18_init_26 q582 ?_
  obtain ⟨h11, b12, hf⟩ := Option.bind_eq_some_iff.mp hf
  refine SX18_18 b12 dX18_init_28 rfl rfl rfl rfl ?_
  refine w_aload_n dX18_init_31 rfl rfl ?_
  refine w_sipush dX18_init_32 (v := 1132) (by decide) ?_
  obtain ⟨q13, b14, hf⟩ := Option.bind_eq_some_iff.mp hf
  refine x_newI (g := 83) b14 dX18_init_35 q582 ?_
  obtain ⟨h15, b16, hf⟩ := Option.bind_eq_some_iff.mp hf
  refine SX18_21 b16 dX18_init_37 rfl rfl rfl rfl ?_
  cases hf
  exact w_vret dX18_init_40 rfl rfl
abbrev cX19_init : ByteArray := prog_19_method_1_code
def yX19_init : MethodName := ⟨RX19, "<init>", "(LTypeHouse$Pool;[LTypeHouse$Box;)V"⟩
def YX19_init : eY := (yX19_init, cX19_init, 3, none, [])
theorem mX19_init : e_mi YX19_init 2 := ⟨q1160, rfl, rfl, q1161, by decide, by decide +kernel, (e_sig (by decide +kernel))⟩
theorem dX19_init_0 : decode cX19_init 0 = .ok (.aload_n 0, 1) := dc_42 (by decide +kernel)
theorem dX19_init_1 : decode cX19_init 1 = .ok (.invokespecial 3, 3) := dc_183 (a := 0) (b := 3) (n := 3) (by decide +kernel)
theorem dX19_init_4 : decode cX19_init 4 = .ok (.aload_n 0, 1) := dc_42 (by decide +kernel)
theorem dX19_init_5 : decode cX19_init 5 = .ok (.iconst 4, 1) := dc_7 (by decide +kernel)
theorem dX19_init_6 : decode cX19_init 6 = .ok (.newarray .long, 2) := dc_188_11 (by decide +kernel)
theorem dX19_init_8 : decode cX19_init 8 = .ok (.putfield 9, 3) := dc_181 (a := 0) (b := 9) (n := 9) (by decide +kernel)
theorem dX19_init_11 : decode cX19_init 11 = .ok (.aload_n 0, 1) := dc_42 (by decide +kernel)
theorem dX19_init_12 : decode cX19_init 12 = .ok (.iconst 4, 1) := dc_7 (by decide +kernel)
theorem dX19_init_13 : decode cX19_init 13 = .ok (.newarray .long, 2) := dc_188_11 (by decide +kernel)
theorem dX19_init_15 : decode cX19_init 15 = .ok (.putfield 15, 3) := dc_181 (a := 0) (b := 15) (n := 15) (by decide +kernel)
theorem dX19_init_18 : decode cX19_init 18 = .ok (.aload_n 0, 1) := dc_42 (by decide +kernel)
theorem dX19_init_19 : decode cX19_init 19 = .ok (.aload_n 1, 1) := dc_43 (by decide +kernel)
theorem dX19_init_20 : decode cX19_init 20 = .ok (.putfield 18, 3) := dc_181 (a := 0) (b := 18) (n := 18) (by decide +kernel)
theorem dX19_init_23 : decode cX19_init 23 = .ok (.aload_n 0, 1) := dc_42 (by decide +kernel)
theorem dX19_init_24 : decode cX19_init 24 = .ok (.aload_n 2, 1) := dc_44 (by decide +kernel)
theorem dX19_init_25 : decode cX19_init 25 = .ok (.putfield 22, 3) := dc_181 (a := 0) (b := 22) (n := 22) (by decide +kernel)
theorem dX19_init_28 : decode cX19_init 28 = .ok (.return_, 1) := dc_177 (by decide +kernel)
theorem SX19_15 {w : eW} {d : Nat} {Y : eY} {pc : Nat} {ls : eL} {st : List Value} {h : eH} {Q : eO → eH → Prop} {a : Nat} {h' : eH} {v : Value} (hf : p_F 18 h a 3 v = some h') (hd : decode Y.2.1 pc = .ok (.putfield 15, 3)) (hY : Y.1.cls = RX19) (hI : Y.1.name = "<init>") (hn : narrow (tyX19 3) v = v) (hfit : fits (tyX19 3) v = true) (kk : wp w d Y (pc + 3) ls st h' Q) : wp w d Y pc ls (v :: .ref a :: st) h Q := x_pF (ci := 18) (k := 3) hf hd rfl (by decide) (by rw [hY]; exact q1166) rfl hI (by rw [hY]; rfl) (tyX19_ok 3 (by decide)) hn hfit kk
theorem SX19_18 {w : eW} {d : Nat} {Y : eY} {pc : Nat} {ls : eL} {st : List Value} {h : eH} {Q : eO → eH → Prop} {a : Nat} {h' : eH} {v : Value} (hf : p_F 18 h a 0 v = some h') (hd : decode Y.2.1 pc = .ok (.putfield 18, 3)) (hY : Y.1.cls = RX19) (hI : Y.1.name = "<init>") (hn : narrow (tyX19 0) v = v) (hfit : fits (tyX19 0) v = true) (kk : wp w d Y (pc + 3) ls st h' Q) : wp w d Y pc ls (v :: .ref a :: st) h Q := x_pF (ci := 18) (k := 0) hf hd rfl (by decide) (by rw [hY]; exact q1163) rfl hI (by rw [hY]; rfl) (tyX19_ok 0 (by decide)) hn hfit kk
theorem SX19_22 {w : eW} {d : Nat} {Y : eY} {pc : Nat} {ls : eL} {st : List Value} {h : eH} {Q : eO → eH → Prop} {a : Nat} {h' : eH} {v : Value} (hf : p_F 18 h a 1 v = some h') (hd : decode Y.2.1 pc = .ok (.putfield 22, 3)) (hY : Y.1.cls = RX19) (hI : Y.1.name = "<init>") (hn : narrow (tyX19 1) v = v) (hfit : fits (tyX19 1) v = true) (kk : wp w d Y (pc + 3) ls st h' Q) : wp w d Y pc ls (v :: .ref a :: st) h Q := x_pF (ci := 18) (k := 1) hf hd rfl (by decide) (by rw [hY]; exact q1164) rfl hI (by rw [hY]; rfl) (tyX19_ok 1 (by decide)) hn hfit kk
theorem SX19_9 {w : eW} {d : Nat} {Y : eY} {pc : Nat} {ls : eL} {st : List Value} {h : eH} {Q : eO → eH → Prop} {a : Nat} {h' : eH} {v : Value} (hf : p_F 18 h a 2 v = some h') (hd : decode Y.2.1 pc = .ok (.putfield 9, 3)) (hY : Y.1.cls = RX19) (hI : Y.1.name = "<init>") (hn : narrow (tyX19 2) v = v) (hfit : fits (tyX19 2) v = true) (kk : wp w d Y (pc + 3) ls st h' Q) : wp w d Y pc ls (v :: .ref a :: st) h Q := x_pF (ci := 18) (k := 2) hf hd rfl (by decide) (by rw [hY]; exact q1165) rfl hI (by rw [hY]; rfl) (tyX19_ok 2 (by decide)) hn hfit kk
def fX19_init (this : Nat) (p0 : Nat) (p1 : Nat) (h : eH) : Option (Unit × eH) :=
  (n_arr 101 84 (.long 0) h (4 : Int32)).bind fun q1 =>
  (p_F 18 q1.2 this 2 (.ref q1.1)).bind fun h3 =>
  (n_arr 101 85 (.long 0) h3 (4 : Int32)).bind fun q5 =>
  (p_F 18 q5.2 this 3 (.ref q5.1)).bind fun h7 =>
  (p_F 18 h7 this 0 (.ref p0)).bind fun h9 =>
  (p_F 18 h9 this 1 (.ref p1)).bind fun h11 =>
  some ((), h11)
theorem pX19_init {w : eW} {d : Nat} (hd : 1 ≤ d) {this : Nat} {p0 : Nat} {p1 : Nat} {h : eH} {q} (hf : fX19_init this p0 p1 h = some q) : wm w d YX19_init [.ref this, .ref p0, .ref p1] h (e_is (e_rn c_V q)) := by
  obtain ⟨d, rfl⟩ : ∃ e, d = e + 1 := ⟨d - 1, by omega⟩
  show wp w (d + 1) YX19_init 0 [some (.ref this), some (.ref p0), some (.ref p1)] [] h _
  unfold fX19_init at hf
  refine w_aload_n dX19_init_0 rfl rfl ?_
  refine w_obj dX19_init_1 q1162 q490 q491 (by decide) ?_
  refine w_aload_n dX19_init_4 rfl rfl ?_
  refine w_iconst dX19_init_5 (v := 4) (by decide) ?_
  obtain ⟨q1, b2, hf⟩ := Option.bind_eq_some_iff.mp hf
  refine x_newL (g := 84) b2 dX19_init_6 q1081 ?_
  obtain ⟨h3, b4, hf⟩ := Option.bind_eq_some_iff.mp hf
  refine SX19_9 b4 dX19_init_8 rfl rfl rfl rfl ?_
  refine w_aload_n dX19_init_11 rfl rfl ?_
  refine w_iconst dX19_init_12 (v := 4) (by decide) ?_
  obtain ⟨q5, b6, hf⟩ := Option.bind_eq_some_iff.mp hf
  refine x_newL (g := 85) b6 dX19_init_13 q1081 ?_
  obtain ⟨h7, b8, hf⟩ := Option.bind_eq_some_iff.mp hf
  refine SX19_15 b8 dX19_init_15 rfl rfl rfl rfl ?_
  refine w_aload_n dX19_init_18 rfl rfl ?_
  refine w_aload_n dX19_init_19 rfl rfl ?_
  obtain ⟨h9, b10, hf⟩ := Option.bind_eq_some_iff.mp hf
  refine SX19_18 b10 dX19_init_20 rfl rfl rfl rfl ?_
  refine w_aload_n dX19_init_23 rfl rfl ?_
  refine w_aload_n dX19_init_24 rfl rfl ?_
  obtain ⟨h11, b12, hf⟩ := Option.bind_eq_some_iff.mp hf
  refine SX19_22 b12 dX19_init_25 rfl rfl rfl rfl ?_
  cases hf
  exact w_vret dX19_init_28 rfl rfl
abbrev cX20_init : ByteArray := prog_11_method_1_code
def yX20_init : MethodName := ⟨RX20, "<init>", "(LTypeHouse$Pool;[LTypeHouse$Box;)V"⟩
def YX20_init : eY := (yX20_init, cX20_init, 3, none, [])
theorem mX20_init : e_mi YX20_init 2 := ⟨q1197, rfl, rfl, q1198, by decide, by decide +kernel, (e_sig (by decide +kernel))⟩
theorem dX20_init_0 : decode cX20_init 0 = .ok (.aload_n 0, 1) := dc_42 (by decide +kernel)
theorem dX20_init_1 : decode cX20_init 1 = .ok (.invokespecial 3, 3) := dc_183 (a := 0) (b := 3) (n := 3) (by decide +kernel)
theorem dX20_init_4 : decode cX20_init 4 = .ok (.aload_n 0, 1) := dc_42 (by decide +kernel)
theorem dX20_init_5 : decode cX20_init 5 = .ok (.sipush 18000, 3) := dc_17 (a := 70) (b := 80) (v := 18000) (by decide +kernel)
theorem dX20_init_8 : decode cX20_init 8 = .ok (.newarray .long, 2) := dc_188_11 (by decide +kernel)
theorem dX20_init_10 : decode cX20_init 10 = .ok (.putfield 11, 3) := dc_181 (a := 0) (b := 11) (n := 11) (by decide +kernel)
theorem dX20_init_13 : decode cX20_init 13 = .ok (.aload_n 0, 1) := dc_42 (by decide +kernel)
theorem dX20_init_14 : decode cX20_init 14 = .ok (.bipush 10, 2) := dc_16 (a := 10) (v := 10) (by decide +kernel)
theorem dX20_init_16 : decode cX20_init 16 = .ok (.anewarray 15, 3) := dc_189 (a := 0) (b := 15) (n := 15) (by decide +kernel)
theorem dX20_init_19 : decode cX20_init 19 = .ok (.putfield 17, 3) := dc_181 (a := 0) (b := 17) (n := 17) (by decide +kernel)
theorem dX20_init_22 : decode cX20_init 22 = .ok (.aload_n 0, 1) := dc_42 (by decide +kernel)
theorem dX20_init_23 : decode cX20_init 23 = .ok (.bipush 10, 2) := dc_16 (a := 10) (v := 10) (by decide +kernel)
theorem dX20_init_25 : decode cX20_init 25 = .ok (.newarray .long, 2) := dc_188_11 (by decide +kernel)
theorem dX20_init_27 : decode cX20_init 27 = .ok (.putfield 21, 3) := dc_181 (a := 0) (b := 21) (n := 21) (by decide +kernel)
theorem dX20_init_30 : decode cX20_init 30 = .ok (.aload_n 0, 1) := dc_42 (by decide +kernel)
theorem dX20_init_31 : decode cX20_init 31 = .ok (.bipush 10, 2) := dc_16 (a := 10) (v := 10) (by decide +kernel)
theorem dX20_init_33 : decode cX20_init 33 = .ok (.newarray .long, 2) := dc_188_11 (by decide +kernel)
theorem dX20_init_35 : decode cX20_init 35 = .ok (.putfield 24, 3) := dc_181 (a := 0) (b := 24) (n := 24) (by decide +kernel)
theorem dX20_init_38 : decode cX20_init 38 = .ok (.aload_n 0, 1) := dc_42 (by decide +kernel)
theorem dX20_init_39 : decode cX20_init 39 = .ok (.bipush 10, 2) := dc_16 (a := 10) (v := 10) (by decide +kernel)
theorem dX20_init_41 : decode cX20_init 41 = .ok (.newarray .int, 2) := dc_188_10 (by decide +kernel)
theorem dX20_init_43 : decode cX20_init 43 = .ok (.putfield 27, 3) := dc_181 (a := 0) (b := 27) (n := 27) (by decide +kernel)
theorem dX20_init_46 : decode cX20_init 46 = .ok (.aload_n 0, 1) := dc_42 (by decide +kernel)
theorem dX20_init_47 : decode cX20_init 47 = .ok (.aload_n 1, 1) := dc_43 (by decide +kernel)
theorem dX20_init_48 : decode cX20_init 48 = .ok (.putfield 31, 3) := dc_181 (a := 0) (b := 31) (n := 31) (by decide +kernel)
theorem dX20_init_51 : decode cX20_init 51 = .ok (.aload_n 0, 1) := dc_42 (by decide +kernel)
theorem dX20_init_52 : decode cX20_init 52 = .ok (.aload_n 2, 1) := dc_44 (by decide +kernel)
theorem dX20_init_53 : decode cX20_init 53 = .ok (.putfield 35, 3) := dc_181 (a := 0) (b := 35) (n := 35) (by decide +kernel)
theorem dX20_init_56 : decode cX20_init 56 = .ok (.return_, 1) := dc_177 (by decide +kernel)
theorem SX20_11 {w : eW} {d : Nat} {Y : eY} {pc : Nat} {ls : eL} {st : List Value} {h : eH} {Q : eO → eH → Prop} {a : Nat} {h' : eH} {v : Value} (hf : p_F 19 h a 2 v = some h') (hd : decode Y.2.1 pc = .ok (.putfield 11, 3)) (hY : Y.1.cls = RX20) (hI : Y.1.name = "<init>") (hn : narrow (tyX20 2) v = v) (hfit : fits (tyX20 2) v = true) (kk : wp w d Y (pc + 3) ls st h' Q) : wp w d Y pc ls (v :: .ref a :: st) h Q := x_pF (ci := 19) (k := 2) hf hd rfl (by decide) (by rw [hY]; exact q1203) rfl hI (by rw [hY]; rfl) (tyX20_ok 2 (by decide)) hn hfit kk
theorem SX20_17 {w : eW} {d : Nat} {Y : eY} {pc : Nat} {ls : eL} {st : List Value} {h : eH} {Q : eO → eH → Prop} {a : Nat} {h' : eH} {v : Value} (hf : p_F 19 h a 4 v = some h') (hd : decode Y.2.1 pc = .ok (.putfield 17, 3)) (hY : Y.1.cls = RX20) (hI : Y.1.name = "<init>") (hn : narrow (tyX20 4) v = v) (hfit : fits (tyX20 4) v = true) (kk : wp w d Y (pc + 3) ls st h' Q) : wp w d Y pc ls (v :: .ref a :: st) h Q := x_pF (ci := 19) (k := 4) hf hd rfl (by decide) (by rw [hY]; exact q1207) rfl hI (by rw [hY]; rfl) (tyX20_ok 4 (by decide)) hn hfit kk
theorem SX20_21 {w : eW} {d : Nat} {Y : eY} {pc : Nat} {ls : eL} {st : List Value} {h : eH} {Q : eO → eH → Prop} {a : Nat} {h' : eH} {v : Value} (hf : p_F 19 h a 5 v = some h') (hd : decode Y.2.1 pc = .ok (.putfield 21, 3)) (hY : Y.1.cls = RX20) (hI : Y.1.name = "<init>") (hn : narrow (tyX20 5) v = v) (hfit : fits (tyX20 5) v = true) (kk : wp w d Y (pc + 3) ls st h' Q) : wp w d Y pc ls (v :: .ref a :: st) h Q := x_pF (ci := 19) (k := 5) hf hd rfl (by decide) (by rw [hY]; exact q1208) rfl hI (by rw [hY]; rfl) (tyX20_ok 5 (by decide)) hn hfit kk
theorem SX20_24 {w : eW} {d : Nat} {Y : eY} {pc : Nat} {ls : eL} {st : List Value} {h : eH} {Q : eO → eH → Prop} {a : Nat} {h' : eH} {v : Value} (hf : p_F 19 h a 6 v = some h') (hd : decode Y.2.1 pc = .ok (.putfield 24, 3)) (hY : Y.1.cls = RX20) (hI : Y.1.name = "<init>") (hn : narrow (tyX20 6) v = v) (hfit : fits (tyX20 6) v = true) (kk : wp w d Y (pc + 3) ls st h' Q) : wp w d Y pc ls (v :: .ref a :: st) h Q := x_pF (ci := 19) (k := 6) hf hd rfl (by decide) (by rw [hY]; exact q1209) rfl hI (by rw [hY]; rfl) (tyX20_ok 6 (by decide)) hn hfit kk
theorem SX20_27 {w : eW} {d : Nat} {Y : eY} {pc : Nat} {ls : eL} {st : List Value} {h : eH} {Q : eO → eH → Prop} {a : Nat} {h' : eH} {v : Value} (hf : p_F 19 h a 7 v = some h') (hd : decode Y.2.1 pc = .ok (.putfield 27, 3)) (hY : Y.1.cls = RX20) (hI : Y.1.name = "<init>") (hn : narrow (tyX20 7) v = v) (hfit : fits (tyX20 7) v = true) (kk : wp w d Y (pc + 3) ls st h' Q) : wp w d Y pc ls (v :: .ref a :: st) h Q := x_pF (ci := 19) (k := 7) hf hd rfl (by decide) (by rw [hY]; exact q1210) rfl hI (by rw [hY]; rfl) (tyX20_ok 7 (by decide)) hn hfit kk
theorem SX20_31 {w : eW} {d : Nat} {Y : eY} {pc : Nat} {ls : eL} {st : List Value} {h : eH} {Q : eO → eH → Prop} {a : Nat} {h' : eH} {v : Value} (hf : p_F 19 h a 0 v = some h') (hd : decode Y.2.1 pc = .ok (.putfield 31, 3)) (hY : Y.1.cls = RX20) (hI : Y.1.name = "<init>") (hn : narrow (tyX20 0) v = v) (hfit : fits (tyX20 0) v = true) (kk : wp w d Y (pc + 3) ls st h' Q) : wp w d Y pc ls (v :: .ref a :: st) h Q := x_pF (ci := 19) (k := 0) hf hd rfl (by decide) (by rw [hY]; exact q1201) rfl hI (by rw [hY]; rfl) (tyX20_ok 0 (by decide)) hn hfit kk
theorem SX20_35 {w : eW} {d : Nat} {Y : eY} {pc : Nat} {ls : eL} {st : List Value} {h : eH} {Q : eO → eH → Prop} {a : Nat} {h' : eH} {v : Value} (hf : p_F 19 h a 1 v = some h') (hd : decode Y.2.1 pc = .ok (.putfield 35, 3)) (hY : Y.1.cls = RX20) (hI : Y.1.name = "<init>") (hn : narrow (tyX20 1) v = v) (hfit : fits (tyX20 1) v = true) (kk : wp w d Y (pc + 3) ls st h' Q) : wp w d Y pc ls (v :: .ref a :: st) h Q := x_pF (ci := 19) (k := 1) hf hd rfl (by decide) (by rw [hY]; exact q1202) rfl hI (by rw [hY]; rfl) (tyX20_ok 1 (by decide)) hn hfit kk
def fX20_init (this : Nat) (p0 : Nat) (p1 : Nat) (h : eH) : Option (Unit × eH) :=
  (n_arr 101 86 (.long 0) h (18000 : Int32)).bind fun q1 =>
  (p_F 19 q1.2 this 2 (.ref q1.1)).bind fun h3 =>
  (n_arr 104 87 .null h3 (10 : Int32)).bind fun q5 =>
  (p_F 19 q5.2 this 4 (.ref q5.1)).bind fun h7 =>
  (n_arr 101 88 (.long 0) h7 (10 : Int32)).bind fun q9 =>
  (p_F 19 q9.2 this 5 (.ref q9.1)).bind fun h11 =>
  (n_arr 101 89 (.long 0) h11 (10 : Int32)).bind fun q13 =>
  (p_F 19 q13.2 this 6 (.ref q13.1)).bind fun h15 =>
  (n_arr 100 90 (.int 0) h15 (10 : Int32)).bind fun q17 =>
  (p_F 19 q17.2 this 7 (.ref q17.1)).bind fun h19 =>
  (p_F 19 h19 this 0 (.ref p0)).bind fun h21 =>
  (p_F 19 h21 this 1 (.ref p1)).bind fun h23 =>
  some ((), h23)
theorem pX20_init {w : eW} {d : Nat} (hd : 1 ≤ d) {this : Nat} {p0 : Nat} {p1 : Nat} {h : eH} {q} (hf : fX20_init this p0 p1 h = some q) : wm w d YX20_init [.ref this, .ref p0, .ref p1] h (e_is (e_rn c_V q)) := by
  obtain ⟨d, rfl⟩ : ∃ e, d = e + 1 := ⟨d - 1, by omega⟩
  show wp w (d + 1) YX20_init 0 [some (.ref this), some (.ref p0), some (.ref p1)] [] h _
  unfold fX20_init at hf
  refine w_aload_n dX20_init_0 rfl rfl ?_
  refine w_obj dX20_init_1 q1199 q490 q491 (by decide) ?_
  refine w_aload_n dX20_init_4 rfl rfl ?_
  refine w_sipush dX20_init_5 (v := 18000) (by decide) ?_
  obtain ⟨q1, b2, hf⟩ := Option.bind_eq_some_iff.mp hf
  refine x_newL (g := 86) b2 dX20_init_8 q1081 ?_
  obtain ⟨h3, b4, hf⟩ := Option.bind_eq_some_iff.mp hf
  refine SX20_11 b4 dX20_init_10 rfl rfl rfl rfl ?_
  refine w_aload_n dX20_init_13 rfl rfl ?_
  refine w_bipush dX20_init_14 (v := 10) (by decide) ?_
  obtain ⟨q5, b6, hf⟩ := Option.bind_eq_some_iff.mp hf
  refine x_anew (k := 104) (g := 87) b6 dX20_init_16 (by decide) (by decide) rfl q1200 q637 ?_
  obtain ⟨h7, b8, hf⟩ := Option.bind_eq_some_iff.mp hf
  refine SX20_17 b8 dX20_init_19 rfl rfl rfl rfl ?_
  refine w_aload_n dX20_init_22 rfl rfl ?_
  refine w_bipush dX20_init_23 (v := 10) (by decide) ?_
  obtain ⟨q9, b10, hf⟩ := Option.bind_eq_some_iff.mp hf
  refine x_newL (g := 88) b10 dX20_init_25 q1081 ?_
  obtain ⟨h11, b12, hf⟩ := Option.bind_eq_some_iff.mp hf
  refine SX20_21 b12 dX20_init_27 rfl rfl rfl rfl ?_
  refine w_aload_n dX20_init_30 rfl rfl ?_
  refine w_bipush dX20_init_31 (v := 10) (by decide) ?_
  obtain ⟨q13, b14, hf⟩ := Option.bind_eq_some_iff.mp hf
  refine x_newL (g := 89) b14 dX20_init_33 q1081 ?_
  obtain ⟨h15, b16, hf⟩ := Option.bind_eq_some_iff.mp hf
  refine SX20_24 b16 dX20_init_35 rfl rfl rfl rfl ?_
  refine w_aload_n dX20_init_38 rfl rfl ?_
  refine w_bipush dX20_init_39 (v := 10) (by decide) ?_
  obtain ⟨q17, b18, hf⟩ := Option.bind_eq_some_iff.mp hf
  refine x_newI (g := 90) b18 dX20_init_41 q582 ?_
  obtain ⟨h19, b20, hf⟩ := Option.bind_eq_some_iff.mp hf
  refine SX20_27 b20 dX20_init_43 rfl rfl rfl rfl ?_
  refine w_aload_n dX20_init_46 rfl rfl ?_
  refine w_aload_n dX20_init_47 rfl rfl ?_
  obtain ⟨h21, b22, hf⟩ := Option.bind_eq_some_iff.mp hf
  refine SX20_31 b22 dX20_init_48 rfl rfl rfl rfl ?_
  refine w_aload_n dX20_init_51 rfl rfl ?_
  refine w_aload_n dX20_init_52 rfl rfl ?_
  obtain ⟨h23, b24, hf⟩ := Option.bind_eq_some_iff.mp hf
  refine SX20_35 b24 dX20_init_53 rfl rfl rfl rfl ?_
  cases hf
  exact w_vret dX20_init_56 rfl rfl
abbrev cX22_init : ByteArray := prog_23_method_1_code
def yX22_init : MethodName := ⟨RX22, "<init>", "()V"⟩
def YX22_init : eY := (yX22_init, cX22_init, 1, none, [])
theorem mX22_init : e_mi YX22_init 0 := ⟨q1240, rfl, rfl, q1241, by decide, by decide +kernel, (e_sig (by decide +kernel))⟩
theorem dX22_init_0 : decode cX22_init 0 = .ok (.aload_n 0, 1) := dc_42 (by decide +kernel)
theorem dX22_init_1 : decode cX22_init 1 = .ok (.invokespecial 3, 3) := dc_183 (a := 0) (b := 3) (n := 3) (by decide +kernel)
theorem dX22_init_4 : decode cX22_init 4 = .ok (.aload_n 0, 1) := dc_42 (by decide +kernel)
theorem dX22_init_5 : decode cX22_init 5 = .ok (.sipush 2003, 3) := dc_17 (a := 7) (b := 211) (v := 2003) (by decide +kernel)
theorem dX22_init_8 : decode cX22_init 8 = .ok (.newarray .byte, 2) := dc_188_8 (by decide +kernel)
theorem dX22_init_10 : decode cX22_init 10 = .ok (.putfield 9, 3) := dc_181 (a := 0) (b := 9) (n := 9) (by decide +kernel)
theorem dX22_init_13 : decode cX22_init 13 = .ok (.aload_n 0, 1) := dc_42 (by decide +kernel)
theorem dX22_init_14 : decode cX22_init 14 = .ok (.sipush 2003, 3) := dc_17 (a := 7) (b := 211) (v := 2003) (by decide +kernel)
theorem dX22_init_17 : decode cX22_init 17 = .ok (.newarray .int, 2) := dc_188_10 (by decide +kernel)
theorem dX22_init_19 : decode cX22_init 19 = .ok (.putfield 15, 3) := dc_181 (a := 0) (b := 15) (n := 15) (by decide +kernel)
theorem dX22_init_22 : decode cX22_init 22 = .ok (.aload_n 0, 1) := dc_42 (by decide +kernel)
theorem dX22_init_23 : decode cX22_init 23 = .ok (.sipush 2003, 3) := dc_17 (a := 7) (b := 211) (v := 2003) (by decide +kernel)
theorem dX22_init_26 : decode cX22_init 26 = .ok (.newarray .int, 2) := dc_188_10 (by decide +kernel)
theorem dX22_init_28 : decode cX22_init 28 = .ok (.putfield 19, 3) := dc_181 (a := 0) (b := 19) (n := 19) (by decide +kernel)
theorem dX22_init_31 : decode cX22_init 31 = .ok (.aload_n 0, 1) := dc_42 (by decide +kernel)
theorem dX22_init_32 : decode cX22_init 32 = .ok (.sipush 2003, 3) := dc_17 (a := 7) (b := 211) (v := 2003) (by decide +kernel)
theorem dX22_init_35 : decode cX22_init 35 = .ok (.newarray .int, 2) := dc_188_10 (by decide +kernel)
theorem dX22_init_37 : decode cX22_init 37 = .ok (.putfield 22, 3) := dc_181 (a := 0) (b := 22) (n := 22) (by decide +kernel)
theorem dX22_init_40 : decode cX22_init 40 = .ok (.aload_n 0, 1) := dc_42 (by decide +kernel)
theorem dX22_init_41 : decode cX22_init 41 = .ok (.sipush 2003, 3) := dc_17 (a := 7) (b := 211) (v := 2003) (by decide +kernel)
theorem dX22_init_44 : decode cX22_init 44 = .ok (.newarray .int, 2) := dc_188_10 (by decide +kernel)
theorem dX22_init_46 : decode cX22_init 46 = .ok (.putfield 25, 3) := dc_181 (a := 0) (b := 25) (n := 25) (by decide +kernel)
theorem dX22_init_49 : decode cX22_init 49 = .ok (.return_, 1) := dc_177 (by decide +kernel)
theorem SX22_15 {w : eW} {d : Nat} {Y : eY} {pc : Nat} {ls : eL} {st : List Value} {h : eH} {Q : eO → eH → Prop} {a : Nat} {h' : eH} {v : Value} (hf : p_F 21 h a 1 v = some h') (hd : decode Y.2.1 pc = .ok (.putfield 15, 3)) (hY : Y.1.cls = RX22) (hI : Y.1.name = "<init>") (hn : narrow (tyX22 1) v = v) (hfit : fits (tyX22 1) v = true) (kk : wp w d Y (pc + 3) ls st h' Q) : wp w d Y pc ls (v :: .ref a :: st) h Q := x_pF (ci := 21) (k := 1) hf hd rfl (by decide) (by rw [hY]; exact q1247) rfl hI (by rw [hY]; rfl) (tyX22_ok 1 (by decide)) hn hfit kk
theorem SX22_19 {w : eW} {d : Nat} {Y : eY} {pc : Nat} {ls : eL} {st : List Value} {h : eH} {Q : eO → eH → Prop} {a : Nat} {h' : eH} {v : Value} (hf : p_F 21 h a 2 v = some h') (hd : decode Y.2.1 pc = .ok (.putfield 19, 3)) (hY : Y.1.cls = RX22) (hI : Y.1.name = "<init>") (hn : narrow (tyX22 2) v = v) (hfit : fits (tyX22 2) v = true) (kk : wp w d Y (pc + 3) ls st h' Q) : wp w d Y pc ls (v :: .ref a :: st) h Q := x_pF (ci := 21) (k := 2) hf hd rfl (by decide) (by rw [hY]; exact q1251) rfl hI (by rw [hY]; rfl) (tyX22_ok 2 (by decide)) hn hfit kk
theorem SX22_22 {w : eW} {d : Nat} {Y : eY} {pc : Nat} {ls : eL} {st : List Value} {h : eH} {Q : eO → eH → Prop} {a : Nat} {h' : eH} {v : Value} (hf : p_F 21 h a 3 v = some h') (hd : decode Y.2.1 pc = .ok (.putfield 22, 3)) (hY : Y.1.cls = RX22) (hI : Y.1.name = "<init>") (hn : narrow (tyX22 3) v = v) (hfit : fits (tyX22 3) v = true) (kk : wp w d Y (pc + 3) ls st h' Q) : wp w d Y pc ls (v :: .ref a :: st) h Q := x_pF (ci := 21) (k := 3) hf hd rfl (by decide) (by rw [hY]; exact q1254) rfl hI (by rw [hY]; rfl) (tyX22_ok 3 (by decide)) hn hfit kk
theorem SX22_25 {w : eW} {d : Nat} {Y : eY} {pc : Nat} {ls : eL} {st : List Value} {h : eH} {Q : eO → eH → Prop} {a : Nat} {h' : eH} {v : Value} (hf : p_F 21 h a 4 v = some h') (hd : decode Y.2.1 pc = .ok (.putfield 25, 3)) (hY : Y.1.cls = RX22) (hI : Y.1.name = "<init>") (hn : narrow (tyX22 4) v = v) (hfit : fits (tyX22 4) v = true) (kk : wp w d Y (pc + 3) ls st h' Q) : wp w d Y pc ls (v :: .ref a :: st) h Q := x_pF (ci := 21) (k := 4) hf hd rfl (by decide) (by rw [hY]; exact q1256) rfl hI (by rw [hY]; rfl) (tyX22_ok 4 (by decide)) hn hfit kk
theorem SX22_9 {w : eW} {d : Nat} {Y : eY} {pc : Nat} {ls : eL} {st : List Value} {h : eH} {Q : eO → eH → Prop} {a : Nat} {h' : eH} {v : Value} (hf : p_F 21 h a 0 v = some h') (hd : decode Y.2.1 pc = .ok (.putfield 9, 3)) (hY : Y.1.cls = RX22) (hI : Y.1.name = "<init>") (hn : narrow (tyX22 0) v = v) (hfit : fits (tyX22 0) v = true) (kk : wp w d Y (pc + 3) ls st h' Q) : wp w d Y pc ls (v :: .ref a :: st) h Q := x_pF (ci := 21) (k := 0) hf hd rfl (by decide) (by rw [hY]; exact q1243) rfl hI (by rw [hY]; rfl) (tyX22_ok 0 (by decide)) hn hfit kk
def fX22_init (this : Nat) (h : eH) : Option (Unit × eH) :=
  (n_arr 102 91 (.int 0) h (2003 : Int32)).bind fun q1 =>
  (p_F 21 q1.2 this 0 (.ref q1.1)).bind fun h3 =>
  (n_arr 100 92 (.int 0) h3 (2003 : Int32)).bind fun q5 =>
  (p_F 21 q5.2 this 1 (.ref q5.1)).bind fun h7 =>
  (n_arr 100 93 (.int 0) h7 (2003 : Int32)).bind fun q9 =>
  (p_F 21 q9.2 this 2 (.ref q9.1)).bind fun h11 =>
  (n_arr 100 94 (.int 0) h11 (2003 : Int32)).bind fun q13 =>
  (p_F 21 q13.2 this 3 (.ref q13.1)).bind fun h15 =>
  (n_arr 100 95 (.int 0) h15 (2003 : Int32)).bind fun q17 =>
  (p_F 21 q17.2 this 4 (.ref q17.1)).bind fun h19 =>
  some ((), h19)
theorem pX22_init {w : eW} {d : Nat} (hd : 1 ≤ d) {this : Nat} {h : eH} {q} (hf : fX22_init this h = some q) : wm w d YX22_init [.ref this] h (e_is (e_rn c_V q)) := by
  obtain ⟨d, rfl⟩ : ∃ e, d = e + 1 := ⟨d - 1, by omega⟩
  show wp w (d + 1) YX22_init 0 [some (.ref this)] [] h _
  unfold fX22_init at hf
  refine w_aload_n dX22_init_0 rfl rfl ?_
  refine w_obj dX22_init_1 q1242 q490 q491 (by decide) ?_
  refine w_aload_n dX22_init_4 rfl rfl ?_
  refine w_sipush dX22_init_5 (v := 2003) (by decide) ?_
  obtain ⟨q1, b2, hf⟩ := Option.bind_eq_some_iff.mp hf
  refine x_newB (g := 91) b2 dX22_init_8 q507 ?_
  obtain ⟨h3, b4, hf⟩ := Option.bind_eq_some_iff.mp hf
  refine SX22_9 b4 dX22_init_10 rfl rfl rfl rfl ?_
  refine w_aload_n dX22_init_13 rfl rfl ?_
  refine w_sipush dX22_init_14 (v := 2003) (by decide) ?_
  obtain ⟨q5, b6, hf⟩ := Option.bind_eq_some_iff.mp hf
  refine x_newI (g := 92) b6 dX22_init_17 q582 ?_
  obtain ⟨h7, b8, hf⟩ := Option.bind_eq_some_iff.mp hf
  refine SX22_15 b8 dX22_init_19 rfl rfl rfl rfl ?_
  refine w_aload_n dX22_init_22 rfl rfl ?_
  refine w_sipush dX22_init_23 (v := 2003) (by decide) ?_
  obtain ⟨q9, b10, hf⟩ := Option.bind_eq_some_iff.mp hf
  refine x_newI (g := 93) b10 dX22_init_26 q582 ?_
  obtain ⟨h11, b12, hf⟩ := Option.bind_eq_some_iff.mp hf
  refine SX22_19 b12 dX22_init_28 rfl rfl rfl rfl ?_
  refine w_aload_n dX22_init_31 rfl rfl ?_
  refine w_sipush dX22_init_32 (v := 2003) (by decide) ?_
  obtain ⟨q13, b14, hf⟩ := Option.bind_eq_some_iff.mp hf
  refine x_newI (g := 94) b14 dX22_init_35 q582 ?_
  obtain ⟨h15, b16, hf⟩ := Option.bind_eq_some_iff.mp hf
  refine SX22_22 b16 dX22_init_37 rfl rfl rfl rfl ?_
  refine w_aload_n dX22_init_40 rfl rfl ?_
  refine w_sipush dX22_init_41 (v := 2003) (by decide) ?_
  obtain ⟨q17, b18, hf⟩ := Option.bind_eq_some_iff.mp hf
  refine x_newI (g := 95) b18 dX22_init_44 q582 ?_
  obtain ⟨h19, b20, hf⟩ := Option.bind_eq_some_iff.mp hf
  refine SX22_25 b20 dX22_init_46 rfl rfl rfl rfl ?_
  cases hf
  exact w_vret dX22_init_49 rfl rfl
abbrev cX23_init : ByteArray := prog_15_method_1_code
def yX23_init : MethodName := ⟨RX23, "<init>", "()V"⟩
def YX23_init : eY := (yX23_init, cX23_init, 1, none, [])
theorem mX23_init : e_mi YX23_init 0 := ⟨q1280, rfl, rfl, q1281, by decide, by decide +kernel, (e_sig (by decide +kernel))⟩
theorem dX23_init_0 : decode cX23_init 0 = .ok (.aload_n 0, 1) := dc_42 (by decide +kernel)
theorem dX23_init_1 : decode cX23_init 1 = .ok (.invokespecial 3, 3) := dc_183 (a := 0) (b := 3) (n := 3) (by decide +kernel)
theorem dX23_init_4 : decode cX23_init 4 = .ok (.aload_n 0, 1) := dc_42 (by decide +kernel)
theorem dX23_init_5 : decode cX23_init 5 = .ok (.sipush 2004, 3) := dc_17 (a := 7) (b := 212) (v := 2004) (by decide +kernel)
theorem dX23_init_8 : decode cX23_init 8 = .ok (.newarray .long, 2) := dc_188_11 (by decide +kernel)
theorem dX23_init_10 : decode cX23_init 10 = .ok (.putfield 9, 3) := dc_181 (a := 0) (b := 9) (n := 9) (by decide +kernel)
theorem dX23_init_13 : decode cX23_init 13 = .ok (.aload_n 0, 1) := dc_42 (by decide +kernel)
theorem dX23_init_14 : decode cX23_init 14 = .ok (.sipush 2004, 3) := dc_17 (a := 7) (b := 212) (v := 2004) (by decide +kernel)
theorem dX23_init_17 : decode cX23_init 17 = .ok (.newarray .long, 2) := dc_188_11 (by decide +kernel)
theorem dX23_init_19 : decode cX23_init 19 = .ok (.putfield 15, 3) := dc_181 (a := 0) (b := 15) (n := 15) (by decide +kernel)
theorem dX23_init_22 : decode cX23_init 22 = .ok (.aload_n 0, 1) := dc_42 (by decide +kernel)
theorem dX23_init_23 : decode cX23_init 23 = .ok (.sipush 8016, 3) := dc_17 (a := 31) (b := 80) (v := 8016) (by decide +kernel)
theorem dX23_init_26 : decode cX23_init 26 = .ok (.newarray .long, 2) := dc_188_11 (by decide +kernel)
theorem dX23_init_28 : decode cX23_init 28 = .ok (.putfield 18, 3) := dc_181 (a := 0) (b := 18) (n := 18) (by decide +kernel)
theorem dX23_init_31 : decode cX23_init 31 = .ok (.aload_n 0, 1) := dc_42 (by decide +kernel)
theorem dX23_init_32 : decode cX23_init 32 = .ok (.sipush 2003, 3) := dc_17 (a := 7) (b := 211) (v := 2003) (by decide +kernel)
theorem dX23_init_35 : decode cX23_init 35 = .ok (.newarray .boolean, 2) := dc_188_4 (by decide +kernel)
theorem dX23_init_37 : decode cX23_init 37 = .ok (.putfield 21, 3) := dc_181 (a := 0) (b := 21) (n := 21) (by decide +kernel)
theorem dX23_init_40 : decode cX23_init 40 = .ok (.aload_n 0, 1) := dc_42 (by decide +kernel)
theorem dX23_init_41 : decode cX23_init 41 = .ok (.sipush 2003, 3) := dc_17 (a := 7) (b := 211) (v := 2003) (by decide +kernel)
theorem dX23_init_44 : decode cX23_init 44 = .ok (.newarray .int, 2) := dc_188_10 (by decide +kernel)
theorem dX23_init_46 : decode cX23_init 46 = .ok (.putfield 25, 3) := dc_181 (a := 0) (b := 25) (n := 25) (by decide +kernel)
theorem dX23_init_49 : decode cX23_init 49 = .ok (.aload_n 0, 1) := dc_42 (by decide +kernel)
theorem dX23_init_50 : decode cX23_init 50 = .ok (.iconst 4, 1) := dc_7 (by decide +kernel)
theorem dX23_init_51 : decode cX23_init 51 = .ok (.newarray .long, 2) := dc_188_11 (by decide +kernel)
theorem dX23_init_53 : decode cX23_init 53 = .ok (.putfield 29, 3) := dc_181 (a := 0) (b := 29) (n := 29) (by decide +kernel)
theorem dX23_init_56 : decode cX23_init 56 = .ok (.return_, 1) := dc_177 (by decide +kernel)
theorem SX23_15 {w : eW} {d : Nat} {Y : eY} {pc : Nat} {ls : eL} {st : List Value} {h : eH} {Q : eO → eH → Prop} {a : Nat} {h' : eH} {v : Value} (hf : p_F 22 h a 1 v = some h') (hd : decode Y.2.1 pc = .ok (.putfield 15, 3)) (hY : Y.1.cls = RX23) (hI : Y.1.name = "<init>") (hn : narrow (tyX23 1) v = v) (hfit : fits (tyX23 1) v = true) (kk : wp w d Y (pc + 3) ls st h' Q) : wp w d Y pc ls (v :: .ref a :: st) h Q := x_pF (ci := 22) (k := 1) hf hd rfl (by decide) (by rw [hY]; exact q1284) rfl hI (by rw [hY]; rfl) (tyX23_ok 1 (by decide)) hn hfit kk
theorem SX23_18 {w : eW} {d : Nat} {Y : eY} {pc : Nat} {ls : eL} {st : List Value} {h : eH} {Q : eO → eH → Prop} {a : Nat} {h' : eH} {v : Value} (hf : p_F 22 h a 2 v = some h') (hd : decode Y.2.1 pc = .ok (.putfield 18, 3)) (hY : Y.1.cls = RX23) (hI : Y.1.name = "<init>") (hn : narrow (tyX23 2) v = v) (hfit : fits (tyX23 2) v = true) (kk : wp w d Y (pc + 3) ls st h' Q) : wp w d Y pc ls (v :: .ref a :: st) h Q := x_pF (ci := 22) (k := 2) hf hd rfl (by decide) (by rw [hY]; exact q1285) rfl hI (by rw [hY]; rfl) (tyX23_ok 2 (by decide)) hn hfit kk
theorem SX23_21 {w : eW} {d : Nat} {Y : eY} {pc : Nat} {ls : eL} {st : List Value} {h : eH} {Q : eO → eH → Prop} {a : Nat} {h' : eH} {v : Value} (hf : p_F 22 h a 3 v = some h') (hd : decode Y.2.1 pc = .ok (.putfield 21, 3)) (hY : Y.1.cls = RX23) (hI : Y.1.name = "<init>") (hn : narrow (tyX23 3) v = v) (hfit : fits (tyX23 3) v = true) (kk : wp w d Y (pc + 3) ls st h' Q) : wp w d Y pc ls (v :: .ref a :: st) h Q := x_pF (ci := 22) (k := 3) hf hd rfl (by decide) (by rw [hY]; exact q1286) rfl hI (by rw [hY]; rfl) (tyX23_ok 3 (by decide)) hn hfit kk
theorem SX23_25 {w : eW} {d : Nat} {Y : eY} {pc : Nat} {ls : eL} {st : List Value} {h : eH} {Q : eO → eH → Prop} {a : Nat} {h' : eH} {v : Value} (hf : p_F 22 h a 4 v = some h') (hd : decode Y.2.1 pc = .ok (.putfield 25, 3)) (hY : Y.1.cls = RX23) (hI : Y.1.name = "<init>") (hn : narrow (tyX23 4) v = v) (hfit : fits (tyX23 4) v = true) (kk : wp w d Y (pc + 3) ls st h' Q) : wp w d Y pc ls (v :: .ref a :: st) h Q := x_pF (ci := 22) (k := 4) hf hd rfl (by decide) (by rw [hY]; exact q1288) rfl hI (by rw [hY]; rfl) (tyX23_ok 4 (by decide)) hn hfit kk
theorem SX23_29 {w : eW} {d : Nat} {Y : eY} {pc : Nat} {ls : eL} {st : List Value} {h : eH} {Q : eO → eH → Prop} {a : Nat} {h' : eH} {v : Value} (hf : p_F 22 h a 5 v = some h') (hd : decode Y.2.1 pc = .ok (.putfield 29, 3)) (hY : Y.1.cls = RX23) (hI : Y.1.name = "<init>") (hn : narrow (tyX23 5) v = v) (hfit : fits (tyX23 5) v = true) (kk : wp w d Y (pc + 3) ls st h' Q) : wp w d Y pc ls (v :: .ref a :: st) h Q := x_pF (ci := 22) (k := 5) hf hd rfl (by decide) (by rw [hY]; exact q1290) rfl hI (by rw [hY]; rfl) (tyX23_ok 5 (by decide)) hn hfit kk
theorem SX23_9 {w : eW} {d : Nat} {Y : eY} {pc : Nat} {ls : eL} {st : List Value} {h : eH} {Q : eO → eH → Prop} {a : Nat} {h' : eH} {v : Value} (hf : p_F 22 h a 0 v = some h') (hd : decode Y.2.1 pc = .ok (.putfield 9, 3)) (hY : Y.1.cls = RX23) (hI : Y.1.name = "<init>") (hn : narrow (tyX23 0) v = v) (hfit : fits (tyX23 0) v = true) (kk : wp w d Y (pc + 3) ls st h' Q) : wp w d Y pc ls (v :: .ref a :: st) h Q := x_pF (ci := 22) (k := 0) hf hd rfl (by decide) (by rw [hY]; exact q1283) rfl hI (by rw [hY]; rfl) (tyX23_ok 0 (by decide)) hn hfit kk
def fX23_init (this : Nat) (h : eH) : Option (Unit × eH) :=
  (n_arr 101 96 (.long 0) h (2004 : Int32)).bind fun q1 =>
  (p_F 22 q1.2 this 0 (.ref q1.1)).bind fun h3 =>
  (n_arr 101 97 (.long 0) h3 (2004 : Int32)).bind fun q5 =>
  (p_F 22 q5.2 this 1 (.ref q5.1)).bind fun h7 =>
  (n_arr 101 98 (.long 0) h7 (8016 : Int32)).bind fun q9 =>
  (p_F 22 q9.2 this 2 (.ref q9.1)).bind fun h11 =>
  (n_arr 103 99 (.int 0) h11 (2003 : Int32)).bind fun q13 =>
  (p_F 22 q13.2 this 3 (.ref q13.1)).bind fun h15 =>
  (n_arr 100 100 (.int 0) h15 (2003 : Int32)).bind fun q17 =>
  (p_F 22 q17.2 this 4 (.ref q17.1)).bind fun h19 =>
  (n_arr 101 101 (.long 0) h19 (4 : Int32)).bind fun q21 =>
  (p_F 22 q21.2 this 5 (.ref q21.1)).bind fun h23 =>
  some ((), h23)
theorem pX23_init {w : eW} {d : Nat} (hd : 1 ≤ d) {this : Nat} {h : eH} {q} (hf : fX23_init this h = some q) : wm w d YX23_init [.ref this] h (e_is (e_rn c_V q)) := by
  obtain ⟨d, rfl⟩ : ∃ e, d = e + 1 := ⟨d - 1, by omega⟩
  show wp w (d + 1) YX23_init 0 [some (.ref this)] [] h _
  unfold fX23_init at hf
  refine w_aload_n dX23_init_0 rfl rfl ?_
  refine w_obj dX23_init_1 q1282 q490 q491 (by decide) ?_
  refine w_aload_n dX23_init_4 rfl rfl ?_
  refine w_sipush dX23_init_5 (v := 2004) (by decide) ?_
  obtain ⟨q1, b2, hf⟩ := Option.bind_eq_some_iff.mp hf
  refine x_newL (g := 96) b2 dX23_init_8 q1081 ?_
  obtain ⟨h3, b4, hf⟩ := Option.bind_eq_some_iff.mp hf
  refine SX23_9 b4 dX23_init_10 rfl rfl rfl rfl ?_
  refine w_aload_n dX23_init_13 rfl rfl ?_
  refine w_sipush dX23_init_14 (v := 2004) (by decide) ?_
  obtain ⟨q5, b6, hf⟩ := Option.bind_eq_some_iff.mp hf
  refine x_newL (g := 97) b6 dX23_init_17 q1081 ?_
  obtain ⟨h7, b8, hf⟩ := Option.bind_eq_some_iff.mp hf
  refine SX23_15 b8 dX23_init_19 rfl rfl rfl rfl ?_
  refine w_aload_n dX23_init_22 rfl rfl ?_
  refine w_sipush dX23_init_23 (v := 8016) (by decide) ?_
  obtain ⟨q9, b10, hf⟩ := Option.bind_eq_some_iff.mp hf
  refine x_newL (g := 98) b10 dX23_init_26 q1081 ?_
  obtain ⟨h11, b12, hf⟩ := Option.bind_eq_some_iff.mp hf
  refine SX23_18 b12 dX23_init_28 rfl rfl rfl rfl ?_
  refine w_aload_n dX23_init_31 rfl rfl ?_
  refine w_sipush dX23_init_32 (v := 2003) (by decide) ?_
  obtain ⟨q13, b14, hf⟩ := Option.bind_eq_some_iff.mp hf
  refine x_newZ (g := 99) b14 dX23_init_35 q583 ?_
  obtain ⟨h15, b16, hf⟩ := Option.bind_eq_some_iff.mp hf
  refine SX23_21 b16 dX23_init_37 rfl rfl rfl rfl ?_
  refine w_aload_n dX23_init_40 rfl rfl ?_
  refine w_sipush dX23_init_41 (v := 2003) (by decide) ?_
  obtain ⟨q17, b18, hf⟩ := Option.bind_eq_some_iff.mp hf
  refine x_newI (g := 100) b18 dX23_init_44 q582 ?_
  obtain ⟨h19, b20, hf⟩ := Option.bind_eq_some_iff.mp hf
  refine SX23_25 b20 dX23_init_46 rfl rfl rfl rfl ?_
  refine w_aload_n dX23_init_49 rfl rfl ?_
  refine w_iconst dX23_init_50 (v := 4) (by decide) ?_
  obtain ⟨q21, b22, hf⟩ := Option.bind_eq_some_iff.mp hf
  refine x_newL (g := 101) b22 dX23_init_51 q1081 ?_
  obtain ⟨h23, b24, hf⟩ := Option.bind_eq_some_iff.mp hf
  refine SX23_29 b24 dX23_init_53 rfl rfl rfl rfl ?_
  cases hf
  exact w_vret dX23_init_56 rfl rfl
abbrev cX25_init : ByteArray := prog_18_method_1_code
def yX25_init : MethodName := ⟨RX25, "<init>", "()V"⟩
def YX25_init : eY := (yX25_init, cX25_init, 1, none, [])
theorem mX25_init : e_mi YX25_init 0 := ⟨q1338, rfl, rfl, q1339, by decide, by decide +kernel, (e_sig (by decide +kernel))⟩
theorem dX25_init_0 : decode cX25_init 0 = .ok (.aload_n 0, 1) := dc_42 (by decide +kernel)
theorem dX25_init_1 : decode cX25_init 1 = .ok (.invokespecial 3, 3) := dc_183 (a := 0) (b := 3) (n := 3) (by decide +kernel)
theorem dX25_init_4 : decode cX25_init 4 = .ok (.aload_n 0, 1) := dc_42 (by decide +kernel)
theorem dX25_init_5 : decode cX25_init 5 = .ok (.sipush 8001, 3) := dc_17 (a := 31) (b := 65) (v := 8001) (by decide +kernel)
theorem dX25_init_8 : decode cX25_init 8 = .ok (.newarray .int, 2) := dc_188_10 (by decide +kernel)
theorem dX25_init_10 : decode cX25_init 10 = .ok (.putfield 9, 3) := dc_181 (a := 0) (b := 9) (n := 9) (by decide +kernel)
theorem dX25_init_13 : decode cX25_init 13 = .ok (.aload_n 0, 1) := dc_42 (by decide +kernel)
theorem dX25_init_14 : decode cX25_init 14 = .ok (.sipush 8001, 3) := dc_17 (a := 31) (b := 65) (v := 8001) (by decide +kernel)
theorem dX25_init_17 : decode cX25_init 17 = .ok (.newarray .int, 2) := dc_188_10 (by decide +kernel)
theorem dX25_init_19 : decode cX25_init 19 = .ok (.putfield 15, 3) := dc_181 (a := 0) (b := 15) (n := 15) (by decide +kernel)
theorem dX25_init_22 : decode cX25_init 22 = .ok (.aload_n 0, 1) := dc_42 (by decide +kernel)
theorem dX25_init_23 : decode cX25_init 23 = .ok (.sipush 8001, 3) := dc_17 (a := 31) (b := 65) (v := 8001) (by decide +kernel)
theorem dX25_init_26 : decode cX25_init 26 = .ok (.newarray .byte, 2) := dc_188_8 (by decide +kernel)
theorem dX25_init_28 : decode cX25_init 28 = .ok (.putfield 18, 3) := dc_181 (a := 0) (b := 18) (n := 18) (by decide +kernel)
theorem dX25_init_31 : decode cX25_init 31 = .ok (.aload_n 0, 1) := dc_42 (by decide +kernel)
theorem dX25_init_32 : decode cX25_init 32 = .ok (.sipush 8001, 3) := dc_17 (a := 31) (b := 65) (v := 8001) (by decide +kernel)
theorem dX25_init_35 : decode cX25_init 35 = .ok (.newarray .long, 2) := dc_188_11 (by decide +kernel)
theorem dX25_init_37 : decode cX25_init 37 = .ok (.putfield 22, 3) := dc_181 (a := 0) (b := 22) (n := 22) (by decide +kernel)
theorem dX25_init_40 : decode cX25_init 40 = .ok (.aload_n 0, 1) := dc_42 (by decide +kernel)
theorem dX25_init_41 : decode cX25_init 41 = .ok (.sipush 8001, 3) := dc_17 (a := 31) (b := 65) (v := 8001) (by decide +kernel)
theorem dX25_init_44 : decode cX25_init 44 = .ok (.newarray .int, 2) := dc_188_10 (by decide +kernel)
theorem dX25_init_46 : decode cX25_init 46 = .ok (.putfield 26, 3) := dc_181 (a := 0) (b := 26) (n := 26) (by decide +kernel)
theorem dX25_init_49 : decode cX25_init 49 = .ok (.aload_n 0, 1) := dc_42 (by decide +kernel)
theorem dX25_init_50 : decode cX25_init 50 = .ok (.sipush 8001, 3) := dc_17 (a := 31) (b := 65) (v := 8001) (by decide +kernel)
theorem dX25_init_53 : decode cX25_init 53 = .ok (.newarray .int, 2) := dc_188_10 (by decide +kernel)
theorem dX25_init_55 : decode cX25_init 55 = .ok (.putfield 29, 3) := dc_181 (a := 0) (b := 29) (n := 29) (by decide +kernel)
theorem dX25_init_58 : decode cX25_init 58 = .ok (.return_, 1) := dc_177 (by decide +kernel)
theorem SX25_15 {w : eW} {d : Nat} {Y : eY} {pc : Nat} {ls : eL} {st : List Value} {h : eH} {Q : eO → eH → Prop} {a : Nat} {h' : eH} {v : Value} (hf : p_F 24 h a 1 v = some h') (hd : decode Y.2.1 pc = .ok (.putfield 15, 3)) (hY : Y.1.cls = RX25) (hI : Y.1.name = "<init>") (hn : narrow (tyX25 1) v = v) (hfit : fits (tyX25 1) v = true) (kk : wp w d Y (pc + 3) ls st h' Q) : wp w d Y pc ls (v :: .ref a :: st) h Q := x_pF (ci := 24) (k := 1) hf hd rfl (by decide) (by rw [hY]; exact q1344) rfl hI (by rw [hY]; rfl) (tyX25_ok 1 (by decide)) hn hfit kk
theorem SX25_18 {w : eW} {d : Nat} {Y : eY} {pc : Nat} {ls : eL} {st : List Value} {h : eH} {Q : eO → eH → Prop} {a : Nat} {h' : eH} {v : Value} (hf : p_F 24 h a 2 v = some h') (hd : decode Y.2.1 pc = .ok (.putfield 18, 3)) (hY : Y.1.cls = RX25) (hI : Y.1.name = "<init>") (hn : narrow (tyX25 2) v = v) (hfit : fits (tyX25 2) v = true) (kk : wp w d Y (pc + 3) ls st h' Q) : wp w d Y pc ls (v :: .ref a :: st) h Q := x_pF (ci := 24) (k := 2) hf hd rfl (by decide) (by rw [hY]; exact q1347) rfl hI (by rw [hY]; rfl) (tyX25_ok 2 (by decide)) hn hfit kk
theorem SX25_22 {w : eW} {d : Nat} {Y : eY} {pc : Nat} {ls : eL} {st : List Value} {h : eH} {Q : eO → eH → Prop} {a : Nat} {h' : eH} {v : Value} (hf : p_F 24 h a 3 v = some h') (hd : decode Y.2.1 pc = .ok (.putfield 22, 3)) (hY : Y.1.cls = RX25) (hI : Y.1.name = "<init>") (hn : narrow (tyX25 3) v = v) (hfit : fits (tyX25 3) v = true) (kk : wp w d Y (pc + 3) ls st h' Q) : wp w d Y pc ls (v :: .ref a :: st) h Q := x_pF (ci := 24) (k := 3) hf hd rfl (by decide) (by rw [hY]; exact q1349) rfl hI (by rw [hY]; rfl) (tyX25_ok 3 (by decide)) hn hfit kk
theorem SX25_26 {w : eW} {d : Nat} {Y : eY} {pc : Nat} {ls : eL} {st : List Value} {h : eH} {Q : eO → eH → Prop} {a : Nat} {h' : eH} {v : Value} (hf : p_F 24 h a 4 v = some h') (hd : decode Y.2.1 pc = .ok (.putfield 26, 3)) (hY : Y.1.cls = RX25) (hI : Y.1.name = "<init>") (hn : narrow (tyX25 4) v = v) (hfit : fits (tyX25 4) v = true) (kk : wp w d Y (pc + 3) ls st h' Q) : wp w d Y pc ls (v :: .ref a :: st) h Q := x_pF (ci := 24) (k := 4) hf hd rfl (by decide) (by rw [hY]; exact q1351) rfl hI (by rw [hY]; rfl) (tyX25_ok 4 (by decide)) hn hfit kk
theorem SX25_29 {w : eW} {d : Nat} {Y : eY} {pc : Nat} {ls : eL} {st : List Value} {h : eH} {Q : eO → eH → Prop} {a : Nat} {h' : eH} {v : Value} (hf : p_F 24 h a 5 v = some h') (hd : decode Y.2.1 pc = .ok (.putfield 29, 3)) (hY : Y.1.cls = RX25) (hI : Y.1.name = "<init>") (hn : narrow (tyX25 5) v = v) (hfit : fits (tyX25 5) v = true) (kk : wp w d Y (pc + 3) ls st h' Q) : wp w d Y pc ls (v :: .ref a :: st) h Q := x_pF (ci := 24) (k := 5) hf hd rfl (by decide) (by rw [hY]; exact q1353) rfl hI (by rw [hY]; rfl) (tyX25_ok 5 (by decide)) hn hfit kk
theorem SX25_9 {w : eW} {d : Nat} {Y : eY} {pc : Nat} {ls : eL} {st : List Value} {h : eH} {Q : eO → eH → Prop} {a : Nat} {h' : eH} {v : Value} (hf : p_F 24 h a 0 v = some h') (hd : decode Y.2.1 pc = .ok (.putfield 9, 3)) (hY : Y.1.cls = RX25) (hI : Y.1.name = "<init>") (hn : narrow (tyX25 0) v = v) (hfit : fits (tyX25 0) v = true) (kk : wp w d Y (pc + 3) ls st h' Q) : wp w d Y pc ls (v :: .ref a :: st) h Q := x_pF (ci := 24) (k := 0) hf hd rfl (by decide) (by rw [hY]; exact q1341) rfl hI (by rw [hY]; rfl) (tyX25_ok 0 (by decide)) hn hfit kk
def fX25_init (this : Nat) (h : eH) : Option (Unit × eH) :=
  (n_arr 100 102 (.int 0) h (8001 : Int32)).bind fun q1 =>
  (p_F 24 q1.2 this 0 (.ref q1.1)).bind fun h3 =>
  (n_arr 100 103 (.int 0) h3 (8001 : Int32)).bind fun q5 =>
  (p_F 24 q5.2 this 1 (.ref q5.1)).bind fun h7 =>
  (n_arr 102 104 (.int 0) h7 (8001 : Int32)).bind fun q9 =>
  (p_F 24 q9.2 this 2 (.ref q9.1)).bind fun h11 =>
  (n_arr 101 105 (.long 0) h11 (8001 : Int32)).bind fun q13 =>
  (p_F 24 q13.2 this 3 (.ref q13.1)).bind fun h15 =>
  (n_arr 100 106 (.int 0) h15 (8001 : Int32)).bind fun q17 =>
  (p_F 24 q17.2 this 4 (.ref q17.1)).bind fun h19 =>
  (n_arr 100 107 (.int 0) h19 (8001 : Int32)).bind fun q21 =>
  (p_F 24 q21.2 this 5 (.ref q21.1)).bind fun h23 =>
  some ((), h23)
theorem pX25_init {w : eW} {d : Nat} (hd : 1 ≤ d) {this : Nat} {h : eH} {q} (hf : fX25_init this h = some q) : wm w d YX25_init [.ref this] h (e_is (e_rn c_V q)) := by
  obtain ⟨d, rfl⟩ : ∃ e, d = e + 1 := ⟨d - 1, by omega⟩
  show wp w (d + 1) YX25_init 0 [some (.ref this)] [] h _
  unfold fX25_init at hf
  refine w_aload_n dX25_init_0 rfl rfl ?_
  refine w_obj dX25_init_1 q1340 q490 q491 (by decide) ?_
  refine w_aload_n dX25_init_4 rfl rfl ?_
  refine w_sipush dX25_init_5 (v := 8001) (by decide) ?_
  obtain ⟨q1, b2, hf⟩ := Option.bind_eq_some_iff.mp hf
  refine x_newI (g := 102) b2 dX25_init_8 q582 ?_
  obtain ⟨h3, b4, hf⟩ := Option.bind_eq_some_iff.mp hf
  refine SX25_9 b4 dX25_init_10 rfl rfl rfl rfl ?_
  refine w_aload_n dX25_init_13 rfl rfl ?_
  refine w_sipush dX25_init_14 (v := 8001) (by decide) ?_
  obtain ⟨q5, b6, hf⟩ := Option.bind_eq_some_iff.mp hf
  refine x_newI (g := 103) b6 dX25_init_17 q582 ?_
  obtain ⟨h7, b8, hf⟩ := Option.bind_eq_some_iff.mp hf
  refine SX25_15 b8 dX25_init_19 rfl rfl rfl rfl ?_
  refine w_aload_n dX25_init_22 rfl rfl ?_
  refine w_sipush dX25_init_23 (v := 8001) (by decide) ?_
  obtain ⟨q9, b10, hf⟩ := Option.bind_eq_some_iff.mp hf
  refine x_newB (g := 104) b10 dX25_init_26 q507 ?_
  obtain ⟨h11, b12, hf⟩ := Option.bind_eq_some_iff.mp hf
  refine SX25_18 b12 dX25_init_28 rfl rfl rfl rfl ?_
  refine w_aload_n dX25_init_31 rfl rfl ?_
  refine w_sipush dX25_init_32 (v := 8001) (by decide) ?_
  obtain ⟨q13, b14, hf⟩ := Option.bind_eq_some_iff.mp hf
  refine x_newL (g := 105) b14 dX25_init_35 q1081 ?_
  obtain ⟨h15, b16, hf⟩ := Option.bind_eq_some_iff.mp hf
  refine SX25_22 b16 dX25_init_37 rfl rfl rfl rfl ?_
  refine w_aload_n dX25_init_40 rfl rfl ?_
  refine w_sipush dX25_init_41 (v := 8001) (by decide) ?_
  obtain ⟨q17, b18, hf⟩ := Option.bind_eq_some_iff.mp hf
  refine x_newI (g := 106) b18 dX25_init_44 q582 ?_
  obtain ⟨h19, b20, hf⟩ := Option.bind_eq_some_iff.mp hf
  refine SX25_26 b20 dX25_init_46 rfl rfl rfl rfl ?_
  refine w_aload_n dX25_init_49 rfl rfl ?_
  refine w_sipush dX25_init_50 (v := 8001) (by decide) ?_
  obtain ⟨q21, b22, hf⟩ := Option.bind_eq_some_iff.mp hf
  refine x_newI (g := 107) b22 dX25_init_53 q582 ?_
  obtain ⟨h23, b24, hf⟩ := Option.bind_eq_some_iff.mp hf
  refine SX25_29 b24 dX25_init_55 rfl rfl rfl rfl ?_
  cases hf
  exact w_vret dX25_init_58 rfl rfl
abbrev cX26_init : ByteArray := prog_6_method_1_code
def yX26_init : MethodName := ⟨RX26, "<init>", "()V"⟩
def YX26_init : eY := (yX26_init, cX26_init, 1, none, [])
theorem mX26_init : e_mi YX26_init 0 := ⟨q1380, rfl, rfl, q1381, by decide, by decide +kernel, (e_sig (by decide +kernel))⟩
theorem dX26_init_0 : decode cX26_init 0 = .ok (.aload_n 0, 1) := dc_42 (by decide +kernel)
theorem dX26_init_1 : decode cX26_init 1 = .ok (.invokespecial 3, 3) := dc_183 (a := 0) (b := 3) (n := 3) (by decide +kernel)
theorem dX26_init_4 : decode cX26_init 4 = .ok (.return_, 1) := dc_177 (by decide +kernel)
def fX26_init (this : Nat) (h : eH) : Option (Unit × eH) :=
  some ((), h)
theorem pX26_init {w : eW} {d : Nat} (hd : 1 ≤ d) {this : Nat} {h : eH} {q} (hf : fX26_init this h = some q) : wm w d YX26_init [.ref this] h (e_is (e_rn c_V q)) := by
  obtain ⟨d, rfl⟩ : ∃ e, d = e + 1 := ⟨d - 1, by omega⟩
  show wp w (d + 1) YX26_init 0 [some (.ref this)] [] h _
  unfold fX26_init at hf
  refine w_aload_n dX26_init_0 rfl rfl ?_
  refine w_obj dX26_init_1 q1382 q490 q491 (by decide) ?_
  cases hf
  exact w_vret dX26_init_4 rfl rfl
abbrev cX24_init : ByteArray := prog_24_method_1_code
def yX24_init : MethodName := ⟨RX24, "<init>", "(LTypeHouse$Paragraph;LTypeHouse$Measure;[I[I)V"⟩
def YX24_init : eY := (yX24_init, cX24_init, 6, none, [])
theorem mX24_init : e_mi YX24_init 4 := ⟨q1332, rfl, rfl, q1333, by decide, by decide +kernel, (e_sig (by decide +kernel))⟩
theorem dX24_init_0 : decode cX24_init 0 = .ok (.aload_n 0, 1) := dc_42 (by decide +kernel)
theorem dX24_init_1 : decode cX24_init 1 = .ok (.invokespecial 3, 3) := dc_183 (a := 0) (b := 3) (n := 3) (by decide +kernel)
theorem dX24_init_4 : decode cX24_init 4 = .ok (.aload_n 0, 1) := dc_42 (by decide +kernel)
theorem dX24_init_5 : decode cX24_init 5 = .ok (.new 9, 3) := dc_187 (a := 0) (b := 9) (n := 9) (by decide +kernel)
theorem dX24_init_8 : decode cX24_init 8 = .ok (.dup, 1) := dc_89 (by decide +kernel)
theorem dX24_init_9 : decode cX24_init 9 = .ok (.invokespecial 11, 3) := dc_183 (a := 0) (b := 11) (n := 11) (by decide +kernel)
theorem dX24_init_12 : decode cX24_init 12 = .ok (.putfield 12, 3) := dc_181 (a := 0) (b := 12) (n := 12) (by decide +kernel)
theorem dX24_init_15 : decode cX24_init 15 = .ok (.aload_n 0, 1) := dc_42 (by decide +kernel)
theorem dX24_init_16 : decode cX24_init 16 = .ok (.new 18, 3) := dc_187 (a := 0) (b := 18) (n := 18) (by decide +kernel)
theorem dX24_init_19 : decode cX24_init 19 = .ok (.dup, 1) := dc_89 (by decide +kernel)
theorem dX24_init_20 : decode cX24_init 20 = .ok (.invokespecial 20, 3) := dc_183 (a := 0) (b := 20) (n := 20) (by decide +kernel)
theorem dX24_init_23 : decode cX24_init 23 = .ok (.putfield 21, 3) := dc_181 (a := 0) (b := 21) (n := 21) (by decide +kernel)
theorem dX24_init_26 : decode cX24_init 26 = .ok (.aload_n 0, 1) := dc_42 (by decide +kernel)
theorem dX24_init_27 : decode cX24_init 27 = .ok (.sipush 8016, 3) := dc_17 (a := 31) (b := 80) (v := 8016) (by decide +kernel)
theorem dX24_init_30 : decode cX24_init 30 = .ok (.newarray .int, 2) := dc_188_10 (by decide +kernel)
theorem dX24_init_32 : decode cX24_init 32 = .ok (.putfield 25, 3) := dc_181 (a := 0) (b := 25) (n := 25) (by decide +kernel)
theorem dX24_init_35 : decode cX24_init 35 = .ok (.aload_n 0, 1) := dc_42 (by decide +kernel)
theorem dX24_init_36 : decode cX24_init 36 = .ok (.sipush 8016, 3) := dc_17 (a := 31) (b := 80) (v := 8016) (by decide +kernel)
theorem dX24_init_39 : decode cX24_init 39 = .ok (.newarray .long, 2) := dc_188_11 (by decide +kernel)
theorem dX24_init_41 : decode cX24_init 41 = .ok (.putfield 29, 3) := dc_181 (a := 0) (b := 29) (n := 29) (by decide +kernel)
theorem dX24_init_44 : decode cX24_init 44 = .ok (.aload_n 0, 1) := dc_42 (by decide +kernel)
theorem dX24_init_45 : decode cX24_init 45 = .ok (.aload_n 1, 1) := dc_43 (by decide +kernel)
theorem dX24_init_46 : decode cX24_init 46 = .ok (.putfield 33, 3) := dc_181 (a := 0) (b := 33) (n := 33) (by decide +kernel)
theorem dX24_init_49 : decode cX24_init 49 = .ok (.aload_n 0, 1) := dc_42 (by decide +kernel)
theorem dX24_init_50 : decode cX24_init 50 = .ok (.aload_n 2, 1) := dc_44 (by decide +kernel)
theorem dX24_init_51 : decode cX24_init 51 = .ok (.putfield 37, 3) := dc_181 (a := 0) (b := 37) (n := 37) (by decide +kernel)
theorem dX24_init_54 : decode cX24_init 54 = .ok (.aload_n 0, 1) := dc_42 (by decide +kernel)
theorem dX24_init_55 : decode cX24_init 55 = .ok (.aload_n 3, 1) := dc_45 (by decide +kernel)
theorem dX24_init_56 : decode cX24_init 56 = .ok (.putfield 41, 3) := dc_181 (a := 0) (b := 41) (n := 41) (by decide +kernel)
theorem dX24_init_59 : decode cX24_init 59 = .ok (.aload_n 0, 1) := dc_42 (by decide +kernel)
theorem dX24_init_60 : decode cX24_init 60 = .ok (.aload 4, 2) := dc_25 (a := 4) (by decide +kernel)
theorem dX24_init_62 : decode cX24_init 62 = .ok (.putfield 44, 3) := dc_181 (a := 0) (b := 44) (n := 44) (by decide +kernel)
theorem dX24_init_65 : decode cX24_init 65 = .ok (.iconst 0, 1) := dc_3 (by decide +kernel)
theorem dX24_init_66 : decode cX24_init 66 = .ok (.istore 5, 2) := dc_54 (a := 5) (by decide +kernel)
theorem dX24_init_68 : decode cX24_init 68 = .ok (.iload 5, 2) := dc_21 (a := 5) (by decide +kernel)
theorem dX24_init_70 : decode cX24_init 70 = .ok (.aload_n 0, 1) := dc_42 (by decide +kernel)
theorem dX24_init_71 : decode cX24_init 71 = .ok (.getfield 25, 3) := dc_180 (a := 0) (b := 25) (n := 25) (by decide +kernel)
theorem dX24_init_74 : decode cX24_init 74 = .ok (.arraylength, 1) := dc_190 (by decide +kernel)
theorem dX24_init_75 : decode cX24_init 75 = .ok (.if_icmp .ge 17, 3) := dc_162 (a := 0) (b := 17) (v := 17) (by decide +kernel)
theorem dX24_init_78 : decode cX24_init 78 = .ok (.aload_n 0, 1) := dc_42 (by decide +kernel)
theorem dX24_init_79 : decode cX24_init 79 = .ok (.getfield 25, 3) := dc_180 (a := 0) (b := 25) (n := 25) (by decide +kernel)
theorem dX24_init_82 : decode cX24_init 82 = .ok (.iload 5, 2) := dc_21 (a := 5) (by decide +kernel)
theorem dX24_init_84 : decode cX24_init 84 = .ok (.iconst (-1), 1) := dc_2 (by decide +kernel)
theorem dX24_init_85 : decode cX24_init 85 = .ok (.iastore, 1) := dc_79 (by decide +kernel)
theorem dX24_init_86 : decode cX24_init 86 = .ok (.iinc 5 1, 3) := dc_132 (a := 5) (b := 1) (v := 1) (by decide +kernel)
theorem dX24_init_89 : decode cX24_init 89 = .ok (.goto (-21), 3) := dc_167 (a := 255) (b := 235) (v := -21) (by decide +kernel)
theorem dX24_init_92 : decode cX24_init 92 = .ok (.return_, 1) := dc_177 (by decide +kernel)
theorem GX24_25 {w : eW} {d : Nat} {Y : eY} {pc : Nat} {ls : eL} {st : List Value} {h : eH} {Q : eO → eH → Prop} {a : Nat} {x : Nat} (hf : g_A 23 h a 6 = some x) (hd : decode Y.2.1 pc = .ok (.getfield 25, 3)) (hY : Y.1.cls = RX24) (kk : wp w d Y (pc + 3) ls (.ref x :: st) h Q) : wp w d Y pc ls (.ref a :: st) h Q := x_gA (ci := 23) (k := 6) hf hd rfl (by decide) (by rw [hY]; exact q1399) kk
theorem SX24_12 {w : eW} {d : Nat} {Y : eY} {pc : Nat} {ls : eL} {st : List Value} {h : eH} {Q : eO → eH → Prop} {a : Nat} {h' : eH} {v : Value} (hf : p_F 23 h a 4 v = some h') (hd : decode Y.2.1 pc = .ok (.putfield 12, 3)) (hY : Y.1.cls = RX24) (hI : Y.1.name = "<init>") (hn : narrow (tyX24 4) v = v) (hfit : fits (tyX24 4) v = true) (kk : wp w d Y (pc + 3) ls st h' Q) : wp w d Y pc ls (v :: .ref a :: st) h Q := x_pF (ci := 23) (k := 4) hf hd rfl (by decide) (by rw [hY]; exact q1396) rfl hI (by rw [hY]; rfl) (tyX24_ok 4 (by decide)) hn hfit kk
theorem SX24_21 {w : eW} {d : Nat} {Y : eY} {pc : Nat} {ls : eL} {st : List Value} {h : eH} {Q : eO → eH → Prop} {a : Nat} {h' : eH} {v : Value} (hf : p_F 23 h a 5 v = some h') (hd : decode Y.2.1 pc = .ok (.putfield 21, 3)) (hY : Y.1.cls = RX24) (hI : Y.1.name = "<init>") (hn : narrow (tyX24 5) v = v) (hfit : fits (tyX24 5) v = true) (kk : wp w d Y (pc + 3) ls st h' Q) : wp w d Y pc ls (v :: .ref a :: st) h Q := x_pF (ci := 23) (k := 5) hf hd rfl (by decide) (by rw [hY]; exact q1398) rfl hI (by rw [hY]; rfl) (tyX24_ok 5 (by decide)) hn hfit kk
theorem SX24_25 {w : eW} {d : Nat} {Y : eY} {pc : Nat} {ls : eL} {st : List Value} {h : eH} {Q : eO → eH → Prop} {a : Nat} {h' : eH} {v : Value} (hf : p_F 23 h a 6 v = some h') (hd : decode Y.2.1 pc = .ok (.putfield 25, 3)) (hY : Y.1.cls = RX24) (hI : Y.1.name = "<init>") (hn : narrow (tyX24 6) v = v) (hfit : fits (tyX24 6) v = true) (kk : wp w d Y (pc + 3) ls st h' Q) : wp w d Y pc ls (v :: .ref a :: st) h Q := x_pF (ci := 23) (k := 6) hf hd rfl (by decide) (by rw [hY]; exact q1399) rfl hI (by rw [hY]; rfl) (tyX24_ok 6 (by decide)) hn hfit kk
theorem SX24_29 {w : eW} {d : Nat} {Y : eY} {pc : Nat} {ls : eL} {st : List Value} {h : eH} {Q : eO → eH → Prop} {a : Nat} {h' : eH} {v : Value} (hf : p_F 23 h a 7 v = some h') (hd : decode Y.2.1 pc = .ok (.putfield 29, 3)) (hY : Y.1.cls = RX24) (hI : Y.1.name = "<init>") (hn : narrow (tyX24 7) v = v) (hfit : fits (tyX24 7) v = true) (kk : wp w d Y (pc + 3) ls st h' Q) : wp w d Y pc ls (v :: .ref a :: st) h Q := x_pF (ci := 23) (k := 7) hf hd rfl (by decide) (by rw [hY]; exact q1400) rfl hI (by rw [hY]; rfl) (tyX24_ok 7 (by decide)) hn hfit kk
theorem SX24_33 {w : eW} {d : Nat} {Y : eY} {pc : Nat} {ls : eL} {st : List Value} {h : eH} {Q : eO → eH → Prop} {a : Nat} {h' : eH} {v : Value} (hf : p_F 23 h a 0 v = some h') (hd : decode Y.2.1 pc = .ok (.putfield 33, 3)) (hY : Y.1.cls = RX24) (hI : Y.1.name = "<init>") (hn : narrow (tyX24 0) v = v) (hfit : fits (tyX24 0) v = true) (kk : wp w d Y (pc + 3) ls st h' Q) : wp w d Y pc ls (v :: .ref a :: st) h Q := x_pF (ci := 23) (k := 0) hf hd rfl (by decide) (by rw [hY]; exact q1392) rfl hI (by rw [hY]; rfl) (tyX24_ok 0 (by decide)) hn hfit kk
theorem SX24_37 {w : eW} {d : Nat} {Y : eY} {pc : Nat} {ls : eL} {st : List Value} {h : eH} {Q : eO → eH → Prop} {a : Nat} {h' : eH} {v : Value} (hf : p_F 23 h a 1 v = some h') (hd : decode Y.2.1 pc = .ok (.putfield 37, 3)) (hY : Y.1.cls = RX24) (hI : Y.1.name = "<init>") (hn : narrow (tyX24 1) v = v) (hfit : fits (tyX24 1) v = true) (kk : wp w d Y (pc + 3) ls st h' Q) : wp w d Y pc ls (v :: .ref a :: st) h Q := x_pF (ci := 23) (k := 1) hf hd rfl (by decide) (by rw [hY]; exact q1393) rfl hI (by rw [hY]; rfl) (tyX24_ok 1 (by decide)) hn hfit kk
theorem SX24_41 {w : eW} {d : Nat} {Y : eY} {pc : Nat} {ls : eL} {st : List Value} {h : eH} {Q : eO → eH → Prop} {a : Nat} {h' : eH} {v : Value} (hf : p_F 23 h a 2 v = some h') (hd : decode Y.2.1 pc = .ok (.putfield 41, 3)) (hY : Y.1.cls = RX24) (hI : Y.1.name = "<init>") (hn : narrow (tyX24 2) v = v) (hfit : fits (tyX24 2) v = true) (kk : wp w d Y (pc + 3) ls st h' Q) : wp w d Y pc ls (v :: .ref a :: st) h Q := x_pF (ci := 23) (k := 2) hf hd rfl (by decide) (by rw [hY]; exact q1394) rfl hI (by rw [hY]; rfl) (tyX24_ok 2 (by decide)) hn hfit kk
theorem SX24_44 {w : eW} {d : Nat} {Y : eY} {pc : Nat} {ls : eL} {st : List Value} {h : eH} {Q : eO → eH → Prop} {a : Nat} {h' : eH} {v : Value} (hf : p_F 23 h a 3 v = some h') (hd : decode Y.2.1 pc = .ok (.putfield 44, 3)) (hY : Y.1.cls = RX24) (hI : Y.1.name = "<init>") (hn : narrow (tyX24 3) v = v) (hfit : fits (tyX24 3) v = true) (kk : wp w d Y (pc + 3) ls st h' Q) : wp w d Y pc ls (v :: .ref a :: st) h Q := x_pF (ci := 23) (k := 3) hf hd rfl (by decide) (by rw [hY]; exact q1395) rfl hI (by rw [hY]; rfl) (tyX24_ok 3 (by decide)) hn hfit kk
def fX24_init_b68 (N : Nat) : Nat → Nat → Int32 → eH → Option (Unit × eH)
  | 0, _, _, _ => none
  | n + 1, l0, l5, h =>
    (g_A 23 h l0 6).bind fun a1 =>
    (a_len h a1).bind fun x3 =>
    if x3 ≤ l5 then
      some ((), h)
    else
      (g_A 23 h l0 6).bind fun a6 =>
      (q_V 100 h a6 l5 (.int (-1 : Int32))).bind fun h8 =>
      fX24_init_b68 N n l0 (l5 + (1 : Int32)) h8
theorem pX24_init_b68 {w : eW} {d : Nat} (hd : 2 ≤ d + 1) {N : Nat} : ∀ (n : Nat) l0 l5 h q, fX24_init_b68 N n l0 l5 h = some q → wp w (d + 1) YX24_init 68 [some (.ref l0), none, none, none, none, some (.int l5)] [] h (e_is (e_rn c_V q)) := by
  intro n
  induction n with
  | zero => intro l0 l5 h q hf; simp [fX24_init_b68] at hf
  | succ n ih =>
    intro l0 l5 h q hf
    rw [fX24_init_b68] at hf
    refine w_iload dX24_init_68 rfl ?_
    refine w_aload_n dX24_init_70 rfl rfl ?_
    obtain ⟨a1, b2, hf⟩ := Option.bind_eq_some_iff.mp hf
    refine GX24_25 b2 dX24_init_71 rfl ?_
    obtain ⟨x3, b4, hf⟩ := Option.bind_eq_some_iff.mp hf
    refine x_len b4 dX24_init_74 ?_
    refine w_icmp_ge 92 dX24_init_75 (by decide) (fun c5 => ?_) (fun c5 => ?_)
    · replace hf := (if_pos (show x3 ≤ l5 from c5)).symm.trans hf
      cases hf
      exact w_vret dX24_init_92 rfl rfl
    · replace hf := (if_neg (show ¬ (x3 ≤ l5) from c5)).symm.trans hf
      refine w_aload_n dX24_init_78 rfl rfl ?_
      obtain ⟨a6, b7, hf⟩ := Option.bind_eq_some_iff.mp hf
      refine GX24_25 b7 dX24_init_79 rfl ?_
      refine w_iload dX24_init_82 rfl ?_
      refine w_iconst dX24_init_84 (v := -1) (by decide) ?_
      obtain ⟨h8, b9, hf⟩ := Option.bind_eq_some_iff.mp hf
      refine x_qI b9 dX24_init_85 ?_
      refine w_iinc dX24_init_86 (v := (l5 + (1 : Int32))) rfl rfl (by decide) (ls' := [some (.ref l0), none, none, none, none, some (.int (l5 + (1 : Int32)))]) rfl ?_
      refine w_goto 68 dX24_init_89 (by decide) ?_
      exact (ih _ _ _ _ hf).to ⟨rfl, rfl, trivial⟩
def fX24_init (N : Nat) (this : Nat) (p0 : Nat) (p1 : Nat) (p2 : Nat) (p3 : Nat) (h : eH) : Option (Unit × eH) :=
  (n_obj 24 108 8 tyX25 h).bind fun q1 =>
  (fX25_init q1.1 q1.2).bind fun q3 =>
  (p_F 23 q3.2 this 4 (.ref q1.1)).bind fun h4 =>
  (n_obj 25 109 2 tyX26 h4).bind fun q6 =>
  (fX26_init q6.1 q6.2).bind fun q8 =>
  (p_F 23 q8.2 this 5 (.ref q6.1)).bind fun h9 =>
  (n_arr 100 110 (.int 0) h9 (8016 : Int32)).bind fun q11 =>
  (p_F 23 q11.2 this 6 (.ref q11.1)).bind fun h13 =>
  (n_arr 101 111 (.long 0) h13 (8016 : Int32)).bind fun q15 =>
  (p_F 23 q15.2 this 7 (.ref q15.1)).bind fun h17 =>
  (p_F 23 h17 this 0 (.ref p0)).bind fun h19 =>
  (p_F 23 h19 this 1 (.ref p1)).bind fun h21 =>
  (p_F 23 h21 this 2 (.ref p2)).bind fun h23 =>
  (p_F 23 h23 this 3 (.ref p3)).bind fun h25 =>
  fX24_init_b68 N N this (0 : Int32) h25
theorem pX24_init {w : eW} {d : Nat} (hd : 2 ≤ d) {N : Nat} {this : Nat} {p0 : Nat} {p1 : Nat} {p2 : Nat} {p3 : Nat} {h : eH} {q} (hf : fX24_init N this p0 p1 p2 p3 h = some q) : wm w d YX24_init [.ref this, .ref p0, .ref p1, .ref p2, .ref p3] h (e_is (e_rn c_V q)) := by
  obtain ⟨d, rfl⟩ : ∃ e, d = e + 1 := ⟨d - 1, by omega⟩
  show wp w (d + 1) YX24_init 0 [some (.ref this), some (.ref p0), some (.ref p1), some (.ref p2), some (.ref p3), none] [] h _
  unfold fX24_init at hf
  refine w_aload_n dX24_init_0 rfl rfl ?_
  refine w_obj dX24_init_1 q1334 q490 q491 (by decide) ?_
  refine w_aload_n dX24_init_4 rfl rfl ?_
  obtain ⟨q1, b2, hf⟩ := Option.bind_eq_some_iff.mp hf
  refine x_new (ci := 24) (g := 108) b2 dX24_init_5 rfl tyX25_ok q1335 q1336 q451 ?_
  refine w_dup dX24_init_8 rfl ?_
  refine x_cnV hf (e_stIN (Yc := YX25_init) (b := q1.1) (av := []) (st := [.ref q1.1, .ref this]) dX24_init_9 q1337 mX25_init) (e_mi.cd mX25_init) mX25_init.2.2.2.2.2.1 (Nat.le_of_ble_eq_true rfl) (Nat.le_of_ble_eq_true rfl) (fun q hq => pX25_init (by omega) hq) (fun q3 hf => ?_)
  obtain ⟨h4, b5, hf⟩ := Option.bind_eq_some_iff.mp hf
  refine SX24_12 b5 dX24_init_12 rfl rfl rfl rfl ?_
  refine w_aload_n dX24_init_15 rfl rfl ?_
  obtain ⟨q6, b7, hf⟩ := Option.bind_eq_some_iff.mp hf
  refine x_new (ci := 25) (g := 109) b7 dX24_init_16 rfl tyX26_ok q1377 q1378 q452 ?_
  refine w_dup dX24_init_19 rfl ?_
  refine x_cnV hf (e_stIN (Yc := YX26_init) (b := q6.1) (av := []) (st := [.ref q6.1, .ref this]) dX24_init_20 q1379 mX26_init) (e_mi.cd mX26_init) mX26_init.2.2.2.2.2.1 (Nat.le_of_ble_eq_true rfl) (Nat.le_of_ble_eq_true rfl) (fun q hq => pX26_init (by omega) hq) (fun q8 hf => ?_)
  obtain ⟨h9, b10, hf⟩ := Option.bind_eq_some_iff.mp hf
  refine SX24_21 b10 dX24_init_23 rfl rfl rfl rfl ?_
  refine w_aload_n dX24_init_26 rfl rfl ?_
  refine w_sipush dX24_init_27 (v := 8016) (by decide) ?_
  obtain ⟨q11, b12, hf⟩ := Option.bind_eq_some_iff.mp hf
  refine x_newI (g := 110) b12 dX24_init_30 q582 ?_
  obtain ⟨h13, b14, hf⟩ := Option.bind_eq_some_iff.mp hf
  refine SX24_25 b14 dX24_init_32 rfl rfl rfl rfl ?_
  refine w_aload_n dX24_init_35 rfl rfl ?_
  refine w_sipush dX24_init_36 (v := 8016) (by decide) ?_
  obtain ⟨q15, b16, hf⟩ := Option.bind_eq_some_iff.mp hf
  refine x_newL (g := 111) b16 dX24_init_39 q1081 ?_
  obtain ⟨h17, b18, hf⟩ := Option.bind_eq_some_iff.mp hf
  refine SX24_29 b18 dX24_init_41 rfl rfl rfl rfl ?_
  refine w_aload_n dX24_init_44 rfl rfl ?_
  refine w_aload_n dX24_init_45 rfl rfl ?_
  obtain ⟨h19, b20, hf⟩ := Option.bind_eq_some_iff.mp hf
  refine SX24_33 b20 dX24_init_46 rfl rfl rfl rfl ?_
  refine w_aload_n dX24_init_49 rfl rfl ?_
  refine w_aload_n dX24_init_50 rfl rfl ?_
  obtain ⟨h21, b22, hf⟩ := Option.bind_eq_some_iff.mp hf
  refine SX24_37 b22 dX24_init_51 rfl rfl rfl rfl ?_
  refine w_aload_n dX24_init_54 rfl rfl ?_
  refine w_aload_n dX24_init_55 rfl rfl ?_
  obtain ⟨h23, b24, hf⟩ := Option.bind_eq_some_iff.mp hf
  refine SX24_41 b24 dX24_init_56 rfl rfl rfl rfl ?_
  refine w_aload_n dX24_init_59 rfl rfl ?_
  refine w_aload dX24_init_60 rfl ?_
  obtain ⟨h25, b26, hf⟩ := Option.bind_eq_some_iff.mp hf
  refine SX24_44 b26 dX24_init_62 rfl rfl rfl rfl ?_
  refine w_iconst dX24_init_65 (v := 0) (by decide) ?_
  refine w_istore dX24_init_66 (by decide) (ls' := [some (.ref this), some (.ref p0), some (.ref p1), some (.ref p2), some (.ref p3), some (.int (0 : Int32))]) rfl ?_
  exact (pX24_init_b68 hd N _ _ _ _ hf).to ⟨rfl, rfl, trivial⟩
abbrev cX21_init : ByteArray := prog_3_method_1_code
def yX21_init : MethodName := ⟨RX21, "<init>", "()V"⟩
def YX21_init : eY := (yX21_init, cX21_init, 1, none, [])
theorem mX21_init : e_mi YX21_init 0 := ⟨q1234, rfl, rfl, q1235, by decide, by decide +kernel, (e_sig (by decide +kernel))⟩
theorem dX21_init_0 : decode cX21_init 0 = .ok (.aload_n 0, 1) := dc_42 (by decide +kernel)
theorem dX21_init_1 : decode cX21_init 1 = .ok (.invokespecial 3, 3) := dc_183 (a := 0) (b := 3) (n := 3) (by decide +kernel)
theorem dX21_init_4 : decode cX21_init 4 = .ok (.aload_n 0, 1) := dc_42 (by decide +kernel)
theorem dX21_init_5 : decode cX21_init 5 = .ok (.new 9, 3) := dc_187 (a := 0) (b := 9) (n := 9) (by decide +kernel)
theorem dX21_init_8 : decode cX21_init 8 = .ok (.dup, 1) := dc_89 (by decide +kernel)
theorem dX21_init_9 : decode cX21_init 9 = .ok (.invokespecial 11, 3) := dc_183 (a := 0) (b := 11) (n := 11) (by decide +kernel)
theorem dX21_init_12 : decode cX21_init 12 = .ok (.putfield 12, 3) := dc_181 (a := 0) (b := 12) (n := 12) (by decide +kernel)
theorem dX21_init_15 : decode cX21_init 15 = .ok (.aload_n 0, 1) := dc_42 (by decide +kernel)
theorem dX21_init_16 : decode cX21_init 16 = .ok (.new 18, 3) := dc_187 (a := 0) (b := 18) (n := 18) (by decide +kernel)
theorem dX21_init_19 : decode cX21_init 19 = .ok (.dup, 1) := dc_89 (by decide +kernel)
theorem dX21_init_20 : decode cX21_init 20 = .ok (.invokespecial 20, 3) := dc_183 (a := 0) (b := 20) (n := 20) (by decide +kernel)
theorem dX21_init_23 : decode cX21_init 23 = .ok (.putfield 21, 3) := dc_181 (a := 0) (b := 21) (n := 21) (by decide +kernel)
theorem dX21_init_26 : decode cX21_init 26 = .ok (.aload_n 0, 1) := dc_42 (by decide +kernel)
theorem dX21_init_27 : decode cX21_init 27 = .ok (.bipush 10, 2) := dc_16 (a := 10) (v := 10) (by decide +kernel)
theorem dX21_init_29 : decode cX21_init 29 = .ok (.newarray .int, 2) := dc_188_10 (by decide +kernel)
theorem dX21_init_31 : decode cX21_init 31 = .ok (.putfield 25, 3) := dc_181 (a := 0) (b := 25) (n := 25) (by decide +kernel)
theorem dX21_init_34 : decode cX21_init 34 = .ok (.aload_n 0, 1) := dc_42 (by decide +kernel)
theorem dX21_init_35 : decode cX21_init 35 = .ok (.bipush 20, 2) := dc_16 (a := 20) (v := 20) (by decide +kernel)
theorem dX21_init_37 : decode cX21_init 37 = .ok (.newarray .int, 2) := dc_188_10 (by decide +kernel)
theorem dX21_init_39 : decode cX21_init 39 = .ok (.putfield 29, 3) := dc_181 (a := 0) (b := 29) (n := 29) (by decide +kernel)
theorem dX21_init_42 : decode cX21_init 42 = .ok (.aload_n 0, 1) := dc_42 (by decide +kernel)
theorem dX21_init_43 : decode cX21_init 43 = .ok (.bipush 12, 2) := dc_16 (a := 12) (v := 12) (by decide +kernel)
theorem dX21_init_45 : decode cX21_init 45 = .ok (.newarray .int, 2) := dc_188_10 (by decide +kernel)
theorem dX21_init_47 : decode cX21_init 47 = .ok (.putfield 32, 3) := dc_181 (a := 0) (b := 32) (n := 32) (by decide +kernel)
theorem dX21_init_50 : decode cX21_init 50 = .ok (.aload_n 0, 1) := dc_42 (by decide +kernel)
theorem dX21_init_51 : decode cX21_init 51 = .ok (.new 35, 3) := dc_187 (a := 0) (b := 35) (n := 35) (by decide +kernel)
theorem dX21_init_54 : decode cX21_init 54 = .ok (.dup, 1) := dc_89 (by decide +kernel)
theorem dX21_init_55 : decode cX21_init 55 = .ok (.aload_n 0, 1) := dc_42 (by decide +kernel)
theorem dX21_init_56 : decode cX21_init 56 = .ok (.getfield 12, 3) := dc_180 (a := 0) (b := 12) (n := 12) (by decide +kernel)
theorem dX21_init_59 : decode cX21_init 59 = .ok (.aload_n 0, 1) := dc_42 (by decide +kernel)
theorem dX21_init_60 : decode cX21_init 60 = .ok (.getfield 21, 3) := dc_180 (a := 0) (b := 21) (n := 21) (by decide +kernel)
theorem dX21_init_63 : decode cX21_init 63 = .ok (.aload_n 0, 1) := dc_42 (by decide +kernel)
theorem dX21_init_64 : decode cX21_init 64 = .ok (.getfield 25, 3) := dc_180 (a := 0) (b := 25) (n := 25) (by decide +kernel)
theorem dX21_init_67 : decode cX21_init 67 = .ok (.aload_n 0, 1) := dc_42 (by decide +kernel)
theorem dX21_init_68 : decode cX21_init 68 = .ok (.getfield 29, 3) := dc_180 (a := 0) (b := 29) (n := 29) (by decide +kernel)
theorem dX21_init_71 : decode cX21_init 71 = .ok (.invokespecial 37, 3) := dc_183 (a := 0) (b := 37) (n := 37) (by decide +kernel)
theorem dX21_init_74 : decode cX21_init 74 = .ok (.putfield 40, 3) := dc_181 (a := 0) (b := 40) (n := 40) (by decide +kernel)
theorem dX21_init_77 : decode cX21_init 77 = .ok (.aload_n 0, 1) := dc_42 (by decide +kernel)
theorem dX21_init_78 : decode cX21_init 78 = .ok (.sipush 2003, 3) := dc_17 (a := 7) (b := 211) (v := 2003) (by decide +kernel)
theorem dX21_init_81 : decode cX21_init 81 = .ok (.newarray .int, 2) := dc_188_10 (by decide +kernel)
theorem dX21_init_83 : decode cX21_init 83 = .ok (.putfield 44, 3) := dc_181 (a := 0) (b := 44) (n := 44) (by decide +kernel)
theorem dX21_init_86 : decode cX21_init 86 = .ok (.aload_n 0, 1) := dc_42 (by decide +kernel)
theorem dX21_init_87 : decode cX21_init 87 = .ok (.sipush 2003, 3) := dc_17 (a := 7) (b := 211) (v := 2003) (by decide +kernel)
theorem dX21_init_90 : decode cX21_init 90 = .ok (.newarray .int, 2) := dc_188_10 (by decide +kernel)
theorem dX21_init_92 : decode cX21_init 92 = .ok (.putfield 47, 3) := dc_181 (a := 0) (b := 47) (n := 47) (by decide +kernel)
theorem dX21_init_95 : decode cX21_init 95 = .ok (.return_, 1) := dc_177 (by decide +kernel)
theorem GX21_12 {w : eW} {d : Nat} {Y : eY} {pc : Nat} {ls : eL} {st : List Value} {h : eH} {Q : eO → eH → Prop} {a : Nat} {x : Nat} (hf : g_A 20 h a 0 = some x) (hd : decode Y.2.1 pc = .ok (.getfield 12, 3)) (hY : Y.1.cls = RX21) (kk : wp w d Y (pc + 3) ls (.ref x :: st) h Q) : wp w d Y pc ls (.ref a :: st) h Q := x_gA (ci := 20) (k := 0) hf hd rfl (by decide) (by rw [hY]; exact q1446) kk
theorem GX21_21 {w : eW} {d : Nat} {Y : eY} {pc : Nat} {ls : eL} {st : List Value} {h : eH} {Q : eO → eH → Prop} {a : Nat} {x : Nat} (hf : g_A 20 h a 1 = some x) (hd : decode Y.2.1 pc = .ok (.getfield 21, 3)) (hY : Y.1.cls = RX21) (kk : wp w d Y (pc + 3) ls (.ref x :: st) h Q) : wp w d Y pc ls (.ref a :: st) h Q := x_gA (ci := 20) (k := 1) hf hd rfl (by decide) (by rw [hY]; exact q1448) kk
theorem GX21_25 {w : eW} {d : Nat} {Y : eY} {pc : Nat} {ls : eL} {st : List Value} {h : eH} {Q : eO → eH → Prop} {a : Nat} {x : Nat} (hf : g_A 20 h a 2 = some x) (hd : decode Y.2.1 pc = .ok (.getfield 25, 3)) (hY : Y.1.cls = RX21) (kk : wp w d Y (pc + 3) ls (.ref x :: st) h Q) : wp w d Y pc ls (.ref a :: st) h Q := x_gA (ci := 20) (k := 2) hf hd rfl (by decide) (by rw [hY]; exact q1449) kk
theorem GX21_29 {w : eW} {d : Nat} {Y : eY} {pc : Nat} {ls : eL} {st : List Value} {h : eH} {Q : eO → eH → Prop} {a : Nat} {x : Nat} (hf : g_A 20 h a 3 = some x) (hd : decode Y.2.1 pc = .ok (.getfield 29, 3)) (hY : Y.1.cls = RX21) (kk : wp w d Y (pc + 3) ls (.ref x :: st) h Q) : wp w d Y pc ls (.ref a :: st) h Q := x_gA (ci := 20) (k := 3) hf hd rfl (by decide) (by rw [hY]; exact q1450) kk
theorem SX21_12 {w : eW} {d : Nat} {Y : eY} {pc : Nat} {ls : eL} {st : List Value} {h : eH} {Q : eO → eH → Prop} {a : Nat} {h' : eH} {v : Value} (hf : p_F 20 h a 0 v = some h') (hd : decode Y.2.1 pc = .ok (.putfield 12, 3)) (hY : Y.1.cls = RX21) (hI : Y.1.name = "<init>") (hn : narrow (tyX21 0) v = v) (hfit : fits (tyX21 0) v = true) (kk : wp w d Y (pc + 3) ls st h' Q) : wp w d Y pc ls (v :: .ref a :: st) h Q := x_pF (ci := 20) (k := 0) hf hd rfl (by decide) (by rw [hY]; exact q1446) rfl hI (by rw [hY]; rfl) (tyX21_ok 0 (by decide)) hn hfit kk
theorem SX21_21 {w : eW} {d : Nat} {Y : eY} {pc : Nat} {ls : eL} {st : List Value} {h : eH} {Q : eO → eH → Prop} {a : Nat} {h' : eH} {v : Value} (hf : p_F 20 h a 1 v = some h') (hd : decode Y.2.1 pc = .ok (.putfield 21, 3)) (hY : Y.1.cls = RX21) (hI : Y.1.name = "<init>") (hn : narrow (tyX21 1) v = v) (hfit : fits (tyX21 1) v = true) (kk : wp w d Y (pc + 3) ls st h' Q) : wp w d Y pc ls (v :: .ref a :: st) h Q := x_pF (ci := 20) (k := 1) hf hd rfl (by decide) (by rw [hY]; exact q1448) rfl hI (by rw [hY]; rfl) (tyX21_ok 1 (by decide)) hn hfit kk
theorem SX21_25 {w : eW} {d : Nat} {Y : eY} {pc : Nat} {ls : eL} {st : List Value} {h : eH} {Q : eO → eH → Prop} {a : Nat} {h' : eH} {v : Value} (hf : p_F 20 h a 2 v = some h') (hd : decode Y.2.1 pc = .ok (.putfield 25, 3)) (hY : Y.1.cls = RX21) (hI : Y.1.name = "<init>") (hn : narrow (tyX21 2) v = v) (hfit : fits (tyX21 2) v = true) (kk : wp w d Y (pc + 3) ls st h' Q) : wp w d Y pc ls (v :: .ref a :: st) h Q := x_pF (ci := 20) (k := 2) hf hd rfl (by decide) (by rw [hY]; exact q1449) rfl hI (by rw [hY]; rfl) (tyX21_ok 2 (by decide)) hn hfit kk
theorem SX21_29 {w : eW} {d : Nat} {Y : eY} {pc : Nat} {ls : eL} {st : List Value} {h : eH} {Q : eO → eH → Prop} {a : Nat} {h' : eH} {v : Value} (hf : p_F 20 h a 3 v = some h') (hd : decode Y.2.1 pc = .ok (.putfield 29, 3)) (hY : Y.1.cls = RX21) (hI : Y.1.name = "<init>") (hn : narrow (tyX21 3) v = v) (hfit : fits (tyX21 3) v = true) (kk : wp w d Y (pc + 3) ls st h' Q) : wp w d Y pc ls (v :: .ref a :: st) h Q := x_pF (ci := 20) (k := 3) hf hd rfl (by decide) (by rw [hY]; exact q1450) rfl hI (by rw [hY]; rfl) (tyX21_ok 3 (by decide)) hn hfit kk
theorem SX21_32 {w : eW} {d : Nat} {Y : eY} {pc : Nat} {ls : eL} {st : List Value} {h : eH} {Q : eO → eH → Prop} {a : Nat} {h' : eH} {v : Value} (hf : p_F 20 h a 4 v = some h') (hd : decode Y.2.1 pc = .ok (.putfield 32, 3)) (hY : Y.1.cls = RX21) (hI : Y.1.name = "<init>") (hn : narrow (tyX21 4) v = v) (hfit : fits (tyX21 4) v = true) (kk : wp w d Y (pc + 3) ls st h' Q) : wp w d Y pc ls (v :: .ref a :: st) h Q := x_pF (ci := 20) (k := 4) hf hd rfl (by decide) (by rw [hY]; exact q1452) rfl hI (by rw [hY]; rfl) (tyX21_ok 4 (by decide)) hn hfit kk
theorem SX21_40 {w : eW} {d : Nat} {Y : eY} {pc : Nat} {ls : eL} {st : List Value} {h : eH} {Q : eO → eH → Prop} {a : Nat} {h' : eH} {v : Value} (hf : p_F 20 h a 5 v = some h') (hd : decode Y.2.1 pc = .ok (.putfield 40, 3)) (hY : Y.1.cls = RX21) (hI : Y.1.name = "<init>") (hn : narrow (tyX21 5) v = v) (hfit : fits (tyX21 5) v = true) (kk : wp w d Y (pc + 3) ls st h' Q) : wp w d Y pc ls (v :: .ref a :: st) h Q := x_pF (ci := 20) (k := 5) hf hd rfl (by decide) (by rw [hY]; exact q1454) rfl hI (by rw [hY]; rfl) (tyX21_ok 5 (by decide)) hn hfit kk
theorem SX21_44 {w : eW} {d : Nat} {Y : eY} {pc : Nat} {ls : eL} {st : List Value} {h : eH} {Q : eO → eH → Prop} {a : Nat} {h' : eH} {v : Value} (hf : p_F 20 h a 8 v = some h') (hd : decode Y.2.1 pc = .ok (.putfield 44, 3)) (hY : Y.1.cls = RX21) (hI : Y.1.name = "<init>") (hn : narrow (tyX21 8) v = v) (hfit : fits (tyX21 8) v = true) (kk : wp w d Y (pc + 3) ls st h' Q) : wp w d Y pc ls (v :: .ref a :: st) h Q := x_pF (ci := 20) (k := 8) hf hd rfl (by decide) (by rw [hY]; exact q1460) rfl hI (by rw [hY]; rfl) (tyX21_ok 8 (by decide)) hn hfit kk
theorem SX21_47 {w : eW} {d : Nat} {Y : eY} {pc : Nat} {ls : eL} {st : List Value} {h : eH} {Q : eO → eH → Prop} {a : Nat} {h' : eH} {v : Value} (hf : p_F 20 h a 9 v = some h') (hd : decode Y.2.1 pc = .ok (.putfield 47, 3)) (hY : Y.1.cls = RX21) (hI : Y.1.name = "<init>") (hn : narrow (tyX21 9) v = v) (hfit : fits (tyX21 9) v = true) (kk : wp w d Y (pc + 3) ls st h' Q) : wp w d Y pc ls (v :: .ref a :: st) h Q := x_pF (ci := 20) (k := 9) hf hd rfl (by decide) (by rw [hY]; exact q1462) rfl hI (by rw [hY]; rfl) (tyX21_ok 9 (by decide)) hn hfit kk
def fX21_init (N : Nat) (this : Nat) (h : eH) : Option (Unit × eH) :=
  (n_obj 21 112 6 tyX22 h).bind fun q1 =>
  (fX22_init q1.1 q1.2).bind fun q3 =>
  (p_F 20 q3.2 this 0 (.ref q1.1)).bind fun h4 =>
  (n_obj 22 113 12 tyX23 h4).bind fun q6 =>
  (fX23_init q6.1 q6.2).bind fun q8 =>
  (p_F 20 q8.2 this 1 (.ref q6.1)).bind fun h9 =>
  (n_arr 100 114 (.int 0) h9 (10 : Int32)).bind fun q11 =>
  (p_F 20 q11.2 this 2 (.ref q11.1)).bind fun h13 =>
  (n_arr 100 115 (.int 0) h13 (20 : Int32)).bind fun q15 =>
  (p_F 20 q15.2 this 3 (.ref q15.1)).bind fun h17 =>
  (n_arr 100 116 (.int 0) h17 (12 : Int32)).bind fun q19 =>
  (p_F 20 q19.2 this 4 (.ref q19.1)).bind fun h21 =>
  (n_obj 23 117 16 tyX24 h21).bind fun q23 =>
  (g_A 20 q23.2 this 0).bind fun a25 =>
  (g_A 20 q23.2 this 1).bind fun a27 =>
  (g_A 20 q23.2 this 2).bind fun a29 =>
  (g_A 20 q23.2 this 3).bind fun a31 =>
  (fX24_init N q23.1 a25 a27 a29 a31 q23.2).bind fun q33 =>
  (p_F 20 q33.2 this 5 (.ref q23.1)).bind fun h34 =>
  (n_arr 100 118 (.int 0) h34 (2003 : Int32)).bind fun q36 =>
  (p_F 20 q36.2 this 8 (.ref q36.1)).bind fun h38 =>
  (n_arr 100 119 (.int 0) h38 (2003 : Int32)).bind fun q40 =>
  (p_F 20 q40.2 this 9 (.ref q40.1)).bind fun h42 =>
  some ((), h42)
theorem pX21_init {w : eW} {d : Nat} (hd : 3 ≤ d) {N : Nat} {this : Nat} {h : eH} {q} (hf : fX21_init N this h = some q) : wm w d YX21_init [.ref this] h (e_is (e_rn c_V q)) := by
  obtain ⟨d, rfl⟩ : ∃ e, d = e + 1 := ⟨d - 1, by omega⟩
  show wp w (d + 1) YX21_init 0 [some (.ref this)] [] h _
  unfold fX21_init at hf
  refine w_aload_n dX21_init_0 rfl rfl ?_
  refine w_obj dX21_init_1 q1236 q490 q491 (by decide) ?_
  refine w_aload_n dX21_init_4 rfl rfl ?_
  obtain ⟨q1, b2, hf⟩ := Option.bind_eq_some_iff.mp hf
  refine x_new (ci := 21) (g := 112) b2 dX21_init_5 rfl tyX22_ok q1237 q1238 q448 ?_
  refine w_dup dX21_init_8 rfl ?_
  refine x_cnV hf (e_stIN (Yc := YX22_init) (b := q1.1) (av := []) (st := [.ref q1.1, .ref this]) dX21_init_9 q1239 mX22_init) (e_mi.cd mX22_init) mX22_init.2.2.2.2.2.1 (Nat.le_of_ble_eq_true rfl) (Nat.le_of_ble_eq_true rfl) (fun q hq => pX22_init (by omega) hq) (fun q3 hf => ?_)
  obtain ⟨h4, b5, hf⟩ := Option.bind_eq_some_iff.mp hf
  refine SX21_12 b5 dX21_init_12 rfl rfl rfl rfl ?_
  refine w_aload_n dX21_init_15 rfl rfl ?_
  obtain ⟨q6, b7, hf⟩ := Option.bind_eq_some_iff.mp hf
  refine x_new (ci := 22) (g := 113) b7 dX21_init_16 rfl tyX23_ok q1277 q1278 q449 ?_
  refine w_dup dX21_init_19 rfl ?_
  refine x_cnV hf (e_stIN (Yc := YX23_init) (b := q6.1) (av := []) (st := [.ref q6.1, .ref this]) dX21_init_20 q1279 mX23_init) (e_mi.cd mX23_init) mX23_init.2.2.2.2.2.1 (Nat.le_of_ble_eq_true rfl) (Nat.le_of_ble_eq_true rfl) (fun q hq => pX23_init (by omega) hq) (fun q8 hf => ?_)
  obtain ⟨h9, b10, hf⟩ := Option.bind_eq_some_iff.mp hf
  refine SX21_21 b10 dX21_init_23 rfl rfl rfl rfl ?_
  refine w_aload_n dX21_init_26 rfl rfl ?_
  refine w_bipush dX21_init_27 (v := 10) (by decide) ?_
  obtain ⟨q11, b12, hf⟩ := Option.bind_eq_some_iff.mp hf
  refine x_newI (g := 114) b12 dX21_init_29 q582 ?_
  obtain ⟨h13, b14, hf⟩ := Option.bind_eq_some_iff.mp hf
  refine SX21_25 b14 dX21_init_31 rfl rfl rfl rfl ?_
  refine w_aload_n dX21_init_34 rfl rfl ?_
  refine w_bipush dX21_init_35 (v := 20) (by decide) ?_
  obtain ⟨q15, b16, hf⟩ := Option.bind_eq_some_iff.mp hf
  refine x_newI (g := 115) b16 dX21_init_37 q582 ?_
  obtain ⟨h17, b18, hf⟩ := Option.bind_eq_some_iff.mp hf
  refine SX21_29 b18 dX21_init_39 rfl rfl rfl rfl ?_
  refine w_aload_n dX21_init_42 rfl rfl ?_
  refine w_bipush dX21_init_43 (v := 12) (by decide) ?_
  obtain ⟨q19, b20, hf⟩ := Option.bind_eq_some_iff.mp hf
  refine x_newI (g := 116) b20 dX21_init_45 q582 ?_
  obtain ⟨h21, b22, hf⟩ := Option.bind_eq_some_iff.mp hf
  refine SX21_32 b22 dX21_init_47 rfl rfl rfl rfl ?_
  refine w_aload_n dX21_init_50 rfl rfl ?_
  obtain ⟨q23, b24, hf⟩ := Option.bind_eq_some_iff.mp hf
  refine x_new (ci := 23) (g := 117) b24 dX21_init_51 rfl tyX24_ok q1329 q1330 q450 ?_
  refine w_dup dX21_init_54 rfl ?_
  refine w_aload_n dX21_init_55 rfl rfl ?_
  obtain ⟨a25, b26, hf⟩ := Option.bind_eq_some_iff.mp hf
  refine GX21_12 b26 dX21_init_56 rfl ?_
  refine w_aload_n dX21_init_59 rfl rfl ?_
  obtain ⟨a27, b28, hf⟩ := Option.bind_eq_some_iff.mp hf
  refine GX21_21 b28 dX21_init_60 rfl ?_
  refine w_aload_n dX21_init_63 rfl rfl ?_
  obtain ⟨a29, b30, hf⟩ := Option.bind_eq_some_iff.mp hf
  refine GX21_25 b30 dX21_init_64 rfl ?_
  refine w_aload_n dX21_init_67 rfl rfl ?_
  obtain ⟨a31, b32, hf⟩ := Option.bind_eq_some_iff.mp hf
  refine GX21_29 b32 dX21_init_68 rfl ?_
  refine x_cnV hf (e_stI (Yc := YX24_init) (b := q23.1) (av := [.ref a25, .ref a27, .ref a29, .ref a31]) (st := [.ref q23.1, .ref this]) dX21_init_71 q1331 mX24_init) (e_mi.cd mX24_init) mX24_init.2.2.2.2.2.1 (Nat.le_of_ble_eq_true rfl) (Nat.le_of_ble_eq_true rfl) (fun q hq => pX24_init (by omega) hq) (fun q33 hf => ?_)
  obtain ⟨h34, b35, hf⟩ := Option.bind_eq_some_iff.mp hf
  refine SX21_40 b35 dX21_init_74 rfl rfl rfl rfl ?_
  refine w_aload_n dX21_init_77 rfl rfl ?_
  refine w_sipush dX21_init_78 (v := 2003) (by decide) ?_
  obtain ⟨q36, b37, hf⟩ := Option.bind_eq_some_iff.mp hf
  refine x_newI (g := 118) b37 dX21_init_81 q582 ?_
  obtain ⟨h38, b39, hf⟩ := Option.bind_eq_some_iff.mp hf
  refine SX21_44 b39 dX21_init_83 rfl rfl rfl rfl ?_
  refine w_aload_n dX21_init_86 rfl rfl ?_
  refine w_sipush dX21_init_87 (v := 2003) (by decide) ?_
  obtain ⟨q40, b41, hf⟩ := Option.bind_eq_some_iff.mp hf
  refine x_newI (g := 119) b41 dX21_init_90 q582 ?_
  obtain ⟨h42, b43, hf⟩ := Option.bind_eq_some_iff.mp hf
  refine SX21_47 b43 dX21_init_92 rfl rfl rfl rfl ?_
  cases hf
  exact w_vret dX21_init_95 rfl rfl
abbrev cX27_init : ByteArray := prog_22_method_1_code
def yX27_init : MethodName := ⟨RX27, "<init>", "()V"⟩
def YX27_init : eY := (yX27_init, cX27_init, 1, none, [])
theorem mX27_init : e_mi YX27_init 0 := ⟨q1488, rfl, rfl, q1489, by decide, by decide +kernel, (e_sig (by decide +kernel))⟩
theorem dX27_init_0 : decode cX27_init 0 = .ok (.aload_n 0, 1) := dc_42 (by decide +kernel)
theorem dX27_init_1 : decode cX27_init 1 = .ok (.invokespecial 3, 3) := dc_183 (a := 0) (b := 3) (n := 3) (by decide +kernel)
theorem dX27_init_4 : decode cX27_init 4 = .ok (.aload_n 0, 1) := dc_42 (by decide +kernel)
theorem dX27_init_5 : decode cX27_init 5 = .ok (.bipush 64, 2) := dc_16 (a := 64) (v := 64) (by decide +kernel)
theorem dX27_init_7 : decode cX27_init 7 = .ok (.newarray .byte, 2) := dc_188_8 (by decide +kernel)
theorem dX27_init_9 : decode cX27_init 9 = .ok (.putfield 9, 3) := dc_181 (a := 0) (b := 9) (n := 9) (by decide +kernel)
theorem dX27_init_12 : decode cX27_init 12 = .ok (.aload_n 0, 1) := dc_42 (by decide +kernel)
theorem dX27_init_13 : decode cX27_init 13 = .ok (.bipush 64, 2) := dc_16 (a := 64) (v := 64) (by decide +kernel)
theorem dX27_init_15 : decode cX27_init 15 = .ok (.newarray .int, 2) := dc_188_10 (by decide +kernel)
theorem dX27_init_17 : decode cX27_init 17 = .ok (.putfield 15, 3) := dc_181 (a := 0) (b := 15) (n := 15) (by decide +kernel)
theorem dX27_init_20 : decode cX27_init 20 = .ok (.aload_n 0, 1) := dc_42 (by decide +kernel)
theorem dX27_init_21 : decode cX27_init 21 = .ok (.bipush 64, 2) := dc_16 (a := 64) (v := 64) (by decide +kernel)
theorem dX27_init_23 : decode cX27_init 23 = .ok (.newarray .int, 2) := dc_188_10 (by decide +kernel)
theorem dX27_init_25 : decode cX27_init 25 = .ok (.putfield 19, 3) := dc_181 (a := 0) (b := 19) (n := 19) (by decide +kernel)
theorem dX27_init_28 : decode cX27_init 28 = .ok (.aload_n 0, 1) := dc_42 (by decide +kernel)
theorem dX27_init_29 : decode cX27_init 29 = .ok (.bipush 64, 2) := dc_16 (a := 64) (v := 64) (by decide +kernel)
theorem dX27_init_31 : decode cX27_init 31 = .ok (.newarray .int, 2) := dc_188_10 (by decide +kernel)
theorem dX27_init_33 : decode cX27_init 33 = .ok (.putfield 22, 3) := dc_181 (a := 0) (b := 22) (n := 22) (by decide +kernel)
theorem dX27_init_36 : decode cX27_init 36 = .ok (.aload_n 0, 1) := dc_42 (by decide +kernel)
theorem dX27_init_37 : decode cX27_init 37 = .ok (.bipush 64, 2) := dc_16 (a := 64) (v := 64) (by decide +kernel)
theorem dX27_init_39 : decode cX27_init 39 = .ok (.newarray .byte, 2) := dc_188_8 (by decide +kernel)
theorem dX27_init_41 : decode cX27_init 41 = .ok (.putfield 25, 3) := dc_181 (a := 0) (b := 25) (n := 25) (by decide +kernel)
theorem dX27_init_44 : decode cX27_init 44 = .ok (.aload_n 0, 1) := dc_42 (by decide +kernel)
theorem dX27_init_45 : decode cX27_init 45 = .ok (.bipush 64, 2) := dc_16 (a := 64) (v := 64) (by decide +kernel)
theorem dX27_init_47 : decode cX27_init 47 = .ok (.newarray .int, 2) := dc_188_10 (by decide +kernel)
theorem dX27_init_49 : decode cX27_init 49 = .ok (.putfield 28, 3) := dc_181 (a := 0) (b := 28) (n := 28) (by decide +kernel)
theorem dX27_init_52 : decode cX27_init 52 = .ok (.return_, 1) := dc_177 (by decide +kernel)
theorem SX27_15 {w : eW} {d : Nat} {Y : eY} {pc : Nat} {ls : eL} {st : List Value} {h : eH} {Q : eO → eH → Prop} {a : Nat} {h' : eH} {x : Nat} (hf : p_V 26 h a 1 (.ref x) = some h') (hd : decode Y.2.1 pc = .ok (.putfield 15, 3)) (hY : Y.1.cls = RX27) (kk : wp w d Y (pc + 3) ls st h' Q) : wp w d Y pc ls (.ref x :: .ref a :: st) h Q := x_pA (ci := 26) (k := 1) hf hd rfl (by decide) (by rw [hY]; exact q1494) rfl rfl rfl rfl kk
theorem SX27_19 {w : eW} {d : Nat} {Y : eY} {pc : Nat} {ls : eL} {st : List Value} {h : eH} {Q : eO → eH → Prop} {a : Nat} {h' : eH} {x : Nat} (hf : p_V 26 h a 2 (.ref x) = some h') (hd : decode Y.2.1 pc = .ok (.putfield 19, 3)) (hY : Y.1.cls = RX27) (kk : wp w d Y (pc + 3) ls st h' Q) : wp w d Y pc ls (.ref x :: .ref a :: st) h Q := x_pA (ci := 26) (k := 2) hf hd rfl (by decide) (by rw [hY]; exact q1498) rfl rfl rfl rfl kk
theorem SX27_22 {w : eW} {d : Nat} {Y : eY} {pc : Nat} {ls : eL} {st : List Value} {h : eH} {Q : eO → eH → Prop} {a : Nat} {h' : eH} {x : Nat} (hf : p_V 26 h a 3 (.ref x) = some h') (hd : decode Y.2.1 pc = .ok (.putfield 22, 3)) (hY : Y.1.cls = RX27) (kk : wp w d Y (pc + 3) ls st h' Q) : wp w d Y pc ls (.ref x :: .ref a :: st) h Q := x_pA (ci := 26) (k := 3) hf hd rfl (by decide) (by rw [hY]; exact q1502) rfl rfl rfl rfl kk
theorem SX27_25 {w : eW} {d : Nat} {Y : eY} {pc : Nat} {ls : eL} {st : List Value} {h : eH} {Q : eO → eH → Prop} {a : Nat} {h' : eH} {x : Nat} (hf : p_V 26 h a 4 (.ref x) = some h') (hd : decode Y.2.1 pc = .ok (.putfield 25, 3)) (hY : Y.1.cls = RX27) (kk : wp w d Y (pc + 3) ls st h' Q) : wp w d Y pc ls (.ref x :: .ref a :: st) h Q := x_pA (ci := 26) (k := 4) hf hd rfl (by decide) (by rw [hY]; exact q1505) rfl rfl rfl rfl kk
theorem SX27_28 {w : eW} {d : Nat} {Y : eY} {pc : Nat} {ls : eL} {st : List Value} {h : eH} {Q : eO → eH → Prop} {a : Nat} {h' : eH} {x : Nat} (hf : p_V 26 h a 5 (.ref x) = some h') (hd : decode Y.2.1 pc = .ok (.putfield 28, 3)) (hY : Y.1.cls = RX27) (kk : wp w d Y (pc + 3) ls st h' Q) : wp w d Y pc ls (.ref x :: .ref a :: st) h Q := x_pA (ci := 26) (k := 5) hf hd rfl (by decide) (by rw [hY]; exact q1507) rfl rfl rfl rfl kk
theorem SX27_9 {w : eW} {d : Nat} {Y : eY} {pc : Nat} {ls : eL} {st : List Value} {h : eH} {Q : eO → eH → Prop} {a : Nat} {h' : eH} {x : Nat} (hf : p_V 26 h a 0 (.ref x) = some h') (hd : decode Y.2.1 pc = .ok (.putfield 9, 3)) (hY : Y.1.cls = RX27) (kk : wp w d Y (pc + 3) ls st h' Q) : wp w d Y pc ls (.ref x :: .ref a :: st) h Q := x_pA (ci := 26) (k := 0) hf hd rfl (by decide) (by rw [hY]; exact q1491) rfl rfl rfl rfl kk
def fX27_init (this : Nat) (h : eH) : Option (Unit × eH) :=
  (n_arr 102 120 (.int 0) h (64 : Int32)).bind fun q1 =>
  (p_V 26 q1.2 this 0 (.ref q1.1)).bind fun h3 =>
  (n_arr 100 121 (.int 0) h3 (64 : Int32)).bind fun q5 =>
  (p_V 26 q5.2 this 1 (.ref q5.1)).bind fun h7 =>
  (n_arr 100 122 (.int 0) h7 (64 : Int32)).bind fun q9 =>
  (p_V 26 q9.2 this 2 (.ref q9.1)).bind fun h11 =>
  (n_arr 100 123 (.int 0) h11 (64 : Int32)).bind fun q13 =>
  (p_V 26 q13.2 this 3 (.ref q13.1)).bind fun h15 =>
  (n_arr 102 124 (.int 0) h15 (64 : Int32)).bind fun q17 =>
  (p_V 26 q17.2 this 4 (.ref q17.1)).bind fun h19 =>
  (n_arr 100 125 (.int 0) h19 (64 : Int32)).bind fun q21 =>
  (p_V 26 q21.2 this 5 (.ref q21.1)).bind fun h23 =>
  some ((), h23)
theorem pX27_init {w : eW} {d : Nat} (hd : 1 ≤ d) {this : Nat} {h : eH} {q} (hf : fX27_init this h = some q) : wm w d YX27_init [.ref this] h (e_is (e_rn c_V q)) := by
  obtain ⟨d, rfl⟩ : ∃ e, d = e + 1 := ⟨d - 1, by omega⟩
  show wp w (d + 1) YX27_init 0 [some (.ref this)] [] h _
  unfold fX27_init at hf
  refine w_aload_n dX27_init_0 rfl rfl ?_
  refine w_obj dX27_init_1 q1490 q490 q491 (by decide) ?_
  refine w_aload_n dX27_init_4 rfl rfl ?_
  refine w_bipush dX27_init_5 (v := 64) (by decide) ?_
  obtain ⟨q1, b2, hf⟩ := Option.bind_eq_some_iff.mp hf
  refine x_newB (g := 120) b2 dX27_init_7 q507 ?_
  obtain ⟨h3, b4, hf⟩ := Option.bind_eq_some_iff.mp hf
  refine SX27_9 b4 dX27_init_9 rfl ?_
  refine w_aload_n dX27_init_12 rfl rfl ?_
  refine w_bipush dX27_init_13 (v := 64) (by decide) ?_
  obtain ⟨q5, b6, hf⟩ := Option.bind_eq_some_iff.mp hf
  refine x_newI (g := 121) b6 dX27_init_15 q582 ?_
  obtain ⟨h7, b8, hf⟩ := Option.bind_eq_some_iff.mp hf
  refine SX27_15 b8 dX27_init_17 rfl ?_
  refine w_aload_n dX27_init_20 rfl rfl ?_
  refine w_bipush dX27_init_21 (v := 64) (by decide) ?_
  obtain ⟨q9, b10, hf⟩ := Option.bind_eq_some_iff.mp hf
  refine x_newI (g := 122) b10 dX27_init_23 q582 ?_
  obtain ⟨h11, b12, hf⟩ := Option.bind_eq_some_iff.mp hf
  refine SX27_19 b12 dX27_init_25 rfl ?_
  refine w_aload_n dX27_init_28 rfl rfl ?_
  refine w_bipush dX27_init_29 (v := 64) (by decide) ?_
  obtain ⟨q13, b14, hf⟩ := Option.bind_eq_some_iff.mp hf
  refine x_newI (g := 123) b14 dX27_init_31 q582 ?_
  obtain ⟨h15, b16, hf⟩ := Option.bind_eq_some_iff.mp hf
  refine SX27_22 b16 dX27_init_33 rfl ?_
  refine w_aload_n dX27_init_36 rfl rfl ?_
  refine w_bipush dX27_init_37 (v := 64) (by decide) ?_
  obtain ⟨q17, b18, hf⟩ := Option.bind_eq_some_iff.mp hf
  refine x_newB (g := 124) b18 dX27_init_39 q507 ?_
  obtain ⟨h19, b20, hf⟩ := Option.bind_eq_some_iff.mp hf
  refine SX27_25 b20 dX27_init_41 rfl ?_
  refine w_aload_n dX27_init_44 rfl rfl ?_
  refine w_bipush dX27_init_45 (v := 64) (by decide) ?_
  obtain ⟨q21, b22, hf⟩ := Option.bind_eq_some_iff.mp hf
  refine x_newI (g := 125) b22 dX27_init_47 q582 ?_
  obtain ⟨h23, b24, hf⟩ := Option.bind_eq_some_iff.mp hf
  refine SX27_28 b24 dX27_init_49 rfl ?_
  cases hf
  exact w_vret dX27_init_52 rfl rfl
abbrev cX29_init : ByteArray := prog_30_method_1_code
def yX29_init : MethodName := ⟨RX29, "<init>", "()V"⟩
def YX29_init : eY := (yX29_init, cX29_init, 1, none, [])
theorem mX29_init : e_mi YX29_init 0 := ⟨q1536, rfl, rfl, q1537, by decide, by decide +kernel, (e_sig (by decide +kernel))⟩
theorem dX29_init_0 : decode cX29_init 0 = .ok (.aload_n 0, 1) := dc_42 (by decide +kernel)
theorem dX29_init_1 : decode cX29_init 1 = .ok (.invokespecial 3, 3) := dc_183 (a := 0) (b := 3) (n := 3) (by decide +kernel)
theorem dX29_init_4 : decode cX29_init 4 = .ok (.aload_n 0, 1) := dc_42 (by decide +kernel)
theorem dX29_init_5 : decode cX29_init 5 = .ok (.iconst 4, 1) := dc_7 (by decide +kernel)
theorem dX29_init_6 : decode cX29_init 6 = .ok (.newarray .long, 2) := dc_188_11 (by decide +kernel)
theorem dX29_init_8 : decode cX29_init 8 = .ok (.putfield 9, 3) := dc_181 (a := 0) (b := 9) (n := 9) (by decide +kernel)
theorem dX29_init_11 : decode cX29_init 11 = .ok (.return_, 1) := dc_177 (by decide +kernel)
theorem SX29_9 {w : eW} {d : Nat} {Y : eY} {pc : Nat} {ls : eL} {st : List Value} {h : eH} {Q : eO → eH → Prop} {a : Nat} {h' : eH} {v : Value} (hf : p_F 28 h a 0 v = some h') (hd : decode Y.2.1 pc = .ok (.putfield 9, 3)) (hY : Y.1.cls = RX29) (hI : Y.1.name = "<init>") (hn : narrow (tyX29 0) v = v) (hfit : fits (tyX29 0) v = true) (kk : wp w d Y (pc + 3) ls st h' Q) : wp w d Y pc ls (v :: .ref a :: st) h Q := x_pF (ci := 28) (k := 0) hf hd rfl (by decide) (by rw [hY]; exact q1539) rfl hI (by rw [hY]; rfl) (tyX29_ok 0 (by decide)) hn hfit kk
def fX29_init (this : Nat) (h : eH) : Option (Unit × eH) :=
  (n_arr 101 126 (.long 0) h (4 : Int32)).bind fun q1 =>
  (p_F 28 q1.2 this 0 (.ref q1.1)).bind fun h3 =>
  some ((), h3)
theorem pX29_init {w : eW} {d : Nat} (hd : 1 ≤ d) {this : Nat} {h : eH} {q} (hf : fX29_init this h = some q) : wm w d YX29_init [.ref this] h (e_is (e_rn c_V q)) := by
  obtain ⟨d, rfl⟩ : ∃ e, d = e + 1 := ⟨d - 1, by omega⟩
  show wp w (d + 1) YX29_init 0 [some (.ref this)] [] h _
  unfold fX29_init at hf
  refine w_aload_n dX29_init_0 rfl rfl ?_
  refine w_obj dX29_init_1 q1538 q490 q491 (by decide) ?_
  refine w_aload_n dX29_init_4 rfl rfl ?_
  refine w_iconst dX29_init_5 (v := 4) (by decide) ?_
  obtain ⟨q1, b2, hf⟩ := Option.bind_eq_some_iff.mp hf
  refine x_newL (g := 126) b2 dX29_init_6 q1081 ?_
  obtain ⟨h3, b4, hf⟩ := Option.bind_eq_some_iff.mp hf
  refine SX29_9 b4 dX29_init_8 rfl rfl rfl rfl ?_
  cases hf
  exact w_vret dX29_init_11 rfl rfl
abbrev cX30_init : ByteArray := prog_20_method_1_code
def yX30_init : MethodName := ⟨RX30, "<init>", "()V"⟩
def YX30_init : eY := (yX30_init, cX30_init, 1, none, [])
theorem mX30_init : e_mi YX30_init 0 := ⟨q1560, rfl, rfl, q1561, by decide, by decide +kernel, (e_sig (by decide +kernel))⟩
theorem dX30_init_0 : decode cX30_init 0 = .ok (.aload_n 0, 1) := dc_42 (by decide +kernel)
theorem dX30_init_1 : decode cX30_init 1 = .ok (.invokespecial 1, 3) := dc_183 (a := 0) (b := 1) (n := 1) (by decide +kernel)
theorem dX30_init_4 : decode cX30_init 4 = .ok (.aload_n 0, 1) := dc_42 (by decide +kernel)
theorem dX30_init_5 : decode cX30_init 5 = .ok (.new 7, 3) := dc_187 (a := 0) (b := 7) (n := 7) (by decide +kernel)
theorem dX30_init_8 : decode cX30_init 8 = .ok (.dup, 1) := dc_89 (by decide +kernel)
theorem dX30_init_9 : decode cX30_init 9 = .ok (.invokespecial 9, 3) := dc_183 (a := 0) (b := 9) (n := 9) (by decide +kernel)
theorem dX30_init_12 : decode cX30_init 12 = .ok (.putfield 10, 3) := dc_181 (a := 0) (b := 10) (n := 10) (by decide +kernel)
theorem dX30_init_15 : decode cX30_init 15 = .ok (.return_, 1) := dc_177 (by decide +kernel)
theorem SX30_10 {w : eW} {d : Nat} {Y : eY} {pc : Nat} {ls : eL} {st : List Value} {h : eH} {Q : eO → eH → Prop} {a : Nat} {h' : eH} {v : Value} (hf : p_F 29 h a 0 v = some h') (hd : decode Y.2.1 pc = .ok (.putfield 10, 3)) (hY : Y.1.cls = RX30) (hI : Y.1.name = "<init>") (hn : narrow (tyX30 0) v = v) (hfit : fits (tyX30 0) v = true) (kk : wp w d Y (pc + 3) ls st h' Q) : wp w d Y pc ls (v :: .ref a :: st) h Q := x_pF (ci := 29) (k := 0) hf hd rfl (by decide) (by rw [hY]; exact q1565) rfl hI (by rw [hY]; rfl) (tyX30_ok 0 (by decide)) hn hfit kk
def fX30_init (this : Nat) (h : eH) : Option (Unit × eH) :=
  (n_obj 28 127 4 tyX29 h).bind fun q1 =>
  (fX29_init q1.1 q1.2).bind fun q3 =>
  (p_F 29 q3.2 this 0 (.ref q1.1)).bind fun h4 =>
  some ((), h4)
theorem pX30_init {w : eW} {d : Nat} (hd : 2 ≤ d) {this : Nat} {h : eH} {q} (hf : fX30_init this h = some q) : wm w d YX30_init [.ref this] h (e_is (e_rn c_V q)) := by
  obtain ⟨d, rfl⟩ : ∃ e, d = e + 1 := ⟨d - 1, by omega⟩
  show wp w (d + 1) YX30_init 0 [some (.ref this)] [] h _
  unfold fX30_init at hf
  refine w_aload_n dX30_init_0 rfl rfl ?_
  refine w_obj dX30_init_1 q1562 q490 q491 (by decide) ?_
  refine w_aload_n dX30_init_4 rfl rfl ?_
  obtain ⟨q1, b2, hf⟩ := Option.bind_eq_some_iff.mp hf
  refine x_new (ci := 28) (g := 127) b2 dX30_init_5 rfl tyX29_ok q1563 q1534 q455 ?_
  refine w_dup dX30_init_8 rfl ?_
  refine x_cnV hf (e_stIN (Yc := YX29_init) (b := q1.1) (av := []) (st := [.ref q1.1, .ref this]) dX30_init_9 q1564 mX29_init) (e_mi.cd mX29_init) mX29_init.2.2.2.2.2.1 (Nat.le_of_ble_eq_true rfl) (Nat.le_of_ble_eq_true rfl) (fun q hq => pX29_init (by omega) hq) (fun q3 hf => ?_)
  obtain ⟨h4, b5, hf⟩ := Option.bind_eq_some_iff.mp hf
  refine SX30_10 b5 dX30_init_12 rfl rfl rfl rfl ?_
  cases hf
  exact w_vret dX30_init_15 rfl rfl
abbrev cX29_clear : ByteArray := prog_30_method_2_code
def yX29_clear : MethodName := ⟨RX29, "clear", "()V"⟩
def YX29_clear : eY := (yX29_clear, cX29_clear, 2, none, [])
theorem mX29_clear : e_mv YX29_clear RX29 0 := ⟨q1615, q1616, q1617, by decide, by decide +kernel, (e_sig (by decide +kernel))⟩
theorem dX29_clear_0 : decode cX29_clear 0 = .ok (.iconst 0, 1) := dc_3 (by decide +kernel)
theorem dX29_clear_1 : decode cX29_clear 1 = .ok (.istore_n 1, 1) := dc_60 (by decide +kernel)
theorem dX29_clear_2 : decode cX29_clear 2 = .ok (.iload_n 1, 1) := dc_27 (by decide +kernel)
theorem dX29_clear_3 : decode cX29_clear 3 = .ok (.iconst 4, 1) := dc_7 (by decide +kernel)
theorem dX29_clear_4 : decode cX29_clear 4 = .ok (.if_icmp .ge 16, 3) := dc_162 (a := 0) (b := 16) (v := 16) (by decide +kernel)
theorem dX29_clear_7 : decode cX29_clear 7 = .ok (.aload_n 0, 1) := dc_42 (by decide +kernel)
theorem dX29_clear_8 : decode cX29_clear 8 = .ok (.getfield 9, 3) := dc_180 (a := 0) (b := 9) (n := 9) (by decide +kernel)
theorem dX29_clear_11 : decode cX29_clear 11 = .ok (.iload_n 1, 1) := dc_27 (by decide +kernel)
theorem dX29_clear_12 : decode cX29_clear 12 = .ok (.lconst 0, 1) := dc_9 (by decide +kernel)
theorem dX29_clear_13 : decode cX29_clear 13 = .ok (.lastore, 1) := dc_80 (by decide +kernel)
theorem dX29_clear_14 : decode cX29_clear 14 = .ok (.iinc 1 1, 3) := dc_132 (a := 1) (b := 1) (v := 1) (by decide +kernel)
theorem dX29_clear_17 : decode cX29_clear 17 = .ok (.goto (-15), 3) := dc_167 (a := 255) (b := 241) (v := -15) (by decide +kernel)
theorem dX29_clear_20 : decode cX29_clear 20 = .ok (.aload_n 0, 1) := dc_42 (by decide +kernel)
theorem dX29_clear_21 : decode cX29_clear 21 = .ok (.lconst 0, 1) := dc_9 (by decide +kernel)
theorem dX29_clear_22 : decode cX29_clear 22 = .ok (.putfield 15, 3) := dc_181 (a := 0) (b := 15) (n := 15) (by decide +kernel)
theorem dX29_clear_25 : decode cX29_clear 25 = .ok (.aload_n 0, 1) := dc_42 (by decide +kernel)
theorem dX29_clear_26 : decode cX29_clear 26 = .ok (.lconst 0, 1) := dc_9 (by decide +kernel)
theorem dX29_clear_27 : decode cX29_clear 27 = .ok (.putfield 19, 3) := dc_181 (a := 0) (b := 19) (n := 19) (by decide +kernel)
theorem dX29_clear_30 : decode cX29_clear 30 = .ok (.aload_n 0, 1) := dc_42 (by decide +kernel)
theorem dX29_clear_31 : decode cX29_clear 31 = .ok (.lconst 0, 1) := dc_9 (by decide +kernel)
theorem dX29_clear_32 : decode cX29_clear 32 = .ok (.putfield 22, 3) := dc_181 (a := 0) (b := 22) (n := 22) (by decide +kernel)
theorem dX29_clear_35 : decode cX29_clear 35 = .ok (.return_, 1) := dc_177 (by decide +kernel)
theorem GX29_9 {w : eW} {d : Nat} {Y : eY} {pc : Nat} {ls : eL} {st : List Value} {h : eH} {Q : eO → eH → Prop} {a : Nat} {x : Nat} (hf : g_A 28 h a 0 = some x) (hd : decode Y.2.1 pc = .ok (.getfield 9, 3)) (hY : Y.1.cls = RX29) (kk : wp w d Y (pc + 3) ls (.ref x :: st) h Q) : wp w d Y pc ls (.ref a :: st) h Q := x_gA (ci := 28) (k := 0) hf hd rfl (by decide) (by rw [hY]; exact q1539) kk
theorem SX29_15 {w : eW} {d : Nat} {Y : eY} {pc : Nat} {ls : eL} {st : List Value} {h : eH} {Q : eO → eH → Prop} {a : Nat} {h' : eH} {x : Int64} (hf : p_V 28 h a 1 (.long x) = some h') (hd : decode Y.2.1 pc = .ok (.putfield 15, 3)) (hY : Y.1.cls = RX29) (kk : wp w d Y (pc + 3) ls st h' Q) : wp w d Y pc ls (.long x :: .ref a :: st) h Q := x_pJ (ci := 28) (k := 1) hf hd rfl (by decide) (by rw [hY]; exact q1541) rfl rfl kk
theorem SX29_19 {w : eW} {d : Nat} {Y : eY} {pc : Nat} {ls : eL} {st : List Value} {h : eH} {Q : eO → eH → Prop} {a : Nat} {h' : eH} {x : Int64} (hf : p_V 28 h a 2 (.long x) = some h') (hd : decode Y.2.1 pc = .ok (.putfield 19, 3)) (hY : Y.1.cls = RX29) (kk : wp w d Y (pc + 3) ls st h' Q) : wp w d Y pc ls (.long x :: .ref a :: st) h Q := x_pJ (ci := 28) (k := 2) hf hd rfl (by decide) (by rw [hY]; exact q1544) rfl rfl kk
theorem SX29_22 {w : eW} {d : Nat} {Y : eY} {pc : Nat} {ls : eL} {st : List Value} {h : eH} {Q : eO → eH → Prop} {a : Nat} {h' : eH} {x : Int64} (hf : p_V 28 h a 3 (.long x) = some h') (hd : decode Y.2.1 pc = .ok (.putfield 22, 3)) (hY : Y.1.cls = RX29) (kk : wp w d Y (pc + 3) ls st h' Q) : wp w d Y pc ls (.long x :: .ref a :: st) h Q := x_pJ (ci := 28) (k := 3) hf hd rfl (by decide) (by rw [hY]; exact q1546) rfl rfl kk
def fX29_clear_b2 (N : Nat) : Nat → Nat → Int32 → eH → Option (Unit × eH)
  | 0, _, _, _ => none
  | n + 1, l0, l1, h =>
    if (4 : Int32) ≤ l1 then
      (p_V 28 h l0 1 (.long (0 : Int64))).bind fun h2 =>
      (p_V 28 h2 l0 2 (.long (0 : Int64))).bind fun h4 =>
      (p_V 28 h4 l0 3 (.long (0 : Int64))).bind fun h6 =>
      some ((), h6)
    else
      (g_A 28 h l0 0).bind fun a8 =>
      (q_V 101 h a8 l1 (.long (0 : Int64))).bind fun h10 =>
      fX29_clear_b2 N n l0 (l1 + (1 : Int32)) h10
theorem pX29_clear_b2 {w : eW} {d : Nat} (hd : 0 ≤ d) {N : Nat} : ∀ (n : Nat) l0 l1 h q, fX29_clear_b2 N n l0 l1 h = some q → wp w d YX29_clear 2 [some (.ref l0), some (.int l1)] [] h (e_is (e_rn c_V q)) := by
  intro n
  induction n with
  | zero => intro l0 l1 h q hf; simp [fX29_clear_b2] at hf
  | succ n ih =>
    intro l0 l1 h q hf
    rw [fX29_clear_b2] at hf
    refine w_iload_n dX29_clear_2 rfl rfl ?_
    refine w_iconst dX29_clear_3 (v := 4) (by decide) ?_
    refine w_icmp_ge 20 dX29_clear_4 (by decide) (fun c1 => ?_) (fun c1 => ?_)
    · replace hf := (if_pos (show (4 : Int32) ≤ l1 from c1)).symm.trans hf
      refine w_aload_n dX29_clear_20 rfl rfl ?_
      refine w_lconst dX29_clear_21 (v := 0) (by decide) ?_
      obtain ⟨h2, b3, hf⟩ := Option.bind_eq_some_iff.mp hf
      refine SX29_15 b3 dX29_clear_22 rfl ?_
      refine w_aload_n dX29_clear_25 rfl rfl ?_
      refine w_lconst dX29_clear_26 (v := 0) (by decide) ?_
      obtain ⟨h4, b5, hf⟩ := Option.bind_eq_some_iff.mp hf
      refine SX29_19 b5 dX29_clear_27 rfl ?_
      refine w_aload_n dX29_clear_30 rfl rfl ?_
      refine w_lconst dX29_clear_31 (v := 0) (by decide) ?_
      obtain ⟨h6, b7, hf⟩ := Option.bind_eq_some_iff.mp hf
      refine SX29_22 b7 dX29_clear_32 rfl ?_
      cases hf
      exact w_vret dX29_clear_35 rfl rfl
    · replace hf := (if_neg (show ¬ ((4 : Int32) ≤ l1) from c1)).symm.trans hf
      refine w_aload_n dX29_clear_7 rfl rfl ?_
      obtain ⟨a8, b9, hf⟩ := Option.bind_eq_some_iff.mp hf
      refine GX29_9 b9 dX29_clear_8 rfl ?_
      refine w_iload_n dX29_clear_11 rfl rfl ?_
      refine w_lconst dX29_clear_12 (v := 0) (by decide) ?_
      obtain ⟨h10, b11, hf⟩ := Option.bind_eq_some_iff.mp hf
      refine x_qJ b11 dX29_clear_13 ?_
      refine w_iinc dX29_clear_14 (v := (l1 + (1 : Int32))) rfl rfl (by decide) (ls' := [some (.ref l0), some (.int (l1 + (1 : Int32)))]) rfl ?_
      refine w_goto 2 dX29_clear_17 (by decide) ?_
      exact (ih _ _ _ _ hf).to ⟨rfl, rfl, trivial⟩
def fX29_clear (N : Nat) (this : Nat) (h : eH) : Option (Unit × eH) :=
  fX29_clear_b2 N N this (0 : Int32) h
theorem pX29_clear {w : eW} {d : Nat} (hd : 0 ≤ d) {N : Nat} {this : Nat} {h : eH} {q} (hf : fX29_clear N this h = some q) : wm w d YX29_clear [.ref this] h (e_is (e_rn c_V q)) := by
  show wp w d YX29_clear 0 [some (.ref this), none] [] h _
  unfold fX29_clear at hf
  refine w_iconst dX29_clear_0 (v := 0) (by decide) ?_
  refine w_istore_n dX29_clear_1 rfl (by decide) (ls' := [some (.ref this), some (.int (0 : Int32))]) rfl ?_
  exact (pX29_clear_b2 hd N _ _ _ _ hf).to ⟨rfl, rfl, trivial⟩
abbrev cX28_begin : ByteArray := prog_21_method_2_code
def yX28_begin : MethodName := ⟨RX28, "begin", "()V"⟩
def YX28_begin : eY := (yX28_begin, cX28_begin, 1, none, [])
theorem mX28_begin : e_mv YX28_begin RX28 0 := ⟨q1611, qs1, q1612, by decide, by decide +kernel, (e_sig (by decide +kernel))⟩
theorem dX28_begin_0 : decode cX28_begin 0 = .ok (.aload_n 0, 1) := dc_42 (by decide +kernel)
theorem dX28_begin_1 : decode cX28_begin 1 = .ok (.getfield 24, 3) := dc_180 (a := 0) (b := 24) (n := 24) (by decide +kernel)
theorem dX28_begin_4 : decode cX28_begin 4 = .ok (.iconst (-1), 1) := dc_2 (by decide +kernel)
theorem dX28_begin_5 : decode cX28_begin 5 = .ok (.putfield 38, 3) := dc_181 (a := 0) (b := 38) (n := 38) (by decide +kernel)
theorem dX28_begin_8 : decode cX28_begin 8 = .ok (.aload_n 0, 1) := dc_42 (by decide +kernel)
theorem dX28_begin_9 : decode cX28_begin 9 = .ok (.iconst (-1), 1) := dc_2 (by decide +kernel)
theorem dX28_begin_10 : decode cX28_begin 10 = .ok (.putfield 42, 3) := dc_181 (a := 0) (b := 42) (n := 42) (by decide +kernel)
theorem dX28_begin_13 : decode cX28_begin 13 = .ok (.aload_n 0, 1) := dc_42 (by decide +kernel)
theorem dX28_begin_14 : decode cX28_begin 14 = .ok (.ldc 45, 2) := dc_18 (a := 45) (by decide +kernel)
theorem dX28_begin_16 : decode cX28_begin 16 = .ok (.putfield 46, 3) := dc_181 (a := 0) (b := 46) (n := 46) (by decide +kernel)
theorem dX28_begin_19 : decode cX28_begin 19 = .ok (.aload_n 0, 1) := dc_42 (by decide +kernel)
theorem dX28_begin_20 : decode cX28_begin 20 = .ok (.getfield 12, 3) := dc_180 (a := 0) (b := 12) (n := 12) (by decide +kernel)
theorem dX28_begin_23 : decode cX28_begin 23 = .ok (.invokevirtual 49, 3) := dc_182 (a := 0) (b := 49) (n := 49) (by decide +kernel)
theorem dX28_begin_26 : decode cX28_begin 26 = .ok (.return_, 1) := dc_177 (by decide +kernel)
theorem GX28_12 {w : eW} {d : Nat} {Y : eY} {pc : Nat} {ls : eL} {st : List Value} {h : eH} {Q : eO → eH → Prop} {a : Nat} {x : Nat} (hf : g_A 27 h a 1 = some x) (hd : decode Y.2.1 pc = .ok (.getfield 12, 3)) (hY : Y.1.cls = RX28) (kk : wp w d Y (pc + 3) ls (.ref x :: st) h Q) : wp w d Y pc ls (.ref a :: st) h Q := x_gA (ci := 27) (k := 1) hf hd rfl (by decide) (by rw [hY]; exact q1619) kk
theorem GX28_24 {w : eW} {d : Nat} {Y : eY} {pc : Nat} {ls : eL} {st : List Value} {h : eH} {Q : eO → eH → Prop} {a : Nat} {x : Nat} (hf : g_A 27 h a 6 = some x) (hd : decode Y.2.1 pc = .ok (.getfield 24, 3)) (hY : Y.1.cls = RX28) (kk : wp w d Y (pc + 3) ls (.ref x :: st) h Q) : wp w d Y pc ls (.ref a :: st) h Q := x_gA (ci := 27) (k := 6) hf hd rfl (by decide) (by rw [hY]; exact q1627) kk
theorem SX28_38 {w : eW} {d : Nat} {Y : eY} {pc : Nat} {ls : eL} {st : List Value} {h : eH} {Q : eO → eH → Prop} {a : Nat} {h' : eH} {x : Int32} (hf : p_V 29 h a 4 (.int x) = some h') (hd : decode Y.2.1 pc = .ok (.putfield 38, 3)) (hY : Y.1.cls = RX28) (kk : wp w d Y (pc + 3) ls st h' Q) : wp w d Y pc ls (.int x :: .ref a :: st) h Q := x_pIN (ci := 29) (k := 4) hf hd rfl (by decide) (by rw [hY]; exact q1573) rfl rfl kk
theorem SX28_42 {w : eW} {d : Nat} {Y : eY} {pc : Nat} {ls : eL} {st : List Value} {h : eH} {Q : eO → eH → Prop} {a : Nat} {h' : eH} {x : Int32} (hf : p_V 27 h a 8 (.int x) = some h') (hd : decode Y.2.1 pc = .ok (.putfield 42, 3)) (hY : Y.1.cls = RX28) (kk : wp w d Y (pc + 3) ls st h' Q) : wp w d Y pc ls (.int x :: .ref a :: st) h Q := x_pI (ci := 27) (k := 8) hf hd rfl (by decide) (by rw [hY]; exact q1630) rfl rfl kk
theorem SX28_46 {w : eW} {d : Nat} {Y : eY} {pc : Nat} {ls : eL} {st : List Value} {h : eH} {Q : eO → eH → Prop} {a : Nat} {h' : eH} {x : Int32} (hf : p_V 27 h a 9 (.int x) = some h') (hd : decode Y.2.1 pc = .ok (.putfield 46, 3)) (hY : Y.1.cls = RX28) (kk : wp w d Y (pc + 3) ls st h' Q) : wp w d Y pc ls (.int x :: .ref a :: st) h Q := x_pI (ci := 27) (k := 9) hf hd rfl (by decide) (by rw [hY]; exact q1631) rfl rfl kk
def fX28_begin (N : Nat) (this : Nat) (h : eH) : Option (Unit × eH) :=
  (g_A 27 h this 6).bind fun a1 =>
  (p_V 29 h a1 4 (.int (-1 : Int32))).bind fun h3 =>
  (p_V 27 h3 this 8 (.int (-1 : Int32))).bind fun h5 =>
  (p_V 27 h5 this 9 (.int (1073741823 : Int32))).bind fun h7 =>
  (g_A 27 h7 this 1).bind fun a9 =>
  (k_ok 28 h7 a9).bind fun _ =>
  (fX29_clear N a9 h7).bind fun q12 =>
  some ((), q12.2)
theorem pX28_begin {w : eW} {d : Nat} (hd : 1 ≤ d) {N : Nat} {this : Nat} {h : eH} {q} (hf : fX28_begin N this h = some q) : wm w d YX28_begin [.ref this] h (e_is (e_rn c_V q)) := by
  obtain ⟨d, rfl⟩ : ∃ e, d = e + 1 := ⟨d - 1, by omega⟩
  show wp w (d + 1) YX28_begin 0 [some (.ref this)] [] h _
  unfold fX28_begin at hf
  refine w_aload_n dX28_begin_0 rfl rfl ?_
  obtain ⟨a1, b2, hf⟩ := Option.bind_eq_some_iff.mp hf
  refine GX28_24 b2 dX28_begin_1 rfl ?_
  refine w_iconst dX28_begin_4 (v := -1) (by decide) ?_
  obtain ⟨h3, b4, hf⟩ := Option.bind_eq_some_iff.mp hf
  refine SX28_38 b4 dX28_begin_5 rfl ?_
  refine w_aload_n dX28_begin_8 rfl rfl ?_
  refine w_iconst dX28_begin_9 (v := -1) (by decide) ?_
  obtain ⟨h5, b6, hf⟩ := Option.bind_eq_some_iff.mp hf
  refine SX28_42 b6 dX28_begin_10 rfl ?_
  refine w_aload_n dX28_begin_13 rfl rfl ?_
  refine w_ldc dX28_begin_14 q1613 ?_
  obtain ⟨h7, b8, hf⟩ := Option.bind_eq_some_iff.mp hf
  refine SX28_46 b8 dX28_begin_16 rfl ?_
  refine w_aload_n dX28_begin_19 rfl rfl ?_
  obtain ⟨a9, b10, hf⟩ := Option.bind_eq_some_iff.mp hf
  refine GX28_12 b10 dX28_begin_20 rfl ?_
  obtain ⟨_, b11, hf⟩ := Option.bind_eq_some_iff.mp hf
  refine x_cnV hf (e_stV (Yc := YX29_clear) (ci := 28) (av := []) (st := []) dX28_begin_23 q1614 mX29_clear rfl (k_ok_some b11).1 (k_ok_some b11).2) mX29_clear.2.2.1 mX29_clear.2.2.2.2.1 (Nat.le_of_ble_eq_true rfl) (Nat.le_of_ble_eq_true rfl) (fun q hq => pX29_clear (by omega) hq) (fun q12 hf => ?_)
  cases hf
  exact w_vret dX28_begin_26 rfl rfl
abbrev cX28_init : ByteArray := prog_21_method_1_code
def yX28_init : MethodName := ⟨RX28, "<init>", "(LTypeHouse$PageItems;)V"⟩
def YX28_init : eY := (yX28_init, cX28_init, 2, none, [])
theorem mX28_init : e_mi YX28_init 1 := ⟨q1530, rfl, rfl, q1531, by decide, by decide +kernel, (e_sig (by decide +kernel))⟩
theorem dX28_init_0 : decode cX28_init 0 = .ok (.aload_n 0, 1) := dc_42 (by decide +kernel)
theorem dX28_init_1 : decode cX28_init 1 = .ok (.invokespecial 3, 3) := dc_183 (a := 0) (b := 3) (n := 3) (by decide +kernel)
theorem dX28_init_4 : decode cX28_init 4 = .ok (.aload_n 0, 1) := dc_42 (by decide +kernel)
theorem dX28_init_5 : decode cX28_init 5 = .ok (.new 9, 3) := dc_187 (a := 0) (b := 9) (n := 9) (by decide +kernel)
theorem dX28_init_8 : decode cX28_init 8 = .ok (.dup, 1) := dc_89 (by decide +kernel)
theorem dX28_init_9 : decode cX28_init 9 = .ok (.invokespecial 11, 3) := dc_183 (a := 0) (b := 11) (n := 11) (by decide +kernel)
theorem dX28_init_12 : decode cX28_init 12 = .ok (.putfield 12, 3) := dc_181 (a := 0) (b := 12) (n := 12) (by decide +kernel)
theorem dX28_init_15 : decode cX28_init 15 = .ok (.aload_n 0, 1) := dc_42 (by decide +kernel)
theorem dX28_init_16 : decode cX28_init 16 = .ok (.new 9, 3) := dc_187 (a := 0) (b := 9) (n := 9) (by decide +kernel)
theorem dX28_init_19 : decode cX28_init 19 = .ok (.dup, 1) := dc_89 (by decide +kernel)
theorem dX28_init_20 : decode cX28_init 20 = .ok (.invokespecial 11, 3) := dc_183 (a := 0) (b := 11) (n := 11) (by decide +kernel)
theorem dX28_init_23 : decode cX28_init 23 = .ok (.putfield 18, 3) := dc_181 (a := 0) (b := 18) (n := 18) (by decide +kernel)
theorem dX28_init_26 : decode cX28_init 26 = .ok (.aload_n 0, 1) := dc_42 (by decide +kernel)
theorem dX28_init_27 : decode cX28_init 27 = .ok (.new 21, 3) := dc_187 (a := 0) (b := 21) (n := 21) (by decide +kernel)
theorem dX28_init_30 : decode cX28_init 30 = .ok (.dup, 1) := dc_89 (by decide +kernel)
theorem dX28_init_31 : decode cX28_init 31 = .ok (.invokespecial 23, 3) := dc_183 (a := 0) (b := 23) (n := 23) (by decide +kernel)
theorem dX28_init_34 : decode cX28_init 34 = .ok (.putfield 24, 3) := dc_181 (a := 0) (b := 24) (n := 24) (by decide +kernel)
theorem dX28_init_37 : decode cX28_init 37 = .ok (.aload_n 0, 1) := dc_42 (by decide +kernel)
theorem dX28_init_38 : decode cX28_init 38 = .ok (.new 21, 3) := dc_187 (a := 0) (b := 21) (n := 21) (by decide +kernel)
theorem dX28_init_41 : decode cX28_init 41 = .ok (.dup, 1) := dc_89 (by decide +kernel)
theorem dX28_init_42 : decode cX28_init 42 = .ok (.invokespecial 23, 3) := dc_183 (a := 0) (b := 23) (n := 23) (by decide +kernel)
theorem dX28_init_45 : decode cX28_init 45 = .ok (.putfield 28, 3) := dc_181 (a := 0) (b := 28) (n := 28) (by decide +kernel)
theorem dX28_init_48 : decode cX28_init 48 = .ok (.aload_n 0, 1) := dc_42 (by decide +kernel)
theorem dX28_init_49 : decode cX28_init 49 = .ok (.aload_n 1, 1) := dc_43 (by decide +kernel)
theorem dX28_init_50 : decode cX28_init 50 = .ok (.putfield 31, 3) := dc_181 (a := 0) (b := 31) (n := 31) (by decide +kernel)
theorem dX28_init_53 : decode cX28_init 53 = .ok (.aload_n 0, 1) := dc_42 (by decide +kernel)
theorem dX28_init_54 : decode cX28_init 54 = .ok (.invokevirtual 35, 3) := dc_182 (a := 0) (b := 35) (n := 35) (by decide +kernel)
theorem dX28_init_57 : decode cX28_init 57 = .ok (.return_, 1) := dc_177 (by decide +kernel)
theorem SX28_12 {w : eW} {d : Nat} {Y : eY} {pc : Nat} {ls : eL} {st : List Value} {h : eH} {Q : eO → eH → Prop} {a : Nat} {h' : eH} {v : Value} (hf : p_F 27 h a 1 v = some h') (hd : decode Y.2.1 pc = .ok (.putfield 12, 3)) (hY : Y.1.cls = RX28) (hI : Y.1.name = "<init>") (hn : narrow (tyX28 1) v = v) (hfit : fits (tyX28 1) v = true) (kk : wp w d Y (pc + 3) ls st h' Q) : wp w d Y pc ls (v :: .ref a :: st) h Q := x_pF (ci := 27) (k := 1) hf hd rfl (by decide) (by rw [hY]; exact q1619) rfl hI (by rw [hY]; rfl) (tyX28_ok 1 (by decide)) hn hfit kk
theorem SX28_18 {w : eW} {d : Nat} {Y : eY} {pc : Nat} {ls : eL} {st : List Value} {h : eH} {Q : eO → eH → Prop} {a : Nat} {h' : eH} {v : Value} (hf : p_F 27 h a 2 v = some h') (hd : decode Y.2.1 pc = .ok (.putfield 18, 3)) (hY : Y.1.cls = RX28) (hI : Y.1.name = "<init>") (hn : narrow (tyX28 2) v = v) (hfit : fits (tyX28 2) v = true) (kk : wp w d Y (pc + 3) ls st h' Q) : wp w d Y pc ls (v :: .ref a :: st) h Q := x_pF (ci := 27) (k := 2) hf hd rfl (by decide) (by rw [hY]; exact q1620) rfl hI (by rw [hY]; rfl) (tyX28_ok 2 (by decide)) hn hfit kk
theorem SX28_24 {w : eW} {d : Nat} {Y : eY} {pc : Nat} {ls : eL} {st : List Value} {h : eH} {Q : eO → eH → Prop} {a : Nat} {h' : eH} {x : Nat} (hf : p_V 27 h a 6 (.ref x) = some h') (hd : decode Y.2.1 pc = .ok (.putfield 24, 3)) (hY : Y.1.cls = RX28) (kk : wp w d Y (pc + 3) ls st h' Q) : wp w d Y pc ls (.ref x :: .ref a :: st) h Q := x_pA (ci := 27) (k := 6) hf hd rfl (by decide) (by rw [hY]; exact q1627) rfl rfl rfl rfl kk
theorem SX28_28 {w : eW} {d : Nat} {Y : eY} {pc : Nat} {ls : eL} {st : List Value} {h : eH} {Q : eO → eH → Prop} {a : Nat} {h' : eH} {x : Nat} (hf : p_V 27 h a 7 (.ref x) = some h') (hd : decode Y.2.1 pc = .ok (.putfield 28, 3)) (hY : Y.1.cls = RX28) (kk : wp w d Y (pc + 3) ls st h' Q) : wp w d Y pc ls (.ref x :: .ref a :: st) h Q := x_pA (ci := 27) (k := 7) hf hd rfl (by decide) (by rw [hY]; exact q1628) rfl rfl rfl rfl kk
theorem SX28_31 {w : eW} {d : Nat} {Y : eY} {pc : Nat} {ls : eL} {st : List Value} {h : eH} {Q : eO → eH → Prop} {a : Nat} {h' : eH} {v : Value} (hf : p_F 27 h a 0 v = some h') (hd : decode Y.2.1 pc = .ok (.putfield 31, 3)) (hY : Y.1.cls = RX28) (hI : Y.1.name = "<init>") (hn : narrow (tyX28 0) v = v) (hfit : fits (tyX28 0) v = true) (kk : wp w d Y (pc + 3) ls st h' Q) : wp w d Y pc ls (v :: .ref a :: st) h Q := x_pF (ci := 27) (k := 0) hf hd rfl (by decide) (by rw [hY]; exact q1618) rfl hI (by rw [hY]; rfl) (tyX28_ok 0 (by decide)) hn hfit kk
def fX28_init (N : Nat) (this : Nat) (p0 : Nat) (h : eH) : Option (Unit × eH) :=
  (n_obj 28 128 4 tyX29 h).bind fun q1 =>
  (fX29_init q1.1 q1.2).bind fun q3 =>
  (p_F 27 q3.2 this 1 (.ref q1.1)).bind fun h4 =>
  (n_obj 28 129 4 tyX29 h4).bind fun q6 =>
  (fX29_init q6.1 q6.2).bind fun q8 =>
  (p_F 27 q8.2 this 2 (.ref q6.1)).bind fun h9 =>
  (n_obj 29 130 12 tyX30 h9).bind fun q11 =>
  (fX30_init q11.1 q11.2).bind fun q13 =>
  (p_V 27 q13.2 this 6 (.ref q11.1)).bind fun h14 =>
  (n_obj 29 131 12 tyX30 h14).bind fun q16 =>
  (fX30_init q16.1 q16.2).bind fun q18 =>
  (p_V 27 q18.2 this 7 (.ref q16.1)).bind fun h19 =>
  (p_F 27 h19 this 0 (.ref p0)).bind fun h21 =>
  (k_ok 27 h21 this).bind fun _ =>
  (fX28_begin N this h21).bind fun q24 =>
  some ((), q24.2)
theorem pX28_init {w : eW} {d : Nat} (hd : 3 ≤ d) {N : Nat} {this : Nat} {p0 : Nat} {h : eH} {q} (hf : fX28_init N this p0 h = some q) : wm w d YX28_init [.ref this, .ref p0] h (e_is (e_rn c_V q)) := by
  obtain ⟨d, rfl⟩ : ∃ e, d = e + 1 := ⟨d - 1, by omega⟩
  show wp w (d + 1) YX28_init 0 [some (.ref this), some (.ref p0)] [] h _
  unfold fX28_init at hf
  refine w_aload_n dX28_init_0 rfl rfl ?_
  refine w_obj dX28_init_1 q1532 q490 q491 (by decide) ?_
  refine w_aload_n dX28_init_4 rfl rfl ?_
  obtain ⟨q1, b2, hf⟩ := Option.bind_eq_some_iff.mp hf
  refine x_new (ci := 28) (g := 128) b2 dX28_init_5 rfl tyX29_ok q1533 q1534 q455 ?_
  refine w_dup dX28_init_8 rfl ?_
  refine x_cnV hf (e_stIN (Yc := YX29_init) (b := q1.1) (av := []) (st := [.ref q1.1, .ref this]) dX28_init_9 q1535 mX29_init) (e_mi.cd mX29_init) mX29_init.2.2.2.2.2.1 (Nat.le_of_ble_eq_true rfl) (Nat.le_of_ble_eq_true rfl) (fun q hq => pX29_init (by omega) hq) (fun q3 hf => ?_)
  obtain ⟨h4, b5, hf⟩ := Option.bind_eq_some_iff.mp hf
  refine SX28_12 b5 dX28_init_12 rfl rfl rfl rfl ?_
  refine w_aload_n dX28_init_15 rfl rfl ?_
  obtain ⟨q6, b7, hf⟩ := Option.bind_eq_some_iff.mp hf
  refine x_new (ci := 28) (g := 129) b7 dX28_init_16 rfl tyX29_ok q1533 q1534 q455 ?_
  refine w_dup dX28_init_19 rfl ?_
  refine x_cnV hf (e_stIN (Yc := YX29_init) (b := q6.1) (av := []) (st := [.ref q6.1, .ref this]) dX28_init_20 q1535 mX29_init) (e_mi.cd mX29_init) mX29_init.2.2.2.2.2.1 (Nat.le_of_ble_eq_true rfl) (Nat.le_of_ble_eq_true rfl) (fun q hq => pX29_init (by omega) hq) (fun q8 hf => ?_)
  obtain ⟨h9, b10, hf⟩ := Option.bind_eq_some_iff.mp hf
  refine SX28_18 b10 dX28_init_23 rfl rfl rfl rfl ?_
  refine w_aload_n dX28_init_26 rfl rfl ?_
  obtain ⟨q11, b12, hf⟩ := Option.bind_eq_some_iff.mp hf
  refine x_new (ci := 29) (g := 130) b12 dX28_init_27 rfl tyX30_ok q1557 q1558 q456 ?_
  refine w_dup dX28_init_30 rfl ?_
  refine x_cnV hf (e_stIN (Yc := YX30_init) (b := q11.1) (av := []) (st := [.ref q11.1, .ref this]) dX28_init_31 q1559 mX30_init) (e_mi.cd mX30_init) mX30_init.2.2.2.2.2.1 (Nat.le_of_ble_eq_true rfl) (Nat.le_of_ble_eq_true rfl) (fun q hq => pX30_init (by omega) hq) (fun q13 hf => ?_)
  obtain ⟨h14, b15, hf⟩ := Option.bind_eq_some_iff.mp hf
  refine SX28_24 b15 dX28_init_34 rfl ?_
  refine w_aload_n dX28_init_37 rfl rfl ?_
  obtain ⟨q16, b17, hf⟩ := Option.bind_eq_some_iff.mp hf
  refine x_new (ci := 29) (g := 131) b17 dX28_init_38 rfl tyX30_ok q1557 q1558 q456 ?_
  refine w_dup dX28_init_41 rfl ?_
  refine x_cnV hf (e_stIN (Yc := YX30_init) (b := q16.1) (av := []) (st := [.ref q16.1, .ref this]) dX28_init_42 q1559 mX30_init) (e_mi.cd mX30_init) mX30_init.2.2.2.2.2.1 (Nat.le_of_ble_eq_true rfl) (Nat.le_of_ble_eq_true rfl) (fun q hq => pX30_init (by omega) hq) (fun q18 hf => ?_)
  obtain ⟨h19, b20, hf⟩ := Option.bind_eq_some_iff.mp hf
  refine SX28_28 b20 dX28_init_45 rfl ?_
  refine w_aload_n dX28_init_48 rfl rfl ?_
  refine w_aload_n dX28_init_49 rfl rfl ?_
  obtain ⟨h21, b22, hf⟩ := Option.bind_eq_some_iff.mp hf
  refine SX28_31 b22 dX28_init_50 rfl rfl rfl rfl ?_
  refine w_aload_n dX28_init_53 rfl rfl ?_
  obtain ⟨_, b23, hf⟩ := Option.bind_eq_some_iff.mp hf
  refine x_cnV hf (e_stV (Yc := YX28_begin) (ci := 27) (av := []) (st := []) dX28_init_54 q1609 mX28_begin rfl (k_ok_some b23).1 (k_ok_some b23).2) mX28_begin.2.2.1 mX28_begin.2.2.2.2.1 (Nat.le_of_ble_eq_true rfl) (Nat.le_of_ble_eq_true rfl) (fun q hq => pX28_begin (by omega) hq) (fun q24 hf => ?_)
  cases hf
  exact w_vret dX28_init_57 rfl rfl
abbrev cX32_init : ByteArray := prog_5_method_1_code
def yX32_init : MethodName := ⟨RX32, "<init>", "(I)V"⟩
def YX32_init : eY := (yX32_init, cX32_init, 2, none, [])
theorem mX32_init : e_mi YX32_init 1 := ⟨q1668, rfl, rfl, q1669, by decide, by decide +kernel, (e_sig (by decide +kernel))⟩
theorem dX32_init_0 : decode cX32_init 0 = .ok (.aload_n 0, 1) := dc_42 (by decide +kernel)
theorem dX32_init_1 : decode cX32_init 1 = .ok (.invokespecial 1, 3) := dc_183 (a := 0) (b := 1) (n := 1) (by decide +kernel)
theorem dX32_init_4 : decode cX32_init 4 = .ok (.aload_n 0, 1) := dc_42 (by decide +kernel)
theorem dX32_init_5 : decode cX32_init 5 = .ok (.iload_n 1, 1) := dc_27 (by decide +kernel)
theorem dX32_init_6 : decode cX32_init 6 = .ok (.newarray .byte, 2) := dc_188_8 (by decide +kernel)
theorem dX32_init_8 : decode cX32_init 8 = .ok (.putfield 7, 3) := dc_181 (a := 0) (b := 7) (n := 7) (by decide +kernel)
theorem dX32_init_11 : decode cX32_init 11 = .ok (.return_, 1) := dc_177 (by decide +kernel)
theorem SX32_7 {w : eW} {d : Nat} {Y : eY} {pc : Nat} {ls : eL} {st : List Value} {h : eH} {Q : eO → eH → Prop} {a : Nat} {h' : eH} {v : Value} (hf : p_F 31 h a 0 v = some h') (hd : decode Y.2.1 pc = .ok (.putfield 7, 3)) (hY : Y.1.cls = RX32) (hI : Y.1.name = "<init>") (hn : narrow (tyX32 0) v = v) (hfit : fits (tyX32 0) v = true) (kk : wp w d Y (pc + 3) ls st h' Q) : wp w d Y pc ls (v :: .ref a :: st) h Q := x_pF (ci := 31) (k := 0) hf hd rfl (by decide) (by rw [hY]; exact q1671) rfl hI (by rw [hY]; rfl) (tyX32_ok 0 (by decide)) hn hfit kk
def fX32_init (this : Nat) (p0 : Int32) (h : eH) : Option (Unit × eH) :=
  (n_arr 102 132 (.int 0) h p0).bind fun q1 =>
  (p_F 31 q1.2 this 0 (.ref q1.1)).bind fun h3 =>
  some ((), h3)
theorem pX32_init {w : eW} {d : Nat} (hd : 1 ≤ d) {this : Nat} {p0 : Int32} {h : eH} {q} (hf : fX32_init this p0 h = some q) : wm w d YX32_init [.ref this, .int p0] h (e_is (e_rn c_V q)) := by
  obtain ⟨d, rfl⟩ : ∃ e, d = e + 1 := ⟨d - 1, by omega⟩
  show wp w (d + 1) YX32_init 0 [some (.ref this), some (.int p0)] [] h _
  unfold fX32_init at hf
  refine w_aload_n dX32_init_0 rfl rfl ?_
  refine w_obj dX32_init_1 q1670 q490 q491 (by decide) ?_
  refine w_aload_n dX32_init_4 rfl rfl ?_
  refine w_iload_n dX32_init_5 rfl rfl ?_
  obtain ⟨q1, b2, hf⟩ := Option.bind_eq_some_iff.mp hf
  refine x_newB (g := 132) b2 dX32_init_6 q507 ?_
  obtain ⟨h3, b4, hf⟩ := Option.bind_eq_some_iff.mp hf
  refine SX32_7 b4 dX32_init_8 rfl rfl rfl rfl ?_
  cases hf
  exact w_vret dX32_init_11 rfl rfl
abbrev cX33_init : ByteArray := prog_16_method_1_code
def yX33_init : MethodName := ⟨RX33, "<init>", "(II)V"⟩
def YX33_init : eY := (yX33_init, cX33_init, 3, none, [])
theorem mX33_init : e_mi YX33_init 2 := ⟨q1683, rfl, rfl, q1684, by decide, by decide +kernel, (e_sig (by decide +kernel))⟩
theorem dX33_init_0 : decode cX33_init 0 = .ok (.aload_n 0, 1) := dc_42 (by decide +kernel)
theorem dX33_init_1 : decode cX33_init 1 = .ok (.invokespecial 3, 3) := dc_183 (a := 0) (b := 3) (n := 3) (by decide +kernel)
theorem dX33_init_4 : decode cX33_init 4 = .ok (.aload_n 0, 1) := dc_42 (by decide +kernel)
theorem dX33_init_5 : decode cX33_init 5 = .ok (.sipush 3000, 3) := dc_17 (a := 11) (b := 184) (v := 3000) (by decide +kernel)
theorem dX33_init_8 : decode cX33_init 8 = .ok (.newarray .int, 2) := dc_188_10 (by decide +kernel)
theorem dX33_init_10 : decode cX33_init 10 = .ok (.putfield 9, 3) := dc_181 (a := 0) (b := 9) (n := 9) (by decide +kernel)
theorem dX33_init_13 : decode cX33_init 13 = .ok (.aload_n 0, 1) := dc_42 (by decide +kernel)
theorem dX33_init_14 : decode cX33_init 14 = .ok (.sipush 3000, 3) := dc_17 (a := 11) (b := 184) (v := 3000) (by decide +kernel)
theorem dX33_init_17 : decode cX33_init 17 = .ok (.newarray .int, 2) := dc_188_10 (by decide +kernel)
theorem dX33_init_19 : decode cX33_init 19 = .ok (.putfield 15, 3) := dc_181 (a := 0) (b := 15) (n := 15) (by decide +kernel)
theorem dX33_init_22 : decode cX33_init 22 = .ok (.aload_n 0, 1) := dc_42 (by decide +kernel)
theorem dX33_init_23 : decode cX33_init 23 = .ok (.sipush 8192, 3) := dc_17 (a := 32) (b := 0) (v := 8192) (by decide +kernel)
theorem dX33_init_26 : decode cX33_init 26 = .ok (.newarray .int, 2) := dc_188_10 (by decide +kernel)
theorem dX33_init_28 : decode cX33_init 28 = .ok (.putfield 18, 3) := dc_181 (a := 0) (b := 18) (n := 18) (by decide +kernel)
theorem dX33_init_31 : decode cX33_init 31 = .ok (.aload_n 0, 1) := dc_42 (by decide +kernel)
theorem dX33_init_32 : decode cX33_init 32 = .ok (.iload_n 1, 1) := dc_27 (by decide +kernel)
theorem dX33_init_33 : decode cX33_init 33 = .ok (.putfield 21, 3) := dc_181 (a := 0) (b := 21) (n := 21) (by decide +kernel)
theorem dX33_init_36 : decode cX33_init 36 = .ok (.aload_n 0, 1) := dc_42 (by decide +kernel)
theorem dX33_init_37 : decode cX33_init 37 = .ok (.iload_n 2, 1) := dc_28 (by decide +kernel)
theorem dX33_init_38 : decode cX33_init 38 = .ok (.putfield 25, 3) := dc_181 (a := 0) (b := 25) (n := 25) (by decide +kernel)
theorem dX33_init_41 : decode cX33_init 41 = .ok (.return_, 1) := dc_177 (by decide +kernel)
theorem SX33_15 {w : eW} {d : Nat} {Y : eY} {pc : Nat} {ls : eL} {st : List Value} {h : eH} {Q : eO → eH → Prop} {a : Nat} {h' : eH} {v : Value} (hf : p_F 32 h a 3 v = some h') (hd : decode Y.2.1 pc = .ok (.putfield 15, 3)) (hY : Y.1.cls = RX33) (hI : Y.1.name = "<init>") (hn : narrow (tyX33 3) v = v) (hfit : fits (tyX33 3) v = true) (kk : wp w d Y (pc + 3) ls st h' Q) : wp w d Y pc ls (v :: .ref a :: st) h Q := x_pF (ci := 32) (k := 3) hf hd rfl (by decide) (by rw [hY]; exact q1689) rfl hI (by rw [hY]; rfl) (tyX33_ok 3 (by decide)) hn hfit kk
theorem SX33_18 {w : eW} {d : Nat} {Y : eY} {pc : Nat} {ls : eL} {st : List Value} {h : eH} {Q : eO → eH → Prop} {a : Nat} {h' : eH} {v : Value} (hf : p_F 32 h a 8 v = some h') (hd : decode Y.2.1 pc = .ok (.putfield 18, 3)) (hY : Y.1.cls = RX33) (hI : Y.1.name = "<init>") (hn : narrow (tyX33 8) v = v) (hfit : fits (tyX33 8) v = true) (kk : wp w d Y (pc + 3) ls st h' Q) : wp w d Y pc ls (v :: .ref a :: st) h Q := x_pF (ci := 32) (k := 8) hf hd rfl (by decide) (by rw [hY]; exact q1694) rfl hI (by rw [hY]; rfl) (tyX33_ok 8 (by decide)) hn hfit kk
theorem SX33_21 {w : eW} {d : Nat} {Y : eY} {pc : Nat} {ls : eL} {st : List Value} {h : eH} {Q : eO → eH → Prop} {a : Nat} {h' : eH} {v : Value} (hf : p_F 32 h a 1 v = some h') (hd : decode Y.2.1 pc = .ok (.putfield 21, 3)) (hY : Y.1.cls = RX33) (hI : Y.1.name = "<init>") (hn : narrow (tyX33 1) v = v) (hfit : fits (tyX33 1) v = true) (kk : wp w d Y (pc + 3) ls st h' Q) : wp w d Y pc ls (v :: .ref a :: st) h Q := x_pF (ci := 32) (k := 1) hf hd rfl (by decide) (by rw [hY]; exact q1687) rfl hI (by rw [hY]; rfl) (tyX33_ok 1 (by decide)) hn hfit kk
theorem SX33_25 {w : eW} {d : Nat} {Y : eY} {pc : Nat} {ls : eL} {st : List Value} {h : eH} {Q : eO → eH → Prop} {a : Nat} {h' : eH} {v : Value} (hf : p_F 32 h a 0 v = some h') (hd : decode Y.2.1 pc = .ok (.putfield 25, 3)) (hY : Y.1.cls = RX33) (hI : Y.1.name = "<init>") (hn : narrow (tyX33 0) v = v) (hfit : fits (tyX33 0) v = true) (kk : wp w d Y (pc + 3) ls st h' Q) : wp w d Y pc ls (v :: .ref a :: st) h Q := x_pF (ci := 32) (k := 0) hf hd rfl (by decide) (by rw [hY]; exact q1686) rfl hI (by rw [hY]; rfl) (tyX33_ok 0 (by decide)) hn hfit kk
theorem SX33_9 {w : eW} {d : Nat} {Y : eY} {pc : Nat} {ls : eL} {st : List Value} {h : eH} {Q : eO → eH → Prop} {a : Nat} {h' : eH} {v : Value} (hf : p_F 32 h a 2 v = some h') (hd : decode Y.2.1 pc = .ok (.putfield 9, 3)) (hY : Y.1.cls = RX33) (hI : Y.1.name = "<init>") (hn : narrow (tyX33 2) v = v) (hfit : fits (tyX33 2) v = true) (kk : wp w d Y (pc + 3) ls st h' Q) : wp w d Y pc ls (v :: .ref a :: st) h Q := x_pF (ci := 32) (k := 2) hf hd rfl (by decide) (by rw [hY]; exact q1688) rfl hI (by rw [hY]; rfl) (tyX33_ok 2 (by decide)) hn hfit kk
def fX33_init (this : Nat) (p0 : Int32) (p1 : Int32) (h : eH) : Option (Unit × eH) :=
  (n_arr 100 133 (.int 0) h (3000 : Int32)).bind fun q1 =>
  (p_F 32 q1.2 this 2 (.ref q1.1)).bind fun h3 =>
  (n_arr 100 134 (.int 0) h3 (3000 : Int32)).bind fun q5 =>
  (p_F 32 q5.2 this 3 (.ref q5.1)).bind fun h7 =>
  (n_arr 100 135 (.int 0) h7 (8192 : Int32)).bind fun q9 =>
  (p_F 32 q9.2 this 8 (.ref q9.1)).bind fun h11 =>
  (p_F 32 h11 this 1 (.int p0)).bind fun h13 =>
  (p_F 32 h13 this 0 (.int p1)).bind fun h15 =>
  some ((), h15)
theorem pX33_init {w : eW} {d : Nat} (hd : 1 ≤ d) {this : Nat} {p0 : Int32} {p1 : Int32} {h : eH} {q} (hf : fX33_init this p0 p1 h = some q) : wm w d YX33_init [.ref this, .int p0, .int p1] h (e_is (e_rn c_V q)) := by
  obtain ⟨d, rfl⟩ : ∃ e, d = e + 1 := ⟨d - 1, by omega⟩
  show wp w (d + 1) YX33_init 0 [some (.ref this), some (.int p0), some (.int p1)] [] h _
  unfold fX33_init at hf
  refine w_aload_n dX33_init_0 rfl rfl ?_
  refine w_obj dX33_init_1 q1685 q490 q491 (by decide) ?_
  refine w_aload_n dX33_init_4 rfl rfl ?_
  refine w_sipush dX33_init_5 (v := 3000) (by decide) ?_
  obtain ⟨q1, b2, hf⟩ := Option.bind_eq_some_iff.mp hf
  refine x_newI (g := 133) b2 dX33_init_8 q582 ?_
  obtain ⟨h3, b4, hf⟩ := Option.bind_eq_some_iff.mp hf
  refine SX33_9 b4 dX33_init_10 rfl rfl rfl rfl ?_
  refine w_aload_n dX33_init_13 rfl rfl ?_
  refine w_sipush dX33_init_14 (v := 3000) (by decide) ?_
  obtain ⟨q5, b6, hf⟩ := Option.bind_eq_some_iff.mp hf
  refine x_newI (g := 134) b6 dX33_init_17 q582 ?_
  obtain ⟨h7, b8, hf⟩ := Option.bind_eq_some_iff.mp hf
  refine SX33_15 b8 dX33_init_19 rfl rfl rfl rfl ?_
  refine w_aload_n dX33_init_22 rfl rfl ?_
  refine w_sipush dX33_init_23 (v := 8192) (by decide) ?_
  obtain ⟨q9, b10, hf⟩ := Option.bind_eq_some_iff.mp hf
  refine x_newI (g := 135) b10 dX33_init_26 q582 ?_
  obtain ⟨h11, b12, hf⟩ := Option.bind_eq_some_iff.mp hf
  refine SX33_18 b12 dX33_init_28 rfl rfl rfl rfl ?_
  refine w_aload_n dX33_init_31 rfl rfl ?_
  refine w_iload_n dX33_init_32 rfl rfl ?_
  obtain ⟨h13, b14, hf⟩ := Option.bind_eq_some_iff.mp hf
  refine SX33_21 b14 dX33_init_33 rfl rfl rfl rfl ?_
  refine w_aload_n dX33_init_36 rfl rfl ?_
  refine w_iload_n dX33_init_37 rfl rfl ?_
  obtain ⟨h15, b16, hf⟩ := Option.bind_eq_some_iff.mp hf
  refine SX33_25 b16 dX33_init_38 rfl rfl rfl rfl ?_
  cases hf
  exact w_vret dX33_init_41 rfl rfl
abbrev cX31_init : ByteArray := prog_35_method_1_code
def yX31_init : MethodName := ⟨RX31, "<init>", "(LTypeHouse$FontTable;)V"⟩
def YX31_init : eY := (yX31_init, cX31_init, 2, none, [])
theorem mX31_init : e_mi YX31_init 1 := ⟨q1661, rfl, rfl, q1662, by decide, by decide +kernel, (e_sig (by decide +kernel))⟩
theorem dX31_init_0 : decode cX31_init 0 = .ok (.aload_n 0, 1) := dc_42 (by decide +kernel)
theorem dX31_init_1 : decode cX31_init 1 = .ok (.invokespecial 3, 3) := dc_183 (a := 0) (b := 3) (n := 3) (by decide +kernel)
theorem dX31_init_4 : decode cX31_init 4 = .ok (.aload_n 0, 1) := dc_42 (by decide +kernel)
theorem dX31_init_5 : decode cX31_init 5 = .ok (.new 9, 3) := dc_187 (a := 0) (b := 9) (n := 9) (by decide +kernel)
theorem dX31_init_8 : decode cX31_init 8 = .ok (.dup, 1) := dc_89 (by decide +kernel)
theorem dX31_init_9 : decode cX31_init 9 = .ok (.ldc 11, 2) := dc_18 (a := 11) (by decide +kernel)
theorem dX31_init_11 : decode cX31_init 11 = .ok (.invokespecial 12, 3) := dc_183 (a := 0) (b := 12) (n := 12) (by decide +kernel)
theorem dX31_init_14 : decode cX31_init 14 = .ok (.putfield 15, 3) := dc_181 (a := 0) (b := 15) (n := 15) (by decide +kernel)
theorem dX31_init_17 : decode cX31_init 17 = .ok (.aload_n 0, 1) := dc_42 (by decide +kernel)
theorem dX31_init_18 : decode cX31_init 18 = .ok (.bipush 10, 2) := dc_16 (a := 10) (v := 10) (by decide +kernel)
theorem dX31_init_20 : decode cX31_init 20 = .ok (.newarray .int, 2) := dc_188_10 (by decide +kernel)
theorem dX31_init_22 : decode cX31_init 22 = .ok (.putfield 21, 3) := dc_181 (a := 0) (b := 21) (n := 21) (by decide +kernel)
theorem dX31_init_25 : decode cX31_init 25 = .ok (.aload_n 0, 1) := dc_42 (by decide +kernel)
theorem dX31_init_26 : decode cX31_init 26 = .ok (.sipush 3000, 3) := dc_17 (a := 11) (b := 184) (v := 3000) (by decide +kernel)
theorem dX31_init_29 : decode cX31_init 29 = .ok (.newarray .int, 2) := dc_188_10 (by decide +kernel)
theorem dX31_init_31 : decode cX31_init 31 = .ok (.putfield 25, 3) := dc_181 (a := 0) (b := 25) (n := 25) (by decide +kernel)
theorem dX31_init_34 : decode cX31_init 34 = .ok (.aload_n 0, 1) := dc_42 (by decide +kernel)
theorem dX31_init_35 : decode cX31_init 35 = .ok (.sipush 3000, 3) := dc_17 (a := 11) (b := 184) (v := 3000) (by decide +kernel)
theorem dX31_init_38 : decode cX31_init 38 = .ok (.newarray .int, 2) := dc_188_10 (by decide +kernel)
theorem dX31_init_40 : decode cX31_init 40 = .ok (.putfield 28, 3) := dc_181 (a := 0) (b := 28) (n := 28) (by decide +kernel)
theorem dX31_init_43 : decode cX31_init 43 = .ok (.aload_n 0, 1) := dc_42 (by decide +kernel)
theorem dX31_init_44 : decode cX31_init 44 = .ok (.sipush 3000, 3) := dc_17 (a := 11) (b := 184) (v := 3000) (by decide +kernel)
theorem dX31_init_47 : decode cX31_init 47 = .ok (.newarray .int, 2) := dc_188_10 (by decide +kernel)
theorem dX31_init_49 : decode cX31_init 49 = .ok (.putfield 31, 3) := dc_181 (a := 0) (b := 31) (n := 31) (by decide +kernel)
theorem dX31_init_52 : decode cX31_init 52 = .ok (.aload_n 0, 1) := dc_42 (by decide +kernel)
theorem dX31_init_53 : decode cX31_init 53 = .ok (.sipush 3000, 3) := dc_17 (a := 11) (b := 184) (v := 3000) (by decide +kernel)
theorem dX31_init_56 : decode cX31_init 56 = .ok (.newarray .int, 2) := dc_188_10 (by decide +kernel)
theorem dX31_init_58 : decode cX31_init 58 = .ok (.putfield 34, 3) := dc_181 (a := 0) (b := 34) (n := 34) (by decide +kernel)
theorem dX31_init_61 : decode cX31_init 61 = .ok (.aload_n 0, 1) := dc_42 (by decide +kernel)
theorem dX31_init_62 : decode cX31_init 62 = .ok (.sipush 3000, 3) := dc_17 (a := 11) (b := 184) (v := 3000) (by decide +kernel)
theorem dX31_init_65 : decode cX31_init 65 = .ok (.newarray .int, 2) := dc_188_10 (by decide +kernel)
theorem dX31_init_67 : decode cX31_init 67 = .ok (.putfield 37, 3) := dc_181 (a := 0) (b := 37) (n := 37) (by decide +kernel)
theorem dX31_init_70 : decode cX31_init 70 = .ok (.aload_n 0, 1) := dc_42 (by decide +kernel)
theorem dX31_init_71 : decode cX31_init 71 = .ok (.new 40, 3) := dc_187 (a := 0) (b := 40) (n := 40) (by decide +kernel)
theorem dX31_init_74 : decode cX31_init 74 = .ok (.dup, 1) := dc_89 (by decide +kernel)
theorem dX31_init_75 : decode cX31_init 75 = .ok (.sipush 143, 3) := dc_17 (a := 0) (b := 143) (v := 143) (by decide +kernel)
theorem dX31_init_78 : decode cX31_init 78 = .ok (.sipush 147, 3) := dc_17 (a := 0) (b := 147) (v := 147) (by decide +kernel)
theorem dX31_init_81 : decode cX31_init 81 = .ok (.invokespecial 42, 3) := dc_183 (a := 0) (b := 42) (n := 42) (by decide +kernel)
theorem dX31_init_84 : decode cX31_init 84 = .ok (.putfield 45, 3) := dc_181 (a := 0) (b := 45) (n := 45) (by decide +kernel)
theorem dX31_init_87 : decode cX31_init 87 = .ok (.aload_n 0, 1) := dc_42 (by decide +kernel)
theorem dX31_init_88 : decode cX31_init 88 = .ok (.new 40, 3) := dc_187 (a := 0) (b := 40) (n := 40) (by decide +kernel)
theorem dX31_init_91 : decode cX31_init 91 = .ok (.dup, 1) := dc_89 (by decide +kernel)
theorem dX31_init_92 : decode cX31_init 92 = .ok (.sipush 157, 3) := dc_17 (a := 0) (b := 157) (v := 157) (by decide +kernel)
theorem dX31_init_95 : decode cX31_init 95 = .ok (.sipush 161, 3) := dc_17 (a := 0) (b := 161) (v := 161) (by decide +kernel)
theorem dX31_init_98 : decode cX31_init 98 = .ok (.invokespecial 42, 3) := dc_183 (a := 0) (b := 42) (n := 42) (by decide +kernel)
theorem dX31_init_101 : decode cX31_init 101 = .ok (.putfield 49, 3) := dc_181 (a := 0) (b := 49) (n := 49) (by decide +kernel)
theorem dX31_init_104 : decode cX31_init 104 = .ok (.aload_n 0, 1) := dc_42 (by decide +kernel)
theorem dX31_init_105 : decode cX31_init 105 = .ok (.iconst (-1), 1) := dc_2 (by decide +kernel)
theorem dX31_init_106 : decode cX31_init 106 = .ok (.putfield 52, 3) := dc_181 (a := 0) (b := 52) (n := 52) (by decide +kernel)
theorem dX31_init_109 : decode cX31_init 109 = .ok (.aload_n 0, 1) := dc_42 (by decide +kernel)
theorem dX31_init_110 : decode cX31_init 110 = .ok (.aload_n 1, 1) := dc_43 (by decide +kernel)
theorem dX31_init_111 : decode cX31_init 111 = .ok (.putfield 56, 3) := dc_181 (a := 0) (b := 56) (n := 56) (by decide +kernel)
theorem dX31_init_114 : decode cX31_init 114 = .ok (.return_, 1) := dc_177 (by decide +kernel)
theorem SX31_15 {w : eW} {d : Nat} {Y : eY} {pc : Nat} {ls : eL} {st : List Value} {h : eH} {Q : eO → eH → Prop} {a : Nat} {h' : eH} {v : Value} (hf : p_F 30 h a 1 v = some h') (hd : decode Y.2.1 pc = .ok (.putfield 15, 3)) (hY : Y.1.cls = RX31) (hI : Y.1.name = "<init>") (hn : narrow (tyX31 1) v = v) (hfit : fits (tyX31 1) v = true) (kk : wp w d Y (pc + 3) ls st h' Q) : wp w d Y pc ls (v :: .ref a :: st) h Q := x_pF (ci := 30) (k := 1) hf hd rfl (by decide) (by rw [hY]; exact q1715) rfl hI (by rw [hY]; rfl) (tyX31_ok 1 (by decide)) hn hfit kk
theorem SX31_21 {w : eW} {d : Nat} {Y : eY} {pc : Nat} {ls : eL} {st : List Value} {h : eH} {Q : eO → eH → Prop} {a : Nat} {h' : eH} {v : Value} (hf : p_F 30 h a 2 v = some h') (hd : decode Y.2.1 pc = .ok (.putfield 21, 3)) (hY : Y.1.cls = RX31) (hI : Y.1.name = "<init>") (hn : narrow (tyX31 2) v = v) (hfit : fits (tyX31 2) v = true) (kk : wp w d Y (pc + 3) ls st h' Q) : wp w d Y pc ls (v :: .ref a :: st) h Q := x_pF (ci := 30) (k := 2) hf hd rfl (by decide) (by rw [hY]; exact q1717) rfl hI (by rw [hY]; rfl) (tyX31_ok 2 (by decide)) hn hfit kk
theorem SX31_25 {w : eW} {d : Nat} {Y : eY} {pc : Nat} {ls : eL} {st : List Value} {h : eH} {Q : eO → eH → Prop} {a : Nat} {h' : eH} {v : Value} (hf : p_F 30 h a 3 v = some h') (hd : decode Y.2.1 pc = .ok (.putfield 25, 3)) (hY : Y.1.cls = RX31) (hI : Y.1.name = "<init>") (hn : narrow (tyX31 3) v = v) (hfit : fits (tyX31 3) v = true) (kk : wp w d Y (pc + 3) ls st h' Q) : wp w d Y pc ls (v :: .ref a :: st) h Q := x_pF (ci := 30) (k := 3) hf hd rfl (by decide) (by rw [hY]; exact q1719) rfl hI (by rw [hY]; rfl) (tyX31_ok 3 (by decide)) hn hfit kk
theorem SX31_28 {w : eW} {d : Nat} {Y : eY} {pc : Nat} {ls : eL} {st : List Value} {h : eH} {Q : eO → eH → Prop} {a : Nat} {h' : eH} {v : Value} (hf : p_F 30 h a 4 v = some h') (hd : decode Y.2.1 pc = .ok (.putfield 28, 3)) (hY : Y.1.cls = RX31) (hI : Y.1.name = "<init>") (hn : narrow (tyX31 4) v = v) (hfit : fits (tyX31 4) v = true) (kk : wp w d Y (pc + 3) ls st h' Q) : wp w d Y pc ls (v :: .ref a :: st) h Q := x_pF (ci := 30) (k := 4) hf hd rfl (by decide) (by rw [hY]; exact q1720) rfl hI (by rw [hY]; rfl) (tyX31_ok 4 (by decide)) hn hfit kk
theorem SX31_31 {w : eW} {d : Nat} {Y : eY} {pc : Nat} {ls : eL} {st : List Value} {h : eH} {Q : eO → eH → Prop} {a : Nat} {h' : eH} {v : Value} (hf : p_F 30 h a 5 v = some h') (hd : decode Y.2.1 pc = .ok (.putfield 31, 3)) (hY : Y.1.cls = RX31) (hI : Y.1.name = "<init>") (hn : narrow (tyX31 5) v = v) (hfit : fits (tyX31 5) v = true) (kk : wp w d Y (pc + 3) ls st h' Q) : wp w d Y pc ls (v :: .ref a :: st) h Q := x_pF (ci := 30) (k := 5) hf hd rfl (by decide) (by rw [hY]; exact q1721) rfl hI (by rw [hY]; rfl) (tyX31_ok 5 (by decide)) hn hfit kk
theorem SX31_34 {w : eW} {d : Nat} {Y : eY} {pc : Nat} {ls : eL} {st : List Value} {h : eH} {Q : eO → eH → Prop} {a : Nat} {h' : eH} {v : Value} (hf : p_F 30 h a 6 v = some h') (hd : decode Y.2.1 pc = .ok (.putfield 34, 3)) (hY : Y.1.cls = RX31) (hI : Y.1.name = "<init>") (hn : narrow (tyX31 6) v = v) (hfit : fits (tyX31 6) v = true) (kk : wp w d Y (pc + 3) ls st h' Q) : wp w d Y pc ls (v :: .ref a :: st) h Q := x_pF (ci := 30) (k := 6) hf hd rfl (by decide) (by rw [hY]; exact q1722) rfl hI (by rw [hY]; rfl) (tyX31_ok 6 (by decide)) hn hfit kk
theorem SX31_37 {w : eW} {d : Nat} {Y : eY} {pc : Nat} {ls : eL} {st : List Value} {h : eH} {Q : eO → eH → Prop} {a : Nat} {h' : eH} {v : Value} (hf : p_F 30 h a 7 v = some h') (hd : decode Y.2.1 pc = .ok (.putfield 37, 3)) (hY : Y.1.cls = RX31) (hI : Y.1.name = "<init>") (hn : narrow (tyX31 7) v = v) (hfit : fits (tyX31 7) v = true) (kk : wp w d Y (pc + 3) ls st h' Q) : wp w d Y pc ls (v :: .ref a :: st) h Q := x_pF (ci := 30) (k := 7) hf hd rfl (by decide) (by rw [hY]; exact q1723) rfl hI (by rw [hY]; rfl) (tyX31_ok 7 (by decide)) hn hfit kk
theorem SX31_45 {w : eW} {d : Nat} {Y : eY} {pc : Nat} {ls : eL} {st : List Value} {h : eH} {Q : eO → eH → Prop} {a : Nat} {h' : eH} {v : Value} (hf : p_F 30 h a 9 v = some h') (hd : decode Y.2.1 pc = .ok (.putfield 45, 3)) (hY : Y.1.cls = RX31) (hI : Y.1.name = "<init>") (hn : narrow (tyX31 9) v = v) (hfit : fits (tyX31 9) v = true) (kk : wp w d Y (pc + 3) ls st h' Q) : wp w d Y pc ls (v :: .ref a :: st) h Q := x_pF (ci := 30) (k := 9) hf hd rfl (by decide) (by rw [hY]; exact q1726) rfl hI (by rw [hY]; rfl) (tyX31_ok 9 (by decide)) hn hfit kk
theorem SX31_49 {w : eW} {d : Nat} {Y : eY} {pc : Nat} {ls : eL} {st : List Value} {h : eH} {Q : eO → eH → Prop} {a : Nat} {h' : eH} {v : Value} (hf : p_F 30 h a 10 v = some h') (hd : decode Y.2.1 pc = .ok (.putfield 49, 3)) (hY : Y.1.cls = RX31) (hI : Y.1.name = "<init>") (hn : narrow (tyX31 10) v = v) (hfit : fits (tyX31 10) v = true) (kk : wp w d Y (pc + 3) ls st h' Q) : wp w d Y pc ls (v :: .ref a :: st) h Q := x_pF (ci := 30) (k := 10) hf hd rfl (by decide) (by rw [hY]; exact q1727) rfl hI (by rw [hY]; rfl) (tyX31_ok 10 (by decide)) hn hfit kk
theorem SX31_52 {w : eW} {d : Nat} {Y : eY} {pc : Nat} {ls : eL} {st : List Value} {h : eH} {Q : eO → eH → Prop} {a : Nat} {h' : eH} {x : Int32} (hf : p_V 30 h a 14 (.int x) = some h') (hd : decode Y.2.1 pc = .ok (.putfield 52, 3)) (hY : Y.1.cls = RX31) (kk : wp w d Y (pc + 3) ls st h' Q) : wp w d Y pc ls (.int x :: .ref a :: st) h Q := x_pI (ci := 30) (k := 14) hf hd rfl (by decide) (by rw [hY]; exact q1732) rfl rfl kk
theorem SX31_56 {w : eW} {d : Nat} {Y : eY} {pc : Nat} {ls : eL} {st : List Value} {h : eH} {Q : eO → eH → Prop} {a : Nat} {h' : eH} {v : Value} (hf : p_F 30 h a 0 v = some h') (hd : decode Y.2.1 pc = .ok (.putfield 56, 3)) (hY : Y.1.cls = RX31) (hI : Y.1.name = "<init>") (hn : narrow (tyX31 0) v = v) (hfit : fits (tyX31 0) v = true) (kk : wp w d Y (pc + 3) ls st h' Q) : wp w d Y pc ls (v :: .ref a :: st) h Q := x_pF (ci := 30) (k := 0) hf hd rfl (by decide) (by rw [hY]; exact q1714) rfl hI (by rw [hY]; rfl) (tyX31_ok 0 (by decide)) hn hfit kk
def fX31_init (this : Nat) (p0 : Nat) (h : eH) : Option (Unit × eH) :=
  (n_obj 31 136 2 tyX32 h).bind fun q1 =>
  (fX32_init q1.1 (300000 : Int32) q1.2).bind fun q3 =>
  (p_F 30 q3.2 this 1 (.ref q1.1)).bind fun h4 =>
  (n_arr 100 137 (.int 0) h4 (10 : Int32)).bind fun q6 =>
  (p_F 30 q6.2 this 2 (.ref q6.1)).bind fun h8 =>
  (n_arr 100 138 (.int 0) h8 (3000 : Int32)).bind fun q10 =>
  (p_F 30 q10.2 this 3 (.ref q10.1)).bind fun h12 =>
  (n_arr 100 139 (.int 0) h12 (3000 : Int32)).bind fun q14 =>
  (p_F 30 q14.2 this 4 (.ref q14.1)).bind fun h16 =>
  (n_arr 100 140 (.int 0) h16 (3000 : Int32)).bind fun q18 =>
  (p_F 30 q18.2 this 5 (.ref q18.1)).bind fun h20 =>
  (n_arr 100 141 (.int 0) h20 (3000 : Int32)).bind fun q22 =>
  (p_F 30 q22.2 this 6 (.ref q22.1)).bind fun h24 =>
  (n_arr 100 142 (.int 0) h24 (3000 : Int32)).bind fun q26 =>
  (p_F 30 q26.2 this 7 (.ref q26.1)).bind fun h28 =>
  (n_obj 32 143 9 tyX33 h28).bind fun q30 =>
  (fX33_init q30.1 (143 : Int32) (147 : Int32) q30.2).bind fun q32 =>
  (p_F 30 q32.2 this 9 (.ref q30.1)).bind fun h33 =>
  (n_obj 32 144 9 tyX33 h33).bind fun q35 =>
  (fX33_init q35.1 (157 : Int32) (161 : Int32) q35.2).bind fun q37 =>
  (p_F 30 q37.2 this 10 (.ref q35.1)).bind fun h38 =>
  (p_V 30 h38 this 14 (.int (-1 : Int32))).bind fun h40 =>
  (p_F 30 h40 this 0 (.ref p0)).bind fun h42 =>
  some ((), h42)
theorem pX31_init {w : eW} {d : Nat} (hd : 2 ≤ d) {this : Nat} {p0 : Nat} {h : eH} {q} (hf : fX31_init this p0 h = some q) : wm w d YX31_init [.ref this, .ref p0] h (e_is (e_rn c_V q)) := by
  obtain ⟨d, rfl⟩ : ∃ e, d = e + 1 := ⟨d - 1, by omega⟩
  show wp w (d + 1) YX31_init 0 [some (.ref this), some (.ref p0)] [] h _
  unfold fX31_init at hf
  refine w_aload_n dX31_init_0 rfl rfl ?_
  refine w_obj dX31_init_1 q1663 q490 q491 (by decide) ?_
  refine w_aload_n dX31_init_4 rfl rfl ?_
  obtain ⟨q1, b2, hf⟩ := Option.bind_eq_some_iff.mp hf
  refine x_new (ci := 31) (g := 136) b2 dX31_init_5 rfl tyX32_ok q1664 q1665 q458 ?_
  refine w_dup dX31_init_8 rfl ?_
  refine w_ldc dX31_init_9 q1666 ?_
  refine x_cnV hf (e_stI (Yc := YX32_init) (b := q1.1) (av := [.int (300000 : Int32)]) (st := [.ref q1.1, .ref this]) dX31_init_11 q1667 mX32_init) (e_mi.cd mX32_init) mX32_init.2.2.2.2.2.1 (Nat.le_of_ble_eq_true rfl) (Nat.le_of_ble_eq_true rfl) (fun q hq => pX32_init (by omega) hq) (fun q3 hf => ?_)
  obtain ⟨h4, b5, hf⟩ := Option.bind_eq_some_iff.mp hf
  refine SX31_15 b5 dX31_init_14 rfl rfl rfl rfl ?_
  refine w_aload_n dX31_init_17 rfl rfl ?_
  refine w_bipush dX31_init_18 (v := 10) (by decide) ?_
  obtain ⟨q6, b7, hf⟩ := Option.bind_eq_some_iff.mp hf
  refine x_newI (g := 137) b7 dX31_init_20 q582 ?_
  obtain ⟨h8, b9, hf⟩ := Option.bind_eq_some_iff.mp hf
  refine SX31_21 b9 dX31_init_22 rfl rfl rfl rfl ?_
  refine w_aload_n dX31_init_25 rfl rfl ?_
  refine w_sipush dX31_init_26 (v := 3000) (by decide) ?_
  obtain ⟨q10, b11, hf⟩ := Option.bind_eq_some_iff.mp hf
  refine x_newI (g := 138) b11 dX31_init_29 q582 ?_
  obtain ⟨h12, b13, hf⟩ := Option.bind_eq_some_iff.mp hf
  refine SX31_25 b13 dX31_init_31 rfl rfl rfl rfl ?_
  refine w_aload_n dX31_init_34 rfl rfl ?_
  refine w_sipush dX31_init_35 (v := 3000) (by decide) ?_
  obtain ⟨q14, b15, hf⟩ := Option.bind_eq_some_iff.mp hf
  refine x_newI (g := 139) b15 dX31_init_38 q582 ?_
  obtain ⟨h16, b17, hf⟩ := Option.bind_eq_some_iff.mp hf
  refine SX31_28 b17 dX31_init_40 rfl rfl rfl rfl ?_
  refine w_aload_n dX31_init_43 rfl rfl ?_
  refine w_sipush dX31_init_44 (v := 3000) (by decide) ?_
  obtain ⟨q18, b19, hf⟩ := Option.bind_eq_some_iff.mp hf
  refine x_newI (g := 140) b19 dX31_init_47 q582 ?_
  obtain ⟨h20, b21, hf⟩ := Option.bind_eq_some_iff.mp hf
  refine SX31_31 b21 dX31_init_49 rfl rfl rfl rfl ?_
  refine w_aload_n dX31_init_52 rfl rfl ?_
  refine w_sipush dX31_init_53 (v := 3000) (by decide) ?_
  obtain ⟨q22, b23, hf⟩ := Option.bind_eq_some_iff.mp hf
  refine x_newI (g := 141) b23 dX31_init_56 q582 ?_
  obtain ⟨h24, b25, hf⟩ := Option.bind_eq_some_iff.mp hf
  refine SX31_34 b25 dX31_init_58 rfl rfl rfl rfl ?_
  refine w_aload_n dX31_init_61 rfl rfl ?_
  refine w_sipush dX31_init_62 (v := 3000) (by decide) ?_
  obtain ⟨q26, b27, hf⟩ := Option.bind_eq_some_iff.mp hf
  refine x_newI (g := 142) b27 dX31_init_65 q582 ?_
  obtain ⟨h28, b29, hf⟩ := Option.bind_eq_some_iff.mp hf
  refine SX31_37 b29 dX31_init_67 rfl rfl rfl rfl ?_
  refine w_aload_n dX31_init_70 rfl rfl ?_
  obtain ⟨q30, b31, hf⟩ := Option.bind_eq_some_iff.mp hf
  refine x_new (ci := 32) (g := 143) b31 dX31_init_71 rfl tyX33_ok q1680 q1681 q459 ?_
  refine w_dup dX31_init_74 rfl ?_
  refine w_sipush dX31_init_75 (v := 143) (by decide) ?_
  refine w_sipush dX31_init_78 (v := 147) (by decide) ?_
  refine x_cnV hf (e_stI (Yc := YX33_init) (b := q30.1) (av := [.int (143 : Int32), .int (147 : Int32)]) (st := [.ref q30.1, .ref this]) dX31_init_81 q1682 mX33_init) (e_mi.cd mX33_init) mX33_init.2.2.2.2.2.1 (Nat.le_of_ble_eq_true rfl) (Nat.le_of_ble_eq_true rfl) (fun q hq => pX33_init (by omega) hq) (fun q32 hf => ?_)
  obtain ⟨h33, b34, hf⟩ := Option.bind_eq_some_iff.mp hf
  refine SX31_45 b34 dX31_init_84 rfl rfl rfl rfl ?_
  refine w_aload_n dX31_init_87 rfl rfl ?_
  obtain ⟨q35, b36, hf⟩ := Option.bind_eq_some_iff.mp hf
  refine x_new (ci := 32) (g := 144) b36 dX31_init_88 rfl tyX33_ok q1680 q1681 q459 ?_
  refine w_dup dX31_init_91 rfl ?_
  refine w_sipush dX31_init_92 (v := 157) (by decide) ?_
  refine w_sipush dX31_init_95 (v := 161) (by decide) ?_
  refine x_cnV hf (e_stI (Yc := YX33_init) (b := q35.1) (av := [.int (157 : Int32), .int (161 : Int32)]) (st := [.ref q35.1, .ref this]) dX31_init_98 q1682 mX33_init) (e_mi.cd mX33_init) mX33_init.2.2.2.2.2.1 (Nat.le_of_ble_eq_true rfl) (Nat.le_of_ble_eq_true rfl) (fun q hq => pX33_init (by omega) hq) (fun q37 hf => ?_)
  obtain ⟨h38, b39, hf⟩ := Option.bind_eq_some_iff.mp hf
  refine SX31_49 b39 dX31_init_101 rfl rfl rfl rfl ?_
  refine w_aload_n dX31_init_104 rfl rfl ?_
  refine w_iconst dX31_init_105 (v := -1) (by decide) ?_
  obtain ⟨h40, b41, hf⟩ := Option.bind_eq_some_iff.mp hf
  refine SX31_52 b41 dX31_init_106 rfl ?_
  refine w_aload_n dX31_init_109 rfl rfl ?_
  refine w_aload_n dX31_init_110 rfl rfl ?_
  obtain ⟨h42, b43, hf⟩ := Option.bind_eq_some_iff.mp hf
  refine SX31_56 b43 dX31_init_111 rfl rfl rfl rfl ?_
  cases hf
  exact w_vret dX31_init_114 rfl rfl
abbrev cX34_init : ByteArray := prog_13_method_1_code
def yX34_init : MethodName := ⟨RX34, "<init>", "()V"⟩
def YX34_init : eY := (yX34_init, cX34_init, 1, none, [])
theorem mX34_init : e_mi YX34_init 0 := ⟨q1776, rfl, rfl, q1777, by decide, by decide +kernel, (e_sig (by decide +kernel))⟩
theorem dX34_init_0 : decode cX34_init 0 = .ok (.aload_n 0, 1) := dc_42 (by decide +kernel)
theorem dX34_init_1 : decode cX34_init 1 = .ok (.invokespecial 1, 3) := dc_183 (a := 0) (b := 1) (n := 1) (by decide +kernel)
theorem dX34_init_4 : decode cX34_init 4 = .ok (.aload_n 0, 1) := dc_42 (by decide +kernel)
theorem dX34_init_5 : decode cX34_init 5 = .ok (.sipush 384, 3) := dc_17 (a := 1) (b := 128) (v := 384) (by decide +kernel)
theorem dX34_init_8 : decode cX34_init 8 = .ok (.newarray .int, 2) := dc_188_10 (by decide +kernel)
theorem dX34_init_10 : decode cX34_init 10 = .ok (.putfield 9, 3) := dc_181 (a := 0) (b := 9) (n := 9) (by decide +kernel)
theorem dX34_init_13 : decode cX34_init 13 = .ok (.return_, 1) := dc_177 (by decide +kernel)
theorem SX34_9 {w : eW} {d : Nat} {Y : eY} {pc : Nat} {ls : eL} {st : List Value} {h : eH} {Q : eO → eH → Prop} {a : Nat} {h' : eH} {x : Nat} (hf : p_V 33 h a 0 (.ref x) = some h') (hd : decode Y.2.1 pc = .ok (.putfield 9, 3)) (hY : Y.1.cls = RX34) (kk : wp w d Y (pc + 3) ls st h' Q) : wp w d Y pc ls (.ref x :: .ref a :: st) h Q := x_pA (ci := 33) (k := 0) hf hd rfl (by decide) (by rw [hY]; exact q1779) rfl rfl rfl rfl kk
def fX34_init (this : Nat) (h : eH) : Option (Unit × eH) :=
  (n_arr 100 145 (.int 0) h (384 : Int32)).bind fun q1 =>
  (p_V 33 q1.2 this 0 (.ref q1.1)).bind fun h3 =>
  some ((), h3)
theorem pX34_init {w : eW} {d : Nat} (hd : 1 ≤ d) {this : Nat} {h : eH} {q} (hf : fX34_init this h = some q) : wm w d YX34_init [.ref this] h (e_is (e_rn c_V q)) := by
  obtain ⟨d, rfl⟩ : ∃ e, d = e + 1 := ⟨d - 1, by omega⟩
  show wp w (d + 1) YX34_init 0 [some (.ref this)] [] h _
  unfold fX34_init at hf
  refine w_aload_n dX34_init_0 rfl rfl ?_
  refine w_obj dX34_init_1 q1778 q490 q491 (by decide) ?_
  refine w_aload_n dX34_init_4 rfl rfl ?_
  refine w_sipush dX34_init_5 (v := 384) (by decide) ?_
  obtain ⟨q1, b2, hf⟩ := Option.bind_eq_some_iff.mp hf
  refine x_newI (g := 145) b2 dX34_init_8 q582 ?_
  obtain ⟨h3, b4, hf⟩ := Option.bind_eq_some_iff.mp hf
  refine SX34_9 b4 dX34_init_10 rfl ?_
  cases hf
  exact w_vret dX34_init_13 rfl rfl
abbrev cX3_init : ByteArray := prog_26_method_1_code
def yX3_init : MethodName := ⟨RX3, "<init>", "()V"⟩
def YX3_init : eY := (yX3_init, cX3_init, 1, none, [])
theorem mX3_init : e_mi YX3_init 0 := ⟨q511, rfl, rfl, q512, by decide, by decide +kernel, (e_sig (by decide +kernel))⟩
theorem dX3_init_0 : decode cX3_init 0 = .ok (.aload_n 0, 1) := dc_42 (by decide +kernel)
theorem dX3_init_1 : decode cX3_init 1 = .ok (.invokespecial 5, 3) := dc_183 (a := 0) (b := 5) (n := 5) (by decide +kernel)
theorem dX3_init_4 : decode cX3_init 4 = .ok (.aload_n 0, 1) := dc_42 (by decide +kernel)
theorem dX3_init_5 : decode cX3_init 5 = .ok (.new 11, 3) := dc_187 (a := 0) (b := 11) (n := 11) (by decide +kernel)
theorem dX3_init_8 : decode cX3_init 8 = .ok (.dup, 1) := dc_89 (by decide +kernel)
theorem dX3_init_9 : decode cX3_init 9 = .ok (.invokespecial 13, 3) := dc_183 (a := 0) (b := 13) (n := 13) (by decide +kernel)
theorem dX3_init_12 : decode cX3_init 12 = .ok (.putfield 14, 3) := dc_181 (a := 0) (b := 14) (n := 14) (by decide +kernel)
theorem dX3_init_15 : decode cX3_init 15 = .ok (.aload_n 0, 1) := dc_42 (by decide +kernel)
theorem dX3_init_16 : decode cX3_init 16 = .ok (.new 20, 3) := dc_187 (a := 0) (b := 20) (n := 20) (by decide +kernel)
theorem dX3_init_19 : decode cX3_init 19 = .ok (.dup, 1) := dc_89 (by decide +kernel)
theorem dX3_init_20 : decode cX3_init 20 = .ok (.invokespecial 22, 3) := dc_183 (a := 0) (b := 22) (n := 22) (by decide +kernel)
theorem dX3_init_23 : decode cX3_init 23 = .ok (.putfield 23, 3) := dc_181 (a := 0) (b := 23) (n := 23) (by decide +kernel)
theorem dX3_init_26 : decode cX3_init 26 = .ok (.aload_n 0, 1) := dc_42 (by decide +kernel)
theorem dX3_init_27 : decode cX3_init 27 = .ok (.new 27, 3) := dc_187 (a := 0) (b := 27) (n := 27) (by decide +kernel)
theorem dX3_init_30 : decode cX3_init 30 = .ok (.dup, 1) := dc_89 (by decide +kernel)
theorem dX3_init_31 : decode cX3_init 31 = .ok (.invokespecial 29, 3) := dc_183 (a := 0) (b := 29) (n := 29) (by decide +kernel)
theorem dX3_init_34 : decode cX3_init 34 = .ok (.putfield 30, 3) := dc_181 (a := 0) (b := 30) (n := 30) (by decide +kernel)
theorem dX3_init_37 : decode cX3_init 37 = .ok (.aload_n 0, 1) := dc_42 (by decide +kernel)
theorem dX3_init_38 : decode cX3_init 38 = .ok (.sipush 3000, 3) := dc_17 (a := 11) (b := 184) (v := 3000) (by decide +kernel)
theorem dX3_init_41 : decode cX3_init 41 = .ok (.anewarray 34, 3) := dc_189 (a := 0) (b := 34) (n := 34) (by decide +kernel)
theorem dX3_init_44 : decode cX3_init 44 = .ok (.putfield 36, 3) := dc_181 (a := 0) (b := 36) (n := 36) (by decide +kernel)
theorem dX3_init_47 : decode cX3_init 47 = .ok (.aload_n 0, 1) := dc_42 (by decide +kernel)
theorem dX3_init_48 : decode cX3_init 48 = .ok (.new 40, 3) := dc_187 (a := 0) (b := 40) (n := 40) (by decide +kernel)
theorem dX3_init_51 : decode cX3_init 51 = .ok (.dup, 1) := dc_89 (by decide +kernel)
theorem dX3_init_52 : decode cX3_init 52 = .ok (.aload_n 0, 1) := dc_42 (by decide +kernel)
theorem dX3_init_53 : decode cX3_init 53 = .ok (.getfield 14, 3) := dc_180 (a := 0) (b := 14) (n := 14) (by decide +kernel)
theorem dX3_init_56 : decode cX3_init 56 = .ok (.aload_n 0, 1) := dc_42 (by decide +kernel)
theorem dX3_init_57 : decode cX3_init 57 = .ok (.getfield 23, 3) := dc_180 (a := 0) (b := 23) (n := 23) (by decide +kernel)
theorem dX3_init_60 : decode cX3_init 60 = .ok (.aload_n 0, 1) := dc_42 (by decide +kernel)
theorem dX3_init_61 : decode cX3_init 61 = .ok (.getfield 36, 3) := dc_180 (a := 0) (b := 36) (n := 36) (by decide +kernel)
theorem dX3_init_64 : decode cX3_init 64 = .ok (.invokespecial 42, 3) := dc_183 (a := 0) (b := 42) (n := 42) (by decide +kernel)
theorem dX3_init_67 : decode cX3_init 67 = .ok (.putfield 45, 3) := dc_181 (a := 0) (b := 45) (n := 45) (by decide +kernel)
theorem dX3_init_70 : decode cX3_init 70 = .ok (.aload_n 0, 1) := dc_42 (by decide +kernel)
theorem dX3_init_71 : decode cX3_init 71 = .ok (.aload_n 0, 1) := dc_42 (by decide +kernel)
theorem dX3_init_72 : decode cX3_init 72 = .ok (.getfield 45, 3) := dc_180 (a := 0) (b := 45) (n := 45) (by decide +kernel)
theorem dX3_init_75 : decode cX3_init 75 = .ok (.getfield 49, 3) := dc_180 (a := 0) (b := 49) (n := 49) (by decide +kernel)
theorem dX3_init_78 : decode cX3_init 78 = .ok (.putfield 53, 3) := dc_181 (a := 0) (b := 53) (n := 53) (by decide +kernel)
theorem dX3_init_81 : decode cX3_init 81 = .ok (.aload_n 0, 1) := dc_42 (by decide +kernel)
theorem dX3_init_82 : decode cX3_init 82 = .ok (.new 54, 3) := dc_187 (a := 0) (b := 54) (n := 54) (by decide +kernel)
theorem dX3_init_85 : decode cX3_init 85 = .ok (.dup, 1) := dc_89 (by decide +kernel)
theorem dX3_init_86 : decode cX3_init 86 = .ok (.invokespecial 56, 3) := dc_183 (a := 0) (b := 56) (n := 56) (by decide +kernel)
theorem dX3_init_89 : decode cX3_init 89 = .ok (.putfield 57, 3) := dc_181 (a := 0) (b := 57) (n := 57) (by decide +kernel)
theorem dX3_init_92 : decode cX3_init 92 = .ok (.aload_n 0, 1) := dc_42 (by decide +kernel)
theorem dX3_init_93 : decode cX3_init 93 = .ok (.new 61, 3) := dc_187 (a := 0) (b := 61) (n := 61) (by decide +kernel)
theorem dX3_init_96 : decode cX3_init 96 = .ok (.dup, 1) := dc_89 (by decide +kernel)
theorem dX3_init_97 : decode cX3_init 97 = .ok (.invokespecial 63, 3) := dc_183 (a := 0) (b := 63) (n := 63) (by decide +kernel)
theorem dX3_init_100 : decode cX3_init 100 = .ok (.putfield 64, 3) := dc_181 (a := 0) (b := 64) (n := 64) (by decide +kernel)
theorem dX3_init_103 : decode cX3_init 103 = .ok (.aload_n 0, 1) := dc_42 (by decide +kernel)
theorem dX3_init_104 : decode cX3_init 104 = .ok (.new 68, 3) := dc_187 (a := 0) (b := 68) (n := 68) (by decide +kernel)
theorem dX3_init_107 : decode cX3_init 107 = .ok (.dup, 1) := dc_89 (by decide +kernel)
theorem dX3_init_108 : decode cX3_init 108 = .ok (.aload_n 0, 1) := dc_42 (by decide +kernel)
theorem dX3_init_109 : decode cX3_init 109 = .ok (.getfield 30, 3) := dc_180 (a := 0) (b := 30) (n := 30) (by decide +kernel)
theorem dX3_init_112 : decode cX3_init 112 = .ok (.aload_n 0, 1) := dc_42 (by decide +kernel)
theorem dX3_init_113 : decode cX3_init 113 = .ok (.getfield 36, 3) := dc_180 (a := 0) (b := 36) (n := 36) (by decide +kernel)
theorem dX3_init_116 : decode cX3_init 116 = .ok (.invokespecial 70, 3) := dc_183 (a := 0) (b := 70) (n := 70) (by decide +kernel)
theorem dX3_init_119 : decode cX3_init 119 = .ok (.putfield 73, 3) := dc_181 (a := 0) (b := 73) (n := 73) (by decide +kernel)
theorem dX3_init_122 : decode cX3_init 122 = .ok (.aload_n 0, 1) := dc_42 (by decide +kernel)
theorem dX3_init_123 : decode cX3_init 123 = .ok (.new 77, 3) := dc_187 (a := 0) (b := 77) (n := 77) (by decide +kernel)
theorem dX3_init_126 : decode cX3_init 126 = .ok (.dup, 1) := dc_89 (by decide +kernel)
theorem dX3_init_127 : decode cX3_init 127 = .ok (.aload_n 0, 1) := dc_42 (by decide +kernel)
theorem dX3_init_128 : decode cX3_init 128 = .ok (.getfield 30, 3) := dc_180 (a := 0) (b := 30) (n := 30) (by decide +kernel)
theorem dX3_init_131 : decode cX3_init 131 = .ok (.aload_n 0, 1) := dc_42 (by decide +kernel)
theorem dX3_init_132 : decode cX3_init 132 = .ok (.getfield 36, 3) := dc_180 (a := 0) (b := 36) (n := 36) (by decide +kernel)
theorem dX3_init_135 : decode cX3_init 135 = .ok (.invokespecial 79, 3) := dc_183 (a := 0) (b := 79) (n := 79) (by decide +kernel)
theorem dX3_init_138 : decode cX3_init 138 = .ok (.putfield 80, 3) := dc_181 (a := 0) (b := 80) (n := 80) (by decide +kernel)
theorem dX3_init_141 : decode cX3_init 141 = .ok (.aload_n 0, 1) := dc_42 (by decide +kernel)
theorem dX3_init_142 : decode cX3_init 142 = .ok (.new 84, 3) := dc_187 (a := 0) (b := 84) (n := 84) (by decide +kernel)
theorem dX3_init_145 : decode cX3_init 145 = .ok (.dup, 1) := dc_89 (by decide +kernel)
theorem dX3_init_146 : decode cX3_init 146 = .ok (.invokespecial 86, 3) := dc_183 (a := 0) (b := 86) (n := 86) (by decide +kernel)
theorem dX3_init_149 : decode cX3_init 149 = .ok (.putfield 87, 3) := dc_181 (a := 0) (b := 87) (n := 87) (by decide +kernel)
theorem dX3_init_152 : decode cX3_init 152 = .ok (.aload_n 0, 1) := dc_42 (by decide +kernel)
theorem dX3_init_153 : decode cX3_init 153 = .ok (.new 91, 3) := dc_187 (a := 0) (b := 91) (n := 91) (by decide +kernel)
theorem dX3_init_156 : decode cX3_init 156 = .ok (.dup, 1) := dc_89 (by decide +kernel)
theorem dX3_init_157 : decode cX3_init 157 = .ok (.invokespecial 93, 3) := dc_183 (a := 0) (b := 93) (n := 93) (by decide +kernel)
theorem dX3_init_160 : decode cX3_init 160 = .ok (.putfield 94, 3) := dc_181 (a := 0) (b := 94) (n := 94) (by decide +kernel)
theorem dX3_init_163 : decode cX3_init 163 = .ok (.aload_n 0, 1) := dc_42 (by decide +kernel)
theorem dX3_init_164 : decode cX3_init 164 = .ok (.new 98, 3) := dc_187 (a := 0) (b := 98) (n := 98) (by decide +kernel)
theorem dX3_init_167 : decode cX3_init 167 = .ok (.dup, 1) := dc_89 (by decide +kernel)
theorem dX3_init_168 : decode cX3_init 168 = .ok (.aload_n 0, 1) := dc_42 (by decide +kernel)
theorem dX3_init_169 : decode cX3_init 169 = .ok (.getfield 94, 3) := dc_180 (a := 0) (b := 94) (n := 94) (by decide +kernel)
theorem dX3_init_172 : decode cX3_init 172 = .ok (.invokespecial 100, 3) := dc_183 (a := 0) (b := 100) (n := 100) (by decide +kernel)
theorem dX3_init_175 : decode cX3_init 175 = .ok (.putfield 103, 3) := dc_181 (a := 0) (b := 103) (n := 103) (by decide +kernel)
theorem dX3_init_178 : decode cX3_init 178 = .ok (.aload_n 0, 1) := dc_42 (by decide +kernel)
theorem dX3_init_179 : decode cX3_init 179 = .ok (.new 107, 3) := dc_187 (a := 0) (b := 107) (n := 107) (by decide +kernel)
theorem dX3_init_182 : decode cX3_init 182 = .ok (.dup, 1) := dc_89 (by decide +kernel)
theorem dX3_init_183 : decode cX3_init 183 = .ok (.invokespecial 109, 3) := dc_183 (a := 0) (b := 109) (n := 109) (by decide +kernel)
theorem dX3_init_186 : decode cX3_init 186 = .ok (.putfield 110, 3) := dc_181 (a := 0) (b := 110) (n := 110) (by decide +kernel)
theorem dX3_init_189 : decode cX3_init 189 = .ok (.aload_n 0, 1) := dc_42 (by decide +kernel)
theorem dX3_init_190 : decode cX3_init 190 = .ok (.new 114, 3) := dc_187 (a := 0) (b := 114) (n := 114) (by decide +kernel)
theorem dX3_init_193 : decode cX3_init 193 = .ok (.dup, 1) := dc_89 (by decide +kernel)
theorem dX3_init_194 : decode cX3_init 194 = .ok (.aload_n 0, 1) := dc_42 (by decide +kernel)
theorem dX3_init_195 : decode cX3_init 195 = .ok (.getfield 23, 3) := dc_180 (a := 0) (b := 23) (n := 23) (by decide +kernel)
theorem dX3_init_198 : decode cX3_init 198 = .ok (.invokespecial 116, 3) := dc_183 (a := 0) (b := 116) (n := 116) (by decide +kernel)
theorem dX3_init_201 : decode cX3_init 201 = .ok (.putfield 119, 3) := dc_181 (a := 0) (b := 119) (n := 119) (by decide +kernel)
theorem dX3_init_204 : decode cX3_init 204 = .ok (.aload_n 0, 1) := dc_42 (by decide +kernel)
theorem dX3_init_205 : decode cX3_init 205 = .ok (.new 123, 3) := dc_187 (a := 0) (b := 123) (n := 123) (by decide +kernel)
theorem dX3_init_208 : decode cX3_init 208 = .ok (.dup, 1) := dc_89 (by decide +kernel)
theorem dX3_init_209 : decode cX3_init 209 = .ok (.invokespecial 125, 3) := dc_183 (a := 0) (b := 125) (n := 125) (by decide +kernel)
theorem dX3_init_212 : decode cX3_init 212 = .ok (.putfield 126, 3) := dc_181 (a := 0) (b := 126) (n := 126) (by decide +kernel)
theorem dX3_init_215 : decode cX3_init 215 = .ok (.aload_n 0, 1) := dc_42 (by decide +kernel)
theorem dX3_init_216 : decode cX3_init 216 = .ok (.new 123, 3) := dc_187 (a := 0) (b := 123) (n := 123) (by decide +kernel)
theorem dX3_init_219 : decode cX3_init 219 = .ok (.dup, 1) := dc_89 (by decide +kernel)
theorem dX3_init_220 : decode cX3_init 220 = .ok (.invokespecial 125, 3) := dc_183 (a := 0) (b := 125) (n := 125) (by decide +kernel)
theorem dX3_init_223 : decode cX3_init 223 = .ok (.putfield 130, 3) := dc_181 (a := 0) (b := 130) (n := 130) (by decide +kernel)
theorem dX3_init_226 : decode cX3_init 226 = .ok (.aload_n 0, 1) := dc_42 (by decide +kernel)
theorem dX3_init_227 : decode cX3_init 227 = .ok (.new 123, 3) := dc_187 (a := 0) (b := 123) (n := 123) (by decide +kernel)
theorem dX3_init_230 : decode cX3_init 230 = .ok (.dup, 1) := dc_89 (by decide +kernel)
theorem dX3_init_231 : decode cX3_init 231 = .ok (.invokespecial 125, 3) := dc_183 (a := 0) (b := 125) (n := 125) (by decide +kernel)
theorem dX3_init_234 : decode cX3_init 234 = .ok (.putfield 133, 3) := dc_181 (a := 0) (b := 133) (n := 133) (by decide +kernel)
theorem dX3_init_237 : decode cX3_init 237 = .ok (.aload_n 0, 1) := dc_42 (by decide +kernel)
theorem dX3_init_238 : decode cX3_init 238 = .ok (.sipush 256, 3) := dc_17 (a := 1) (b := 0) (v := 256) (by decide +kernel)
theorem dX3_init_241 : decode cX3_init 241 = .ok (.newarray .int, 2) := dc_188_10 (by decide +kernel)
theorem dX3_init_243 : decode cX3_init 243 = .ok (.putfield 136, 3) := dc_181 (a := 0) (b := 136) (n := 136) (by decide +kernel)
theorem dX3_init_246 : decode cX3_init 246 = .ok (.aload_n 0, 1) := dc_42 (by decide +kernel)
theorem dX3_init_247 : decode cX3_init 247 = .ok (.sipush 256, 3) := dc_17 (a := 1) (b := 0) (v := 256) (by decide +kernel)
theorem dX3_init_250 : decode cX3_init 250 = .ok (.newarray .int, 2) := dc_188_10 (by decide +kernel)
theorem dX3_init_252 : decode cX3_init 252 = .ok (.putfield 140, 3) := dc_181 (a := 0) (b := 140) (n := 140) (by decide +kernel)
theorem dX3_init_255 : decode cX3_init 255 = .ok (.aload_n 0, 1) := dc_42 (by decide +kernel)
theorem dX3_init_256 : decode cX3_init 256 = .ok (.sipush 256, 3) := dc_17 (a := 1) (b := 0) (v := 256) (by decide +kernel)
theorem dX3_init_259 : decode cX3_init 259 = .ok (.newarray .int, 2) := dc_188_10 (by decide +kernel)
theorem dX3_init_261 : decode cX3_init 261 = .ok (.putfield 143, 3) := dc_181 (a := 0) (b := 143) (n := 143) (by decide +kernel)
theorem dX3_init_264 : decode cX3_init 264 = .ok (.aload_n 0, 1) := dc_42 (by decide +kernel)
theorem dX3_init_265 : decode cX3_init 265 = .ok (.sipush 256, 3) := dc_17 (a := 1) (b := 0) (v := 256) (by decide +kernel)
theorem dX3_init_268 : decode cX3_init 268 = .ok (.newarray .int, 2) := dc_188_10 (by decide +kernel)
theorem dX3_init_270 : decode cX3_init 270 = .ok (.putfield 146, 3) := dc_181 (a := 0) (b := 146) (n := 146) (by decide +kernel)
theorem dX3_init_273 : decode cX3_init 273 = .ok (.aload_n 0, 1) := dc_42 (by decide +kernel)
theorem dX3_init_274 : decode cX3_init 274 = .ok (.sipush 256, 3) := dc_17 (a := 1) (b := 0) (v := 256) (by decide +kernel)
theorem dX3_init_277 : decode cX3_init 277 = .ok (.newarray .int, 2) := dc_188_10 (by decide +kernel)
theorem dX3_init_279 : decode cX3_init 279 = .ok (.putfield 149, 3) := dc_181 (a := 0) (b := 149) (n := 149) (by decide +kernel)
theorem dX3_init_282 : decode cX3_init 282 = .ok (.aload_n 0, 1) := dc_42 (by decide +kernel)
theorem dX3_init_283 : decode cX3_init 283 = .ok (.sipush 256, 3) := dc_17 (a := 1) (b := 0) (v := 256) (by decide +kernel)
theorem dX3_init_286 : decode cX3_init 286 = .ok (.newarray .int, 2) := dc_188_10 (by decide +kernel)
theorem dX3_init_288 : decode cX3_init 288 = .ok (.putfield 152, 3) := dc_181 (a := 0) (b := 152) (n := 152) (by decide +kernel)
theorem dX3_init_291 : decode cX3_init 291 = .ok (.aload_n 0, 1) := dc_42 (by decide +kernel)
theorem dX3_init_292 : decode cX3_init 292 = .ok (.sipush 256, 3) := dc_17 (a := 1) (b := 0) (v := 256) (by decide +kernel)
theorem dX3_init_295 : decode cX3_init 295 = .ok (.newarray .int, 2) := dc_188_10 (by decide +kernel)
theorem dX3_init_297 : decode cX3_init 297 = .ok (.putfield 155, 3) := dc_181 (a := 0) (b := 155) (n := 155) (by decide +kernel)
theorem dX3_init_300 : decode cX3_init 300 = .ok (.aload_n 0, 1) := dc_42 (by decide +kernel)
theorem dX3_init_301 : decode cX3_init 301 = .ok (.sipush 256, 3) := dc_17 (a := 1) (b := 0) (v := 256) (by decide +kernel)
theorem dX3_init_304 : decode cX3_init 304 = .ok (.newarray .boolean, 2) := dc_188_4 (by decide +kernel)
theorem dX3_init_306 : decode cX3_init 306 = .ok (.putfield 158, 3) := dc_181 (a := 0) (b := 158) (n := 158) (by decide +kernel)
theorem dX3_init_309 : decode cX3_init 309 = .ok (.aload_n 0, 1) := dc_42 (by decide +kernel)
theorem dX3_init_310 : decode cX3_init 310 = .ok (.bipush 64, 2) := dc_16 (a := 64) (v := 64) (by decide +kernel)
theorem dX3_init_312 : decode cX3_init 312 = .ok (.newarray .byte, 2) := dc_188_8 (by decide +kernel)
theorem dX3_init_314 : decode cX3_init 314 = .ok (.putfield 162, 3) := dc_181 (a := 0) (b := 162) (n := 162) (by decide +kernel)
theorem dX3_init_317 : decode cX3_init 317 = .ok (.aload_n 0, 1) := dc_42 (by decide +kernel)
theorem dX3_init_318 : decode cX3_init 318 = .ok (.bipush 64, 2) := dc_16 (a := 64) (v := 64) (by decide +kernel)
theorem dX3_init_320 : decode cX3_init 320 = .ok (.newarray .byte, 2) := dc_188_8 (by decide +kernel)
theorem dX3_init_322 : decode cX3_init 322 = .ok (.putfield 166, 3) := dc_181 (a := 0) (b := 166) (n := 166) (by decide +kernel)
theorem dX3_init_325 : decode cX3_init 325 = .ok (.aload_n 0, 1) := dc_42 (by decide +kernel)
theorem dX3_init_326 : decode cX3_init 326 = .ok (.new 123, 3) := dc_187 (a := 0) (b := 123) (n := 123) (by decide +kernel)
theorem dX3_init_329 : decode cX3_init 329 = .ok (.dup, 1) := dc_89 (by decide +kernel)
theorem dX3_init_330 : decode cX3_init 330 = .ok (.invokespecial 125, 3) := dc_183 (a := 0) (b := 125) (n := 125) (by decide +kernel)
theorem dX3_init_333 : decode cX3_init 333 = .ok (.putfield 169, 3) := dc_181 (a := 0) (b := 169) (n := 169) (by decide +kernel)
theorem dX3_init_336 : decode cX3_init 336 = .ok (.aload_n 0, 1) := dc_42 (by decide +kernel)
theorem dX3_init_337 : decode cX3_init 337 = .ok (.new 123, 3) := dc_187 (a := 0) (b := 123) (n := 123) (by decide +kernel)
theorem dX3_init_340 : decode cX3_init 340 = .ok (.dup, 1) := dc_89 (by decide +kernel)
theorem dX3_init_341 : decode cX3_init 341 = .ok (.invokespecial 125, 3) := dc_183 (a := 0) (b := 125) (n := 125) (by decide +kernel)
theorem dX3_init_344 : decode cX3_init 344 = .ok (.putfield 172, 3) := dc_181 (a := 0) (b := 172) (n := 172) (by decide +kernel)
theorem dX3_init_347 : decode cX3_init 347 = .ok (.aload_n 0, 1) := dc_42 (by decide +kernel)
theorem dX3_init_348 : decode cX3_init 348 = .ok (.sipush 1132, 3) := dc_17 (a := 4) (b := 108) (v := 1132) (by decide +kernel)
theorem dX3_init_351 : decode cX3_init 351 = .ok (.newarray .int, 2) := dc_188_10 (by decide +kernel)
theorem dX3_init_353 : decode cX3_init 353 = .ok (.putfield 175, 3) := dc_181 (a := 0) (b := 175) (n := 175) (by decide +kernel)
theorem dX3_init_356 : decode cX3_init 356 = .ok (.aload_n 0, 1) := dc_42 (by decide +kernel)
theorem dX3_init_357 : decode cX3_init 357 = .ok (.bipush 8, 2) := dc_16 (a := 8) (v := 8) (by decide +kernel)
theorem dX3_init_359 : decode cX3_init 359 = .ok (.newarray .int, 2) := dc_188_10 (by decide +kernel)
theorem dX3_init_361 : decode cX3_init 361 = .ok (.putfield 178, 3) := dc_181 (a := 0) (b := 178) (n := 178) (by decide +kernel)
theorem dX3_init_364 : decode cX3_init 364 = .ok (.return_, 1) := dc_177 (by decide +kernel)
theorem GX3_14 {w : eW} {d : Nat} {Y : eY} {pc : Nat} {ls : eL} {st : List Value} {h : eH} {Q : eO → eH → Prop} {a : Nat} {x : Nat} (hf : g_A 2 h a 0 = some x) (hd : decode Y.2.1 pc = .ok (.getfield 14, 3)) (hY : Y.1.cls = RX3) (kk : wp w d Y (pc + 3) ls (.ref x :: st) h Q) : wp w d Y pc ls (.ref a :: st) h Q := x_gA (ci := 2) (k := 0) hf hd rfl (by decide) (by rw [hY]; exact q1787) kk
theorem GX3_23 {w : eW} {d : Nat} {Y : eY} {pc : Nat} {ls : eL} {st : List Value} {h : eH} {Q : eO → eH → Prop} {a : Nat} {x : Nat} (hf : g_A 2 h a 1 = some x) (hd : decode Y.2.1 pc = .ok (.getfield 23, 3)) (hY : Y.1.cls = RX3) (kk : wp w d Y (pc + 3) ls (.ref x :: st) h Q) : wp w d Y pc ls (.ref a :: st) h Q := x_gA (ci := 2) (k := 1) hf hd rfl (by decide) (by rw [hY]; exact q1788) kk
theorem GX3_30 {w : eW} {d : Nat} {Y : eY} {pc : Nat} {ls : eL} {st : List Value} {h : eH} {Q : eO → eH → Prop} {a : Nat} {x : Nat} (hf : g_A 2 h a 2 = some x) (hd : decode Y.2.1 pc = .ok (.getfield 30, 3)) (hY : Y.1.cls = RX3) (kk : wp w d Y (pc + 3) ls (.ref x :: st) h Q) : wp w d Y pc ls (.ref a :: st) h Q := x_gA (ci := 2) (k := 2) hf hd rfl (by decide) (by rw [hY]; exact q1790) kk
theorem GX3_36 {w : eW} {d : Nat} {Y : eY} {pc : Nat} {ls : eL} {st : List Value} {h : eH} {Q : eO → eH → Prop} {a : Nat} {x : Nat} (hf : g_A 2 h a 3 = some x) (hd : decode Y.2.1 pc = .ok (.getfield 36, 3)) (hY : Y.1.cls = RX3) (kk : wp w d Y (pc + 3) ls (.ref x :: st) h Q) : wp w d Y pc ls (.ref a :: st) h Q := x_gA (ci := 2) (k := 3) hf hd rfl (by decide) (by rw [hY]; exact q1791) kk
theorem GX3_45 {w : eW} {d : Nat} {Y : eY} {pc : Nat} {ls : eL} {st : List Value} {h : eH} {Q : eO → eH → Prop} {a : Nat} {x : Nat} (hf : g_A 2 h a 5 = some x) (hd : decode Y.2.1 pc = .ok (.getfield 45, 3)) (hY : Y.1.cls = RX3) (kk : wp w d Y (pc + 3) ls (.ref x :: st) h Q) : wp w d Y pc ls (.ref a :: st) h Q := x_gA (ci := 2) (k := 5) hf hd rfl (by decide) (by rw [hY]; exact q1793) kk
theorem GX3_49 {w : eW} {d : Nat} {Y : eY} {pc : Nat} {ls : eL} {st : List Value} {h : eH} {Q : eO → eH → Prop} {a : Nat} {x : Nat} (hf : g_A 7 h a 4 = some x) (hd : decode Y.2.1 pc = .ok (.getfield 49, 3)) (hY : Y.1.cls = RX3) (kk : wp w d Y (pc + 3) ls (.ref x :: st) h Q) : wp w d Y pc ls (.ref a :: st) h Q := x_gAN (ci := 7) (k := 4) hf hd rfl (by decide) (by rw [hY]; exact q836) kk
theorem GX3_94 {w : eW} {d : Nat} {Y : eY} {pc : Nat} {ls : eL} {st : List Value} {h : eH} {Q : eO → eH → Prop} {a : Nat} {x : Nat} (hf : g_A 2 h a 12 = some x) (hd : decode Y.2.1 pc = .ok (.getfield 94, 3)) (hY : Y.1.cls = RX3) (kk : wp w d Y (pc + 3) ls (.ref x :: st) h Q) : wp w d Y pc ls (.ref a :: st) h Q := x_gA (ci := 2) (k := 12) hf hd rfl (by decide) (by rw [hY]; exact q1803) kk
theorem SX3_103 {w : eW} {d : Nat} {Y : eY} {pc : Nat} {ls : eL} {st : List Value} {h : eH} {Q : eO → eH → Prop} {a : Nat} {h' : eH} {v : Value} (hf : p_F 2 h a 13 v = some h') (hd : decode Y.2.1 pc = .ok (.putfield 103, 3)) (hY : Y.1.cls = RX3) (hI : Y.1.name = "<init>") (hn : narrow (tyX3 13) v = v) (hfit : fits (tyX3 13) v = true) (kk : wp w d Y (pc + 3) ls st h' Q) : wp w d Y pc ls (v :: .ref a :: st) h Q := x_pF (ci := 2) (k := 13) hf hd rfl (by decide) (by rw [hY]; exact q1804) rfl hI (by rw [hY]; rfl) (tyX3_ok 13 (by decide)) hn hfit kk
theorem SX3_110 {w : eW} {d : Nat} {Y : eY} {pc : Nat} {ls : eL} {st : List Value} {h : eH} {Q : eO → eH → Prop} {a : Nat} {h' : eH} {v : Value} (hf : p_F 2 h a 14 v = some h') (hd : decode Y.2.1 pc = .ok (.putfield 110, 3)) (hY : Y.1.cls = RX3) (hI : Y.1.name = "<init>") (hn : narrow (tyX3 14) v = v) (hfit : fits (tyX3 14) v = true) (kk : wp w d Y (pc + 3) ls st h' Q) : wp w d Y pc ls (v :: .ref a :: st) h Q := x_pF (ci := 2) (k := 14) hf hd rfl (by decide) (by rw [hY]; exact q1805) rfl hI (by rw [hY]; rfl) (tyX3_ok 14 (by decide)) hn hfit kk
theorem SX3_119 {w : eW} {d : Nat} {Y : eY} {pc : Nat} {ls : eL} {st : List Value} {h : eH} {Q : eO → eH → Prop} {a : Nat} {h' : eH} {v : Value} (hf : p_F 2 h a 15 v = some h') (hd : decode Y.2.1 pc = .ok (.putfield 119, 3)) (hY : Y.1.cls = RX3) (hI : Y.1.name = "<init>") (hn : narrow (tyX3 15) v = v) (hfit : fits (tyX3 15) v = true) (kk : wp w d Y (pc + 3) ls st h' Q) : wp w d Y pc ls (v :: .ref a :: st) h Q := x_pF (ci := 2) (k := 15) hf hd rfl (by decide) (by rw [hY]; exact q1806) rfl hI (by rw [hY]; rfl) (tyX3_ok 15 (by decide)) hn hfit kk
theorem SX3_126 {w : eW} {d : Nat} {Y : eY} {pc : Nat} {ls : eL} {st : List Value} {h : eH} {Q : eO → eH → Prop} {a : Nat} {h' : eH} {v : Value} (hf : p_F 2 h a 16 v = some h') (hd : decode Y.2.1 pc = .ok (.putfield 126, 3)) (hY : Y.1.cls = RX3) (hI : Y.1.name = "<init>") (hn : narrow (tyX3 16) v = v) (hfit : fits (tyX3 16) v = true) (kk : wp w d Y (pc + 3) ls st h' Q) : wp w d Y pc ls (v :: .ref a :: st) h Q := x_pF (ci := 2) (k := 16) hf hd rfl (by decide) (by rw [hY]; exact q1808) rfl hI (by rw [hY]; rfl) (tyX3_ok 16 (by decide)) hn hfit kk
theorem SX3_130 {w : eW} {d : Nat} {Y : eY} {pc : Nat} {ls : eL} {st : List Value} {h : eH} {Q : eO → eH → Prop} {a : Nat} {h' : eH} {v : Value} (hf : p_F 2 h a 17 v = some h') (hd : decode Y.2.1 pc = .ok (.putfield 130, 3)) (hY : Y.1.cls = RX3) (hI : Y.1.name = "<init>") (hn : narrow (tyX3 17) v = v) (hfit : fits (tyX3 17) v = true) (kk : wp w d Y (pc + 3) ls st h' Q) : wp w d Y pc ls (v :: .ref a :: st) h Q := x_pF (ci := 2) (k := 17) hf hd rfl (by decide) (by rw [hY]; exact q1809) rfl hI (by rw [hY]; rfl) (tyX3_ok 17 (by decide)) hn hfit kk
theorem SX3_133 {w : eW} {d : Nat} {Y : eY} {pc : Nat} {ls : eL} {st : List Value} {h : eH} {Q : eO → eH → Prop} {a : Nat} {h' : eH} {v : Value} (hf : p_F 2 h a 18 v = some h') (hd : decode Y.2.1 pc = .ok (.putfield 133, 3)) (hY : Y.1.cls = RX3) (hI : Y.1.name = "<init>") (hn : narrow (tyX3 18) v = v) (hfit : fits (tyX3 18) v = true) (kk : wp w d Y (pc + 3) ls st h' Q) : wp w d Y pc ls (v :: .ref a :: st) h Q := x_pF (ci := 2) (k := 18) hf hd rfl (by decide) (by rw [hY]; exact q1810) rfl hI (by rw [hY]; rfl) (tyX3_ok 18 (by decide)) hn hfit kk
theorem SX3_136 {w : eW} {d : Nat} {Y : eY} {pc : Nat} {ls : eL} {st : List Value} {h : eH} {Q : eO → eH → Prop} {a : Nat} {h' : eH} {v : Value} (hf : p_F 2 h a 19 v = some h') (hd : decode Y.2.1 pc = .ok (.putfield 136, 3)) (hY : Y.1.cls = RX3) (hI : Y.1.name = "<init>") (hn : narrow (tyX3 19) v = v) (hfit : fits (tyX3 19) v = true) (kk : wp w d Y (pc + 3) ls st h' Q) : wp w d Y pc ls (v :: .ref a :: st) h Q := x_pF (ci := 2) (k := 19) hf hd rfl (by decide) (by rw [hY]; exact q1811) rfl hI (by rw [hY]; rfl) (tyX3_ok 19 (by decide)) hn hfit kk
theorem SX3_14 {w : eW} {d : Nat} {Y : eY} {pc : Nat} {ls : eL} {st : List Value} {h : eH} {Q : eO → eH → Prop} {a : Nat} {h' : eH} {v : Value} (hf : p_F 2 h a 0 v = some h') (hd : decode Y.2.1 pc = .ok (.putfield 14, 3)) (hY : Y.1.cls = RX3) (hI : Y.1.name = "<init>") (hn : narrow (tyX3 0) v = v) (hfit : fits (tyX3 0) v = true) (kk : wp w d Y (pc + 3) ls st h' Q) : wp w d Y pc ls (v :: .ref a :: st) h Q := x_pF (ci := 2) (k := 0) hf hd rfl (by decide) (by rw [hY]; exact q1787) rfl hI (by rw [hY]; rfl) (tyX3_ok 0 (by decide)) hn hfit kk
theorem SX3_140 {w : eW} {d : Nat} {Y : eY} {pc : Nat} {ls : eL} {st : List Value} {h : eH} {Q : eO → eH → Prop} {a : Nat} {h' : eH} {v : Value} (hf : p_F 2 h a 20 v = some h') (hd : decode Y.2.1 pc = .ok (.putfield 140, 3)) (hY : Y.1.cls = RX3) (hI : Y.1.name = "<init>") (hn : narrow (tyX3 20) v = v) (hfit : fits (tyX3 20) v = true) (kk : wp w d Y (pc + 3) ls st h' Q) : wp w d Y pc ls (v :: .ref a :: st) h Q := x_pF (ci := 2) (k := 20) hf hd rfl (by decide) (by rw [hY]; exact q1812) rfl hI (by rw [hY]; rfl) (tyX3_ok 20 (by decide)) hn hfit kk
theorem SX3_143 {w : eW} {d : Nat} {Y : eY} {pc : Nat} {ls : eL} {st : List Value} {h : eH} {Q : eO → eH → Prop} {a : Nat} {h' : eH} {v : Value} (hf : p_F 2 h a 21 v = some h') (hd : decode Y.2.1 pc = .ok (.putfield 143, 3)) (hY : Y.1.cls = RX3) (hI : Y.1.name = "<init>") (hn : narrow (tyX3 21) v = v) (hfit : fits (tyX3 21) v = true) (kk : wp w d Y (pc + 3) ls st h' Q) : wp w d Y pc ls (v :: .ref a :: st) h Q := x_pF (ci := 2) (k := 21) hf hd rfl (by decide) (by rw [hY]; exact q1813) rfl hI (by rw [hY]; rfl) (tyX3_ok 21 (by decide)) hn hfit kk
theorem SX3_146 {w : eW} {d : Nat} {Y : eY} {pc : Nat} {ls : eL} {st : List Value} {h : eH} {Q : eO → eH → Prop} {a : Nat} {h' : eH} {v : Value} (hf : p_F 2 h a 22 v = some h') (hd : decode Y.2.1 pc = .ok (.putfield 146, 3)) (hY : Y.1.cls = RX3) (hI : Y.1.name = "<init>") (hn : narrow (tyX3 22) v = v) (hfit : fits (tyX3 22) v = true) (kk : wp w d Y (pc + 3) ls st h' Q) : wp w d Y pc ls (v :: .ref a :: st) h Q := x_pF (ci := 2) (k := 22) hf hd rfl (by decide) (by rw [hY]; exact q1814) rfl hI (by rw [hY]; rfl) (tyX3_ok 22 (by decide)) hn hfit kk
theorem SX3_149 {w : eW} {d : Nat} {Y : eY} {pc : Nat} {ls : eL} {st : List Value} {h : eH} {Q : eO → eH → Prop} {a : Nat} {h' : eH} {v : Value} (hf : p_F 2 h a 23 v = some h') (hd : decode Y.2.1 pc = .ok (.putfield 149, 3)) (hY : Y.1.cls = RX3) (hI : Y.1.name = "<init>") (hn : narrow (tyX3 23) v = v) (hfit : fits (tyX3 23) v = true) (kk : wp w d Y (pc + 3) ls st h' Q) : wp w d Y pc ls (v :: .ref a :: st) h Q := x_pF (ci := 2) (k := 23) hf hd rfl (by decide) (by rw [hY]; exact q1815) rfl hI (by rw [hY]; rfl) (tyX3_ok 23 (by decide)) hn hfit kk
theorem SX3_152 {w : eW} {d : Nat} {Y : eY} {pc : Nat} {ls : eL} {st : List Value} {h : eH} {Q : eO → eH → Prop} {a : Nat} {h' : eH} {v : Value} (hf : p_F 2 h a 24 v = some h') (hd : decode Y.2.1 pc = .ok (.putfield 152, 3)) (hY : Y.1.cls = RX3) (hI : Y.1.name = "<init>") (hn : narrow (tyX3 24) v = v) (hfit : fits (tyX3 24) v = true) (kk : wp w d Y (pc + 3) ls st h' Q) : wp w d Y pc ls (v :: .ref a :: st) h Q := x_pF (ci := 2) (k := 24) hf hd rfl (by decide) (by rw [hY]; exact q1816) rfl hI (by rw [hY]; rfl) (tyX3_ok 24 (by decide)) hn hfit kk
theorem SX3_155 {w : eW} {d : Nat} {Y : eY} {pc : Nat} {ls : eL} {st : List Value} {h : eH} {Q : eO → eH → Prop} {a : Nat} {h' : eH} {v : Value} (hf : p_F 2 h a 25 v = some h') (hd : decode Y.2.1 pc = .ok (.putfield 155, 3)) (hY : Y.1.cls = RX3) (hI : Y.1.name = "<init>") (hn : narrow (tyX3 25) v = v) (hfit : fits (tyX3 25) v = true) (kk : wp w d Y (pc + 3) ls st h' Q) : wp w d Y pc ls (v :: .ref a :: st) h Q := x_pF (ci := 2) (k := 25) hf hd rfl (by decide) (by rw [hY]; exact q1817) rfl hI (by rw [hY]; rfl) (tyX3_ok 25 (by decide)) hn hfit kk
theorem SX3_158 {w : eW} {d : Nat} {Y : eY} {pc : Nat} {ls : eL} {st : List Value} {h : eH} {Q : eO → eH → Prop} {a : Nat} {h' : eH} {v : Value} (hf : p_F 2 h a 26 v = some h') (hd : decode Y.2.1 pc = .ok (.putfield 158, 3)) (hY : Y.1.cls = RX3) (hI : Y.1.name = "<init>") (hn : narrow (tyX3 26) v = v) (hfit : fits (tyX3 26) v = true) (kk : wp w d Y (pc + 3) ls st h' Q) : wp w d Y pc ls (v :: .ref a :: st) h Q := x_pF (ci := 2) (k := 26) hf hd rfl (by decide) (by rw [hY]; exact q1818) rfl hI (by rw [hY]; rfl) (tyX3_ok 26 (by decide)) hn hfit kk
theorem SX3_162 {w : eW} {d : Nat} {Y : eY} {pc : Nat} {ls : eL} {st : List Value} {h : eH} {Q : eO → eH → Prop} {a : Nat} {h' : eH} {v : Value} (hf : p_F 2 h a 28 v = some h') (hd : decode Y.2.1 pc = .ok (.putfield 162, 3)) (hY : Y.1.cls = RX3) (hI : Y.1.name = "<init>") (hn : narrow (tyX3 28) v = v) (hfit : fits (tyX3 28) v = true) (kk : wp w d Y (pc + 3) ls st h' Q) : wp w d Y pc ls (v :: .ref a :: st) h Q := x_pF (ci := 2) (k := 28) hf hd rfl (by decide) (by rw [hY]; exact q1820) rfl hI (by rw [hY]; rfl) (tyX3_ok 28 (by decide)) hn hfit kk
theorem SX3_166 {w : eW} {d : Nat} {Y : eY} {pc : Nat} {ls : eL} {st : List Value} {h : eH} {Q : eO → eH → Prop} {a : Nat} {h' : eH} {v : Value} (hf : p_F 2 h a 29 v = some h') (hd : decode Y.2.1 pc = .ok (.putfield 166, 3)) (hY : Y.1.cls = RX3) (hI : Y.1.name = "<init>") (hn : narrow (tyX3 29) v = v) (hfit : fits (tyX3 29) v = true) (kk : wp w d Y (pc + 3) ls st h' Q) : wp w d Y pc ls (v :: .ref a :: st) h Q := x_pF (ci := 2) (k := 29) hf hd rfl (by decide) (by rw [hY]; exact q1821) rfl hI (by rw [hY]; rfl) (tyX3_ok 29 (by decide)) hn hfit kk
theorem SX3_169 {w : eW} {d : Nat} {Y : eY} {pc : Nat} {ls : eL} {st : List Value} {h : eH} {Q : eO → eH → Prop} {a : Nat} {h' : eH} {v : Value} (hf : p_F 2 h a 32 v = some h') (hd : decode Y.2.1 pc = .ok (.putfield 169, 3)) (hY : Y.1.cls = RX3) (hI : Y.1.name = "<init>") (hn : narrow (tyX3 32) v = v) (hfit : fits (tyX3 32) v = true) (kk : wp w d Y (pc + 3) ls st h' Q) : wp w d Y pc ls (v :: .ref a :: st) h Q := x_pF (ci := 2) (k := 32) hf hd rfl (by decide) (by rw [hY]; exact q1824) rfl hI (by rw [hY]; rfl) (tyX3_ok 32 (by decide)) hn hfit kk
theorem SX3_172 {w : eW} {d : Nat} {Y : eY} {pc : Nat} {ls : eL} {st : List Value} {h : eH} {Q : eO → eH → Prop} {a : Nat} {h' : eH} {v : Value} (hf : p_F 2 h a 33 v = some h') (hd : decode Y.2.1 pc = .ok (.putfield 172, 3)) (hY : Y.1.cls = RX3) (hI : Y.1.name = "<init>") (hn : narrow (tyX3 33) v = v) (hfit : fits (tyX3 33) v = true) (kk : wp w d Y (pc + 3) ls st h' Q) : wp w d Y pc ls (v :: .ref a :: st) h Q := x_pF (ci := 2) (k := 33) hf hd rfl (by decide) (by rw [hY]; exact q1825) rfl hI (by rw [hY]; rfl) (tyX3_ok 33 (by decide)) hn hfit kk
theorem SX3_175 {w : eW} {d : Nat} {Y : eY} {pc : Nat} {ls : eL} {st : List Value} {h : eH} {Q : eO → eH → Prop} {a : Nat} {h' : eH} {v : Value} (hf : p_F 2 h a 34 v = some h') (hd : decode Y.2.1 pc = .ok (.putfield 175, 3)) (hY : Y.1.cls = RX3) (hI : Y.1.name = "<init>") (hn : narrow (tyX3 34) v = v) (hfit : fits (tyX3 34) v = true) (kk : wp w d Y (pc + 3) ls st h' Q) : wp w d Y pc ls (v :: .ref a :: st) h Q := x_pF (ci := 2) (k := 34) hf hd rfl (by decide) (by rw [hY]; exact q1826) rfl hI (by rw [hY]; rfl) (tyX3_ok 34 (by decide)) hn hfit kk
theorem SX3_178 {w : eW} {d : Nat} {Y : eY} {pc : Nat} {ls : eL} {st : List Value} {h : eH} {Q : eO → eH → Prop} {a : Nat} {h' : eH} {v : Value} (hf : p_F 2 h a 36 v = some h') (hd : decode Y.2.1 pc = .ok (.putfield 178, 3)) (hY : Y.1.cls = RX3) (hI : Y.1.name = "<init>") (hn : narrow (tyX3 36) v = v) (hfit : fits (tyX3 36) v = true) (kk : wp w d Y (pc + 3) ls st h' Q) : wp w d Y pc ls (v :: .ref a :: st) h Q := x_pF (ci := 2) (k := 36) hf hd rfl (by decide) (by rw [hY]; exact q1828) rfl hI (by rw [hY]; rfl) (tyX3_ok 36 (by decide)) hn hfit kk
theorem SX3_23 {w : eW} {d : Nat} {Y : eY} {pc : Nat} {ls : eL} {st : List Value} {h : eH} {Q : eO → eH → Prop} {a : Nat} {h' : eH} {v : Value} (hf : p_F 2 h a 1 v = some h') (hd : decode Y.2.1 pc = .ok (.putfield 23, 3)) (hY : Y.1.cls = RX3) (hI : Y.1.name = "<init>") (hn : narrow (tyX3 1) v = v) (hfit : fits (tyX3 1) v = true) (kk : wp w d Y (pc + 3) ls st h' Q) : wp w d Y pc ls (v :: .ref a :: st) h Q := x_pF (ci := 2) (k := 1) hf hd rfl (by decide) (by rw [hY]; exact q1788) rfl hI (by rw [hY]; rfl) (tyX3_ok 1 (by decide)) hn hfit kk
theorem SX3_30 {w : eW} {d : Nat} {Y : eY} {pc : Nat} {ls : eL} {st : List Value} {h : eH} {Q : eO → eH → Prop} {a : Nat} {h' : eH} {v : Value} (hf : p_F 2 h a 2 v = some h') (hd : decode Y.2.1 pc = .ok (.putfield 30, 3)) (hY : Y.1.cls = RX3) (hI : Y.1.name = "<init>") (hn : narrow (tyX3 2) v = v) (hfit : fits (tyX3 2) v = true) (kk : wp w d Y (pc + 3) ls st h' Q) : wp w d Y pc ls (v :: .ref a :: st) h Q := x_pF (ci := 2) (k := 2) hf hd rfl (by decide) (by rw [hY]; exact q1790) rfl hI (by rw [hY]; rfl) (tyX3_ok 2 (by decide)) hn hfit kk
theorem SX3_36 {w : eW} {d : Nat} {Y : eY} {pc : Nat} {ls : eL} {st : List Value} {h : eH} {Q : eO → eH → Prop} {a : Nat} {h' : eH} {v : Value} (hf : p_F 2 h a 3 v = some h') (hd : decode Y.2.1 pc = .ok (.putfield 36, 3)) (hY : Y.1.cls = RX3) (hI : Y.1.name = "<init>") (hn : narrow (tyX3 3) v = v) (hfit : fits (tyX3 3) v = true) (kk : wp w d Y (pc + 3) ls st h' Q) : wp w d Y pc ls (v :: .ref a :: st) h Q := x_pF (ci := 2) (k := 3) hf hd rfl (by decide) (by rw [hY]; exact q1791) rfl hI (by rw [hY]; rfl) (tyX3_ok 3 (by decide)) hn hfit kk
theorem SX3_45 {w : eW} {d : Nat} {Y : eY} {pc : Nat} {ls : eL} {st : List Value} {h : eH} {Q : eO → eH → Prop} {a : Nat} {h' : eH} {v : Value} (hf : p_F 2 h a 5 v = some h') (hd : decode Y.2.1 pc = .ok (.putfield 45, 3)) (hY : Y.1.cls = RX3) (hI : Y.1.name = "<init>") (hn : narrow (tyX3 5) v = v) (hfit : fits (tyX3 5) v = true) (kk : wp w d Y (pc + 3) ls st h' Q) : wp w d Y pc ls (v :: .ref a :: st) h Q := x_pF (ci := 2) (k := 5) hf hd rfl (by decide) (by rw [hY]; exact q1793) rfl hI (by rw [hY]; rfl) (tyX3_ok 5 (by decide)) hn hfit kk
theorem SX3_53 {w : eW} {d : Nat} {Y : eY} {pc : Nat} {ls : eL} {st : List Value} {h : eH} {Q : eO → eH → Prop} {a : Nat} {h' : eH} {v : Value} (hf : p_F 2 h a 6 v = some h') (hd : decode Y.2.1 pc = .ok (.putfield 53, 3)) (hY : Y.1.cls = RX3) (hI : Y.1.name = "<init>") (hn : narrow (tyX3 6) v = v) (hfit : fits (tyX3 6) v = true) (kk : wp w d Y (pc + 3) ls st h' Q) : wp w d Y pc ls (v :: .ref a :: st) h Q := x_pF (ci := 2) (k := 6) hf hd rfl (by decide) (by rw [hY]; exact q1795) rfl hI (by rw [hY]; rfl) (tyX3_ok 6 (by decide)) hn hfit kk
theorem SX3_57 {w : eW} {d : Nat} {Y : eY} {pc : Nat} {ls : eL} {st : List Value} {h : eH} {Q : eO → eH → Prop} {a : Nat} {h' : eH} {v : Value} (hf : p_F 2 h a 7 v = some h') (hd : decode Y.2.1 pc = .ok (.putfield 57, 3)) (hY : Y.1.cls = RX3) (hI : Y.1.name = "<init>") (hn : narrow (tyX3 7) v = v) (hfit : fits (tyX3 7) v = true) (kk : wp w d Y (pc + 3) ls st h' Q) : wp w d Y pc ls (v :: .ref a :: st) h Q := x_pF (ci := 2) (k := 7) hf hd rfl (by decide) (by rw [hY]; exact q1797) rfl hI (by rw [hY]; rfl) (tyX3_ok 7 (by decide)) hn hfit kk
theorem SX3_64 {w : eW} {d : Nat} {Y : eY} {pc : Nat} {ls : eL} {st : List Value} {h : eH} {Q : eO → eH → Prop} {a : Nat} {h' : eH} {v : Value} (hf : p_F 2 h a 8 v = some h') (hd : decode Y.2.1 pc = .ok (.putfield 64, 3)) (hY : Y.1.cls = RX3) (hI : Y.1.name = "<init>") (hn : narrow (tyX3 8) v = v) (hfit : fits (tyX3 8) v = true) (kk : wp w d Y (pc + 3) ls st h' Q) : wp w d Y pc ls (v :: .ref a :: st) h Q := x_pF (ci := 2) (k := 8) hf hd rfl (by decide) (by rw [hY]; exact q1799) rfl hI (by rw [hY]; rfl) (tyX3_ok 8 (by decide)) hn hfit kk
theorem SX3_73 {w : eW} {d : Nat} {Y : eY} {pc : Nat} {ls : eL} {st : List Value} {h : eH} {Q : eO → eH → Prop} {a : Nat} {h' : eH} {v : Value} (hf : p_F 2 h a 9 v = some h') (hd : decode Y.2.1 pc = .ok (.putfield 73, 3)) (hY : Y.1.cls = RX3) (hI : Y.1.name = "<init>") (hn : narrow (tyX3 9) v = v) (hfit : fits (tyX3 9) v = true) (kk : wp w d Y (pc + 3) ls st h' Q) : wp w d Y pc ls (v :: .ref a :: st) h Q := x_pF (ci := 2) (k := 9) hf hd rfl (by decide) (by rw [hY]; exact q1800) rfl hI (by rw [hY]; rfl) (tyX3_ok 9 (by decide)) hn hfit kk
theorem SX3_80 {w : eW} {d : Nat} {Y : eY} {pc : Nat} {ls : eL} {st : List Value} {h : eH} {Q : eO → eH → Prop} {a : Nat} {h' : eH} {v : Value} (hf : p_F 2 h a 10 v = some h') (hd : decode Y.2.1 pc = .ok (.putfield 80, 3)) (hY : Y.1.cls = RX3) (hI : Y.1.name = "<init>") (hn : narrow (tyX3 10) v = v) (hfit : fits (tyX3 10) v = true) (kk : wp w d Y (pc + 3) ls st h' Q) : wp w d Y pc ls (v :: .ref a :: st) h Q := x_pF (ci := 2) (k := 10) hf hd rfl (by decide) (by rw [hY]; exact q1801) rfl hI (by rw [hY]; rfl) (tyX3_ok 10 (by decide)) hn hfit kk
theorem SX3_87 {w : eW} {d : Nat} {Y : eY} {pc : Nat} {ls : eL} {st : List Value} {h : eH} {Q : eO → eH → Prop} {a : Nat} {h' : eH} {v : Value} (hf : p_F 2 h a 11 v = some h') (hd : decode Y.2.1 pc = .ok (.putfield 87, 3)) (hY : Y.1.cls = RX3) (hI : Y.1.name = "<init>") (hn : narrow (tyX3 11) v = v) (hfit : fits (tyX3 11) v = true) (kk : wp w d Y (pc + 3) ls st h' Q) : wp w d Y pc ls (v :: .ref a :: st) h Q := x_pF (ci := 2) (k := 11) hf hd rfl (by decide) (by rw [hY]; exact q1802) rfl hI (by rw [hY]; rfl) (tyX3_ok 11 (by decide)) hn hfit kk
theorem SX3_94 {w : eW} {d : Nat} {Y : eY} {pc : Nat} {ls : eL} {st : List Value} {h : eH} {Q : eO → eH → Prop} {a : Nat} {h' : eH} {v : Value} (hf : p_F 2 h a 12 v = some h') (hd : decode Y.2.1 pc = .ok (.putfield 94, 3)) (hY : Y.1.cls = RX3) (hI : Y.1.name = "<init>") (hn : narrow (tyX3 12) v = v) (hfit : fits (tyX3 12) v = true) (kk : wp w d Y (pc + 3) ls st h' Q) : wp w d Y pc ls (v :: .ref a :: st) h Q := x_pF (ci := 2) (k := 12) hf hd rfl (by decide) (by rw [hY]; exact q1803) rfl hI (by rw [hY]; rfl) (tyX3_ok 12 (by decide)) hn hfit kk
def fX3_init (N : Nat) (this : Nat) (h : eH) : Option (Unit × eH) :=
  (n_obj 3 146 1 tyX4 h).bind fun q1 =>
  (fX4_init q1.1 q1.2).bind fun q3 =>
  (p_F 2 q3.2 this 0 (.ref q1.1)).bind fun h4 =>
  (n_obj 4 147 8 tyX5 h4).bind fun q6 =>
  (fX5_init q6.1 q6.2).bind fun q8 =>
  (p_F 2 q8.2 this 1 (.ref q6.1)).bind fun h9 =>
  (n_obj 6 148 4 tyX7 h9).bind fun q11 =>
  (fX7_init q11.1 q11.2).bind fun q13 =>
  (p_F 2 q13.2 this 2 (.ref q11.1)).bind fun h14 =>
  (n_arr 104 149 .null h14 (3000 : Int32)).bind fun q16 =>
  (p_F 2 q16.2 this 3 (.ref q16.1)).bind fun h18 =>
  (n_obj 7 150 30 tyX8 h18).bind fun q20 =>
  (g_A 2 q20.2 this 0).bind fun a22 =>
  (g_A 2 q20.2 this 1).bind fun a24 =>
  (g_A 2 q20.2 this 3).bind fun a26 =>
  (fX8_init q20.1 a22 a24 a26 q20.2).bind fun q28 =>
  (p_F 2 q28.2 this 5 (.ref q20.1)).bind fun h29 =>
  (g_A 2 h29 this 5).bind fun a31 =>
  (g_A 7 h29 a31 4).bind fun a33 =>
  (p_F 2 h29 this 6 (.ref a33)).bind fun h35 =>
  (n_obj 13 151 8 tyX14 h35).bind fun q37 =>
  (fX14_init q37.1 q37.2).bind fun q39 =>
  (p_F 2 q39.2 this 7 (.ref q37.1)).bind fun h40 =>
  (n_obj 17 152 6 tyX18 h40).bind fun q42 =>
  (fX18_init q42.1 q42.2).bind fun q44 =>
  (p_F 2 q44.2 this 8 (.ref q42.1)).bind fun h45 =>
  (n_obj 18 153 10 tyX19 h45).bind fun q47 =>
  (g_A 2 q47.2 this 2).bind fun a49 =>
  (g_A 2 q47.2 this 3).bind fun a51 =>
  (fX19_init q47.1 a49 a51 q47.2).bind fun q53 =>
  (p_F 2 q53.2 this 9 (.ref q47.1)).bind fun h54 =>
  (n_obj 19 154 9 tyX20 h54).bind fun q56 =>
  (g_A 2 q56.2 this 2).bind fun a58 =>
  (g_A 2 q56.2 this 3).bind fun a60 =>
  (fX20_init q56.1 a58 a60 q56.2).bind fun q62 =>
  (p_F 2 q62.2 this 10 (.ref q56.1)).bind fun h63 =>
  (n_obj 20 155 10 tyX21 h63).bind fun q65 =>
  (fX21_init N q65.1 q65.2).bind fun q67 =>
  (p_F 2 q67.2 this 11 (.ref q65.1)).bind fun h68 =>
  (n_obj 26 156 7 tyX27 h68).bind fun q70 =>
  (fX27_init q70.1 q70.2).bind fun q72 =>
  (p_F 2 q72.2 this 12 (.ref q70.1)).bind fun h73 =>
  (n_obj 27 157 11 tyX28 h73).bind fun q75 =>
  (g_A 2 q75.2 this 12).bind fun a77 =>
  (fX28_init N q75.1 a77 q75.2).bind fun q79 =>
  (p_F 2 q79.2 this 13 (.ref q75.1)).bind fun h80 =>
  (n_obj 28 158 4 tyX29 h80).bind fun q82 =>
  (fX29_init q82.1 q82.2).bind fun q84 =>
  (p_F 2 q84.2 this 14 (.ref q82.1)).bind fun h85 =>
  (n_obj 30 159 18 tyX31 h85).bind fun q87 =>
  (g_A 2 q87.2 this 1).bind fun a89 =>
  (fX31_init q87.1 a89 q87.2).bind fun q91 =>
  (p_F 2 q91.2 this 15 (.ref q87.1)).bind fun h92 =>
  (n_obj 33 160 2 tyX34 h92).bind fun q94 =>
  (fX34_init q94.1 q94.2).bind fun q96 =>
  (p_F 2 q96.2 this 16 (.ref q94.1)).bind fun h97 =>
  (n_obj 33 161 2 tyX34 h97).bind fun q99 =>
  (fX34_init q99.1 q99.2).bind fun q101 =>
  (p_F 2 q101.2 this 17 (.ref q99.1)).bind fun h102 =>
  (n_obj 33 162 2 tyX34 h102).bind fun q104 =>
  (fX34_init q104.1 q104.2).bind fun q106 =>
  (p_F 2 q106.2 this 18 (.ref q104.1)).bind fun h107 =>
  (n_arr 100 163 (.int 0) h107 (256 : Int32)).bind fun q109 =>
  (p_F 2 q109.2 this 19 (.ref q109.1)).bind fun h111 =>
  (n_arr 100 164 (.int 0) h111 (256 : Int32)).bind fun q113 =>
  (p_F 2 q113.2 this 20 (.ref q113.1)).bind fun h115 =>
  (n_arr 100 165 (.int 0) h115 (256 : Int32)).bind fun q117 =>
  (p_F 2 q117.2 this 21 (.ref q117.1)).bind fun h119 =>
  (n_arr 100 166 (.int 0) h119 (256 : Int32)).bind fun q121 =>
  (p_F 2 q121.2 this 22 (.ref q121.1)).bind fun h123 =>
  (n_arr 100 167 (.int 0) h123 (256 : Int32)).bind fun q125 =>
  (p_F 2 q125.2 this 23 (.ref q125.1)).bind fun h127 =>
  (n_arr 100 168 (.int 0) h127 (256 : Int32)).bind fun q129 =>
  (p_F 2 q129.2 this 24 (.ref q129.1)).bind fun h131 =>
  (n_arr 100 169 (.int 0) h131 (256 : Int32)).bind fun q133 =>
  (p_F 2 q133.2 this 25 (.ref q133.1)).bind fun h135 =>
  (n_arr 103 170 (.int 0) h135 (256 : Int32)).bind fun q137 =>
  (p_F 2 q137.2 this 26 (.ref q137.1)).bind fun h139 =>
  (n_arr 102 171 (.int 0) h139 (64 : Int32)).bind fun q141 =>
  (p_F 2 q141.2 this 28 (.ref q141.1)).bind fun h143 =>
  (n_arr 102 172 (.int 0) h143 (64 : Int32)).bind fun q145 =>
  (p_F 2 q145.2 this 29 (.ref q145.1)).bind fun h147 =>
  (n_obj 33 173 2 tyX34 h147).bind fun q149 =>
  (fX34_init q149.1 q149.2).bind fun q151 =>
  (p_F 2 q151.2 this 32 (.ref q149.1)).bind fun h152 =>
  (n_obj 33 174 2 tyX34 h152).bind fun q154 =>
  (fX34_init q154.1 q154.2).bind fun q156 =>
  (p_F 2 q156.2 this 33 (.ref q154.1)).bind fun h157 =>
  (n_arr 100 175 (.int 0) h157 (1132 : Int32)).bind fun q159 =>
  (p_F 2 q159.2 this 34 (.ref q159.1)).bind fun h161 =>
  (n_arr 100 176 (.int 0) h161 (8 : Int32)).bind fun q163 =>
  (p_F 2 q163.2 this 36 (.ref q163.1)).bind fun h165 =>
  some ((), h165)
theorem pX3_init {w : eW} {d : Nat} (hd : 6 ≤ d) {N : Nat} {this : Nat} {h : eH} {q} (hf : fX3_init N this h = some q) : wm w d YX3_init [.ref this] h (e_is (e_rn c_V q)) := by
  obtain ⟨d, rfl⟩ : ∃ e, d = e + 1 := ⟨d - 1, by omega⟩
  show wp w (d + 1) YX3_init 0 [some (.ref this)] [] h _
  unfold fX3_init at hf
  refine w_aload_n dX3_init_0 rfl rfl ?_
  refine w_obj dX3_init_1 q513 q490 q491 (by decide) ?_
  refine w_aload_n dX3_init_4 rfl rfl ?_
  obtain ⟨q1, b2, hf⟩ := Option.bind_eq_some_iff.mp hf
  refine x_new (ci := 3) (g := 146) b2 dX3_init_5 rfl tyX4_ok q514 q515 q429 ?_
  refine w_dup dX3_init_8 rfl ?_
  refine x_cnV hf (e_stIN (Yc := YX4_init) (b := q1.1) (av := []) (st := [.ref q1.1, .ref this]) dX3_init_9 q516 mX4_init) (e_mi.cd mX4_init) mX4_init.2.2.2.2.2.1 (Nat.le_of_ble_eq_true rfl) (Nat.le_of_ble_eq_true rfl) (fun q hq => pX4_init (by omega) hq) (fun q3 hf => ?_)
  obtain ⟨h4, b5, hf⟩ := Option.bind_eq_some_iff.mp hf
  refine SX3_14 b5 dX3_init_12 rfl rfl rfl rfl ?_
  refine w_aload_n dX3_init_15 rfl rfl ?_
  obtain ⟨q6, b7, hf⟩ := Option.bind_eq_some_iff.mp hf
  refine x_new (ci := 4) (g := 147) b7 dX3_init_16 rfl tyX5_ok q526 q527 q430 ?_
  refine w_dup dX3_init_19 rfl ?_
  refine x_cnV hf (e_stIN (Yc := YX5_init) (b := q6.1) (av := []) (st := [.ref q6.1, .ref this]) dX3_init_20 q528 mX5_init) (e_mi.cd mX5_init) mX5_init.2.2.2.2.2.1 (Nat.le_of_ble_eq_true rfl) (Nat.le_of_ble_eq_true rfl) (fun q hq => pX5_init (by omega) hq) (fun q8 hf => ?_)
  obtain ⟨h9, b10, hf⟩ := Option.bind_eq_some_iff.mp hf
  refine SX3_23 b10 dX3_init_23 rfl rfl rfl rfl ?_
  refine w_aload_n dX3_init_26 rfl rfl ?_
  obtain ⟨q11, b12, hf⟩ := Option.bind_eq_some_iff.mp hf
  refine x_new (ci := 6) (g := 148) b12 dX3_init_27 rfl tyX7_ok q614 q615 q432 ?_
  refine w_dup dX3_init_30 rfl ?_
  refine x_cnV hf (e_stIN (Yc := YX7_init) (b := q11.1) (av := []) (st := [.ref q11.1, .ref this]) dX3_init_31 q616 mX7_init) (e_mi.cd mX7_init) mX7_init.2.2.2.2.2.1 (Nat.le_of_ble_eq_true rfl) (Nat.le_of_ble_eq_true rfl) (fun q hq => pX7_init (by omega) hq) (fun q13 hf => ?_)
  obtain ⟨h14, b15, hf⟩ := Option.bind_eq_some_iff.mp hf
  refine SX3_30 b15 dX3_init_34 rfl rfl rfl rfl ?_
  refine w_aload_n dX3_init_37 rfl rfl ?_
  refine w_sipush dX3_init_38 (v := 3000) (by decide) ?_
  obtain ⟨q16, b17, hf⟩ := Option.bind_eq_some_iff.mp hf
  refine x_anew (k := 104) (g := 149) b17 dX3_init_41 (by decide) (by decide) rfl q636 q637 ?_
  obtain ⟨h18, b19, hf⟩ := Option.bind_eq_some_iff.mp hf
  refine SX3_36 b19 dX3_init_44 rfl rfl rfl rfl ?_
  refine w_aload_n dX3_init_47 rfl rfl ?_
  obtain ⟨q20, b21, hf⟩ := Option.bind_eq_some_iff.mp hf
  refine x_new (ci := 7) (g := 150) b21 dX3_init_48 rfl tyX8_ok q638 q639 q433 ?_
  refine w_dup dX3_init_51 rfl ?_
  refine w_aload_n dX3_init_52 rfl rfl ?_
  obtain ⟨a22, b23, hf⟩ := Option.bind_eq_some_iff.mp hf
  refine GX3_14 b23 dX3_init_53 rfl ?_
  refine w_aload_n dX3_init_56 rfl rfl ?_
  obtain ⟨a24, b25, hf⟩ := Option.bind_eq_some_iff.mp hf
  refine GX3_23 b25 dX3_init_57 rfl ?_
  refine w_aload_n dX3_init_60 rfl rfl ?_
  obtain ⟨a26, b27, hf⟩ := Option.bind_eq_some_iff.mp hf
  refine GX3_36 b27 dX3_init_61 rfl ?_
  refine x_cnV hf (e_stI (Yc := YX8_init) (b := q20.1) (av := [.ref a22, .ref a24, .ref a26]) (st := [.ref q20.1, .ref this]) dX3_init_64 q640 mX8_init) (e_mi.cd mX8_init) mX8_init.2.2.2.2.2.1 (Nat.le_of_ble_eq_true rfl) (Nat.le_of_ble_eq_true rfl) (fun q hq => pX8_init (by omega) hq) (fun q28 hf => ?_)
  obtain ⟨h29, b30, hf⟩ := Option.bind_eq_some_iff.mp hf
  refine SX3_45 b30 dX3_init_67 rfl rfl rfl rfl ?_
  refine w_aload_n dX3_init_70 rfl rfl ?_
  refine w_aload_n dX3_init_71 rfl rfl ?_
  obtain ⟨a31, b32, hf⟩ := Option.bind_eq_some_iff.mp hf
  refine GX3_45 b32 dX3_init_72 rfl ?_
  obtain ⟨a33, b34, hf⟩ := Option.bind_eq_some_iff.mp hf
  refine GX3_49 b34 dX3_init_75 rfl ?_
  obtain ⟨h35, b36, hf⟩ := Option.bind_eq_some_iff.mp hf
  refine SX3_53 b36 dX3_init_78 rfl rfl rfl rfl ?_
  refine w_aload_n dX3_init_81 rfl rfl ?_
  obtain ⟨q37, b38, hf⟩ := Option.bind_eq_some_iff.mp hf
  refine x_new (ci := 13) (g := 151) b38 dX3_init_82 rfl tyX14_ok q930 q931 q439 ?_
  refine w_dup dX3_init_85 rfl ?_
  refine x_cnV hf (e_stIN (Yc := YX14_init) (b := q37.1) (av := []) (st := [.ref q37.1, .ref this]) dX3_init_86 q932 mX14_init) (e_mi.cd mX14_init) mX14_init.2.2.2.2.2.1 (Nat.le_of_ble_eq_true rfl) (Nat.le_of_ble_eq_true rfl) (fun q hq => pX14_init (by omega) hq) (fun q39 hf => ?_)
  obtain ⟨h40, b41, hf⟩ := Option.bind_eq_some_iff.mp hf
  refine SX3_57 b41 dX3_init_89 rfl rfl rfl rfl ?_
  refine w_aload_n dX3_init_92 rfl rfl ?_
  obtain ⟨q42, b43, hf⟩ := Option.bind_eq_some_iff.mp hf
  refine x_new (ci := 17) (g := 152) b43 dX3_init_93 rfl tyX18_ok q1131 q1132 q444 ?_
  refine w_dup dX3_init_96 rfl ?_
  refine x_cnV hf (e_stIN (Yc := YX18_init) (b := q42.1) (av := []) (st := [.ref q42.1, .ref this]) dX3_init_97 q1133 mX18_init) (e_mi.cd mX18_init) mX18_init.2.2.2.2.2.1 (Nat.le_of_ble_eq_true rfl) (Nat.le_of_ble_eq_true rfl) (fun q hq => pX18_init (by omega) hq) (fun q44 hf => ?_)
  obtain ⟨h45, b46, hf⟩ := Option.bind_eq_some_iff.mp hf
  refine SX3_64 b46 dX3_init_100 rfl rfl rfl rfl ?_
  refine w_aload_n dX3_init_103 rfl rfl ?_
  obtain ⟨q47, b48, hf⟩ := Option.bind_eq_some_iff.mp hf
  refine x_new (ci := 18) (g := 153) b48 dX3_init_104 rfl tyX19_ok q1157 q1158 q445 ?_
  refine w_dup dX3_init_107 rfl ?_
  refine w_aload_n dX3_init_108 rfl rfl ?_
  obtain ⟨a49, b50, hf⟩ := Option.bind_eq_some_iff.mp hf
  refine GX3_30 b50 dX3_init_109 rfl ?_
  refine w_aload_n dX3_init_112 rfl rfl ?_
  obtain ⟨a51, b52, hf⟩ := Option.bind_eq_some_iff.mp hf
  refine GX3_36 b52 dX3_init_113 rfl ?_
  refine x_cnV hf (e_stI (Yc := YX19_init) (b := q47.1) (av := [.ref a49, .ref a51]) (st := [.ref q47.1, .ref this]) dX3_init_116 q1159 mX19_init) (e_mi.cd mX19_init) mX19_init.2.2.2.2.2.1 (Nat.le_of_ble_eq_true rfl) (Nat.le_of_ble_eq_true rfl) (fun q hq => pX19_init (by omega) hq) (fun q53 hf => ?_)
  obtain ⟨h54, b55, hf⟩ := Option.bind_eq_some_iff.mp hf
  refine SX3_73 b55 dX3_init_119 rfl rfl rfl rfl ?_
  refine w_aload_n dX3_init_122 rfl rfl ?_
  obtain ⟨q56, b57, hf⟩ := Option.bind_eq_some_iff.mp hf
  refine x_new (ci := 19) (g := 154) b57 dX3_init_123 rfl tyX20_ok q1194 q1195 q446 ?_
  refine w_dup dX3_init_126 rfl ?_
  refine w_aload_n dX3_init_127 rfl rfl ?_
  obtain ⟨a58, b59, hf⟩ := Option.bind_eq_some_iff.mp hf
  refine GX3_30 b59 dX3_init_128 rfl ?_
  refine w_aload_n dX3_init_131 rfl rfl ?_
  obtain ⟨a60, b61, hf⟩ := Option.bind_eq_some_iff.mp hf
  refine GX3_36 b61 dX3_init_132 rfl ?_
  refine x_cnV hf (e_stI (Yc := YX20_init) (b := q56.1) (av := [.ref a58, .ref a60]) (st := [.ref q56.1, .ref this]) dX3_init_135 q1196 mX20_init) (e_mi.cd mX20_init) mX20_init.2.2.2.2.2.1 (Nat.le_of_ble_eq_true rfl) (Nat.le_of_ble_eq_true rfl) (fun q hq => pX20_init (by omega) hq) (fun q62 hf => ?_)
  obtain ⟨h63, b64, hf⟩ := Option.bind_eq_some_iff.mp hf
  refine SX3_80 b64 dX3_init_138 rfl rfl rfl rfl ?_
  refine w_aload_n dX3_init_141 rfl rfl ?_
  obtain ⟨q65, b66, hf⟩ := Option.bind_eq_some_iff.mp hf
  refine x_new (ci := 20) (g := 155) b66 dX3_init_142 rfl tyX21_ok q1231 q1232 q447 ?_
  refine w_dup dX3_init_145 rfl ?_
  refine x_cnV hf (e_stIN (Yc := YX21_init) (b := q65.1) (av := []) (st := [.ref q65.1, .ref this]) dX3_init_146 q1233 mX21_init) (e_mi.cd mX21_init) mX21_init.2.2.2.2.2.1 (Nat.le_of_ble_eq_true rfl) (Nat.le_of_ble_eq_true rfl) (fun q hq => pX21_init (by omega) hq) (fun q67 hf => ?_)
  obtain ⟨h68, b69, hf⟩ := Option.bind_eq_some_iff.mp hf
  refine SX3_87 b69 dX3_init_149 rfl rfl rfl rfl ?_
  refine w_aload_n dX3_init_152 rfl rfl ?_
  obtain ⟨q70, b71, hf⟩ := Option.bind_eq_some_iff.mp hf
  refine x_new (ci := 26) (g := 156) b71 dX3_init_153 rfl tyX27_ok q1485 q1486 q453 ?_
  refine w_dup dX3_init_156 rfl ?_
  refine x_cnV hf (e_stIN (Yc := YX27_init) (b := q70.1) (av := []) (st := [.ref q70.1, .ref this]) dX3_init_157 q1487 mX27_init) (e_mi.cd mX27_init) mX27_init.2.2.2.2.2.1 (Nat.le_of_ble_eq_true rfl) (Nat.le_of_ble_eq_true rfl) (fun q hq => pX27_init (by omega) hq) (fun q72 hf => ?_)
  obtain ⟨h73, b74, hf⟩ := Option.bind_eq_some_iff.mp hf
  refine SX3_94 b74 dX3_init_160 rfl rfl rfl rfl ?_
  refine w_aload_n dX3_init_163 rfl rfl ?_
  obtain ⟨q75, b76, hf⟩ := Option.bind_eq_some_iff.mp hf
  refine x_new (ci := 27) (g := 157) b76 dX3_init_164 rfl tyX28_ok q1527 q1528 q454 ?_
  refine w_dup dX3_init_167 rfl ?_
  refine w_aload_n dX3_init_168 rfl rfl ?_
  obtain ⟨a77, b78, hf⟩ := Option.bind_eq_some_iff.mp hf
  refine GX3_94 b78 dX3_init_169 rfl ?_
  refine x_cnV hf (e_stI (Yc := YX28_init) (b := q75.1) (av := [.ref a77]) (st := [.ref q75.1, .ref this]) dX3_init_172 q1529 mX28_init) (e_mi.cd mX28_init) mX28_init.2.2.2.2.2.1 (Nat.le_of_ble_eq_true rfl) (Nat.le_of_ble_eq_true rfl) (fun q hq => pX28_init (by omega) hq) (fun q79 hf => ?_)
  obtain ⟨h80, b81, hf⟩ := Option.bind_eq_some_iff.mp hf
  refine SX3_103 b81 dX3_init_175 rfl rfl rfl rfl ?_
  refine w_aload_n dX3_init_178 rfl rfl ?_
  obtain ⟨q82, b83, hf⟩ := Option.bind_eq_some_iff.mp hf
  refine x_new (ci := 28) (g := 158) b83 dX3_init_179 rfl tyX29_ok q1656 q1534 q455 ?_
  refine w_dup dX3_init_182 rfl ?_
  refine x_cnV hf (e_stIN (Yc := YX29_init) (b := q82.1) (av := []) (st := [.ref q82.1, .ref this]) dX3_init_183 q1657 mX29_init) (e_mi.cd mX29_init) mX29_init.2.2.2.2.2.1 (Nat.le_of_ble_eq_true rfl) (Nat.le_of_ble_eq_true rfl) (fun q hq => pX29_init (by omega) hq) (fun q84 hf => ?_)
  obtain ⟨h85, b86, hf⟩ := Option.bind_eq_some_iff.mp hf
  refine SX3_110 b86 dX3_init_186 rfl rfl rfl rfl ?_
  refine w_aload_n dX3_init_189 rfl rfl ?_
  obtain ⟨q87, b88, hf⟩ := Option.bind_eq_some_iff.mp hf
  refine x_new (ci := 30) (g := 159) b88 dX3_init_190 rfl tyX31_ok q1658 q1659 q457 ?_
  refine w_dup dX3_init_193 rfl ?_
  refine w_aload_n dX3_init_194 rfl rfl ?_
  obtain ⟨a89, b90, hf⟩ := Option.bind_eq_some_iff.mp hf
  refine GX3_23 b90 dX3_init_195 rfl ?_
  refine x_cnV hf (e_stI (Yc := YX31_init) (b := q87.1) (av := [.ref a89]) (st := [.ref q87.1, .ref this]) dX3_init_198 q1660 mX31_init) (e_mi.cd mX31_init) mX31_init.2.2.2.2.2.1 (Nat.le_of_ble_eq_true rfl) (Nat.le_of_ble_eq_true rfl) (fun q hq => pX31_init (by omega) hq) (fun q91 hf => ?_)
  obtain ⟨h92, b93, hf⟩ := Option.bind_eq_some_iff.mp hf
  refine SX3_119 b93 dX3_init_201 rfl rfl rfl rfl ?_
  refine w_aload_n dX3_init_204 rfl rfl ?_
  obtain ⟨q94, b95, hf⟩ := Option.bind_eq_some_iff.mp hf
  refine x_new (ci := 33) (g := 160) b95 dX3_init_205 rfl tyX34_ok q1773 q1774 q460 ?_
  refine w_dup dX3_init_208 rfl ?_
  refine x_cnV hf (e_stIN (Yc := YX34_init) (b := q94.1) (av := []) (st := [.ref q94.1, .ref this]) dX3_init_209 q1775 mX34_init) (e_mi.cd mX34_init) mX34_init.2.2.2.2.2.1 (Nat.le_of_ble_eq_true rfl) (Nat.le_of_ble_eq_true rfl) (fun q hq => pX34_init (by omega) hq) (fun q96 hf => ?_)
  obtain ⟨h97, b98, hf⟩ := Option.bind_eq_some_iff.mp hf
  refine SX3_126 b98 dX3_init_212 rfl rfl rfl rfl ?_
  refine w_aload_n dX3_init_215 rfl rfl ?_
  obtain ⟨q99, b100, hf⟩ := Option.bind_eq_some_iff.mp hf
  refine x_new (ci := 33) (g := 161) b100 dX3_init_216 rfl tyX34_ok q1773 q1774 q460 ?_
  refine w_dup dX3_init_219 rfl ?_
  refine x_cnV hf (e_stIN (Yc := YX34_init) (b := q99.1) (av := []) (st := [.ref q99.1, .ref this]) dX3_init_220 q1775 mX34_init) (e_mi.cd mX34_init) mX34_init.2.2.2.2.2.1 (Nat.le_of_ble_eq_true rfl) (Nat.le_of_ble_eq_true rfl) (fun q hq => pX34_init (by omega) hq) (fun q101 hf => ?_)
  obtain ⟨h102, b103, hf⟩ := Option.bind_eq_some_iff.mp hf
  refine SX3_130 b103 dX3_init_223 rfl rfl rfl rfl ?_
  refine w_aload_n dX3_init_226 rfl rfl ?_
  obtain ⟨q104, b105, hf⟩ := Option.bind_eq_some_iff.mp hf
  refine x_new (ci := 33) (g := 162) b105 dX3_init_227 rfl tyX34_ok q1773 q1774 q460 ?_
  refine w_dup dX3_init_230 rfl ?_
  refine x_cnV hf (e_stIN (Yc := YX34_init) (b := q104.1) (av := []) (st := [.ref q104.1, .ref this]) dX3_init_231 q1775 mX34_init) (e_mi.cd mX34_init) mX34_init.2.2.2.2.2.1 (Nat.le_of_ble_eq_true rfl) (Nat.le_of_ble_eq_true rfl) (fun q hq => pX34_init (by omega) hq) (fun q106 hf => ?_)
  obtain ⟨h107, b108, hf⟩ := Option.bind_eq_some_iff.mp hf
  refine SX3_133 b108 dX3_init_234 rfl rfl rfl rfl ?_
  refine w_aload_n dX3_init_237 rfl rfl ?_
  refine w_sipush dX3_init_238 (v := 256) (by decide) ?_
  obtain ⟨q109, b110, hf⟩ := Option.bind_eq_some_iff.mp hf
  refine x_newI (g := 163) b110 dX3_init_241 q582 ?_
  obtain ⟨h111, b112, hf⟩ := Option.bind_eq_some_iff.mp hf
  refine SX3_136 b112 dX3_init_243 rfl rfl rfl rfl ?_
  refine w_aload_n dX3_init_246 rfl rfl ?_
  refine w_sipush dX3_init_247 (v := 256) (by decide) ?_
  obtain ⟨q113, b114, hf⟩ := Option.bind_eq_some_iff.mp hf
  refine x_newI (g := 164) b114 dX3_init_250 q582 ?_
  obtain ⟨h115, b116, hf⟩ := Option.bind_eq_some_iff.mp hf
  refine SX3_140 b116 dX3_init_252 rfl rfl rfl rfl ?_
  refine w_aload_n dX3_init_255 rfl rfl ?_
  refine w_sipush dX3_init_256 (v := 256) (by decide) ?_
  obtain ⟨q117, b118, hf⟩ := Option.bind_eq_some_iff.mp hf
  refine x_newI (g := 165) b118 dX3_init_259 q582 ?_
  obtain ⟨h119, b120, hf⟩ := Option.bind_eq_some_iff.mp hf
  refine SX3_143 b120 dX3_init_261 rfl rfl rfl rfl ?_
  refine w_aload_n dX3_init_264 rfl rfl ?_
  refine w_sipush dX3_init_265 (v := 256) (by decide) ?_
  obtain ⟨q121, b122, hf⟩ := Option.bind_eq_some_iff.mp hf
  refine x_newI (g := 166) b122 dX3_init_268 q582 ?_
  obtain ⟨h123, b124, hf⟩ := Option.bind_eq_some_iff.mp hf
  refine SX3_146 b124 dX3_init_270 rfl rfl rfl rfl ?_
  refine w_aload_n dX3_init_273 rfl rfl ?_
  refine w_sipush dX3_init_274 (v := 256) (by decide) ?_
  obtain ⟨q125, b126, hf⟩ := Option.bind_eq_some_iff.mp hf
  refine x_newI (g := 167) b126 dX3_init_277 q582 ?_
  obtain ⟨h127, b128, hf⟩ := Option.bind_eq_some_iff.mp hf
  refine SX3_149 b128 dX3_init_279 rfl rfl rfl rfl ?_
  refine w_aload_n dX3_init_282 rfl rfl ?_
  refine w_sipush dX3_init_283 (v := 256) (by decide) ?_
  obtain ⟨q129, b130, hf⟩ := Option.bind_eq_some_iff.mp hf
  refine x_newI (g := 168) b130 dX3_init_286 q582 ?_
  obtain ⟨h131, b132, hf⟩ := Option.bind_eq_some_iff.mp hf
  refine SX3_152 b132 dX3_init_288 rfl rfl rfl rfl ?_
  refine w_aload_n dX3_init_291 rfl rfl ?_
  refine w_sipush dX3_init_292 (v := 256) (by decide) ?_
  obtain ⟨q133, b134, hf⟩ := Option.bind_eq_some_iff.mp hf
  refine x_newI (g := 169) b134 dX3_init_295 q582 ?_
  obtain ⟨h135, b136, hf⟩ := Option.bind_eq_some_iff.mp hf
  refine SX3_155 b136 dX3_init_297 rfl rfl rfl rfl ?_
  refine w_aload_n dX3_init_300 rfl rfl ?_
  refine w_sipush dX3_init_301 (v := 256) (by decide) ?_
  obtain ⟨q137, b138, hf⟩ := Option.bind_eq_some_iff.mp hf
  refine x_newZ (g := 170) b138 dX3_init_304 q583 ?_
  obtain ⟨h139, b140, hf⟩ := Option.bind_eq_some_iff.mp hf
  refine SX3_158 b140 dX3_init_306 rfl rfl rfl rfl ?_
  refine w_aload_n dX3_init_309 rfl rfl ?_
  refine w_bipush dX3_init_310 (v := 64) (by decide) ?_
  obtain ⟨q141, b142, hf⟩ := Option.bind_eq_some_iff.mp hf
  refine x_newB (g := 171) b142 dX3_init_312 q507 ?_
  obtain ⟨h143, b144, hf⟩ := Option.bind_eq_some_iff.mp hf
  refine SX3_162 b144 dX3_init_314 rfl rfl rfl rfl ?_
  refine w_aload_n dX3_init_317 rfl rfl ?_
  refine w_bipush dX3_init_318 (v := 64) (by decide) ?_
  obtain ⟨q145, b146, hf⟩ := Option.bind_eq_some_iff.mp hf
  refine x_newB (g := 172) b146 dX3_init_320 q507 ?_
  obtain ⟨h147, b148, hf⟩ := Option.bind_eq_some_iff.mp hf
  refine SX3_166 b148 dX3_init_322 rfl rfl rfl rfl ?_
  refine w_aload_n dX3_init_325 rfl rfl ?_
  obtain ⟨q149, b150, hf⟩ := Option.bind_eq_some_iff.mp hf
  refine x_new (ci := 33) (g := 173) b150 dX3_init_326 rfl tyX34_ok q1773 q1774 q460 ?_
  refine w_dup dX3_init_329 rfl ?_
  refine x_cnV hf (e_stIN (Yc := YX34_init) (b := q149.1) (av := []) (st := [.ref q149.1, .ref this]) dX3_init_330 q1775 mX34_init) (e_mi.cd mX34_init) mX34_init.2.2.2.2.2.1 (Nat.le_of_ble_eq_true rfl) (Nat.le_of_ble_eq_true rfl) (fun q hq => pX34_init (by omega) hq) (fun q151 hf => ?_)
  obtain ⟨h152, b153, hf⟩ := Option.bind_eq_some_iff.mp hf
  refine SX3_169 b153 dX3_init_333 rfl rfl rfl rfl ?_
  refine w_aload_n dX3_init_336 rfl rfl ?_
  obtain ⟨q154, b155, hf⟩ := Option.bind_eq_some_iff.mp hf
  refine x_new (ci := 33) (g := 174) b155 dX3_init_337 rfl tyX34_ok q1773 q1774 q460 ?_
  refine w_dup dX3_init_340 rfl ?_
  refine x_cnV hf (e_stIN (Yc := YX34_init) (b := q154.1) (av := []) (st := [.ref q154.1, .ref this]) dX3_init_341 q1775 mX34_init) (e_mi.cd mX34_init) mX34_init.2.2.2.2.2.1 (Nat.le_of_ble_eq_true rfl) (Nat.le_of_ble_eq_true rfl) (fun q hq => pX34_init (by omega) hq) (fun q156 hf => ?_)
  obtain ⟨h157, b158, hf⟩ := Option.bind_eq_some_iff.mp hf
  refine SX3_172 b158 dX3_init_344 rfl rfl rfl rfl ?_
  refine w_aload_n dX3_init_347 rfl rfl ?_
  refine w_sipush dX3_init_348 (v := 1132) (by decide) ?_
  obtain ⟨q159, b160, hf⟩ := Option.bind_eq_some_iff.mp hf
  refine x_newI (g := 175) b160 dX3_init_351 q582 ?_
  obtain ⟨h161, b162, hf⟩ := Option.bind_eq_some_iff.mp hf
  refine SX3_175 b162 dX3_init_353 rfl rfl rfl rfl ?_
  refine w_aload_n dX3_init_356 rfl rfl ?_
  refine w_bipush dX3_init_357 (v := 8) (by decide) ?_
  obtain ⟨q163, b164, hf⟩ := Option.bind_eq_some_iff.mp hf
  refine x_newI (g := 176) b164 dX3_init_359 q582 ?_
  obtain ⟨h165, b166, hf⟩ := Option.bind_eq_some_iff.mp hf
  refine SX3_178 b166 dX3_init_361 rfl rfl rfl rfl ?_
  cases hf
  exact w_vret dX3_init_364 rfl rfl
abbrev cX10_clear : ByteArray := prog_17_method_2_code
def yX10_clear : MethodName := ⟨RX10, "clear", "()V"⟩
def YX10_clear : eY := (yX10_clear, cX10_clear, 2, none, [])
theorem mX10_clear : e_mv YX10_clear RX10 0 := ⟨q1915, q1916, q1917, by decide, by decide +kernel, (e_sig (by decide +kernel))⟩
theorem dX10_clear_0 : decode cX10_clear 0 = .ok (.iconst 0, 1) := dc_3 (by decide +kernel)
theorem dX10_clear_1 : decode cX10_clear 1 = .ok (.istore_n 1, 1) := dc_60 (by decide +kernel)
theorem dX10_clear_2 : decode cX10_clear 2 = .ok (.iload_n 1, 1) := dc_27 (by decide +kernel)
theorem dX10_clear_3 : decode cX10_clear 3 = .ok (.sipush 4096, 3) := dc_17 (a := 16) (b := 0) (v := 4096) (by decide +kernel)
theorem dX10_clear_6 : decode cX10_clear 6 = .ok (.if_icmp .ge 16, 3) := dc_162 (a := 0) (b := 16) (v := 16) (by decide +kernel)
theorem dX10_clear_9 : decode cX10_clear 9 = .ok (.aload_n 0, 1) := dc_42 (by decide +kernel)
theorem dX10_clear_10 : decode cX10_clear 10 = .ok (.getfield 11, 3) := dc_180 (a := 0) (b := 11) (n := 11) (by decide +kernel)
theorem dX10_clear_13 : decode cX10_clear 13 = .ok (.iload_n 1, 1) := dc_27 (by decide +kernel)
theorem dX10_clear_14 : decode cX10_clear 14 = .ok (.iconst 0, 1) := dc_3 (by decide +kernel)
theorem dX10_clear_15 : decode cX10_clear 15 = .ok (.iastore, 1) := dc_79 (by decide +kernel)
theorem dX10_clear_16 : decode cX10_clear 16 = .ok (.iinc 1 1, 3) := dc_132 (a := 1) (b := 1) (v := 1) (by decide +kernel)
theorem dX10_clear_19 : decode cX10_clear 19 = .ok (.goto (-17), 3) := dc_167 (a := 255) (b := 239) (v := -17) (by decide +kernel)
theorem dX10_clear_22 : decode cX10_clear 22 = .ok (.aload_n 0, 1) := dc_42 (by decide +kernel)
theorem dX10_clear_23 : decode cX10_clear 23 = .ok (.sipush 256, 3) := dc_17 (a := 1) (b := 0) (v := 256) (by decide +kernel)
theorem dX10_clear_26 : decode cX10_clear 26 = .ok (.putfield 32, 3) := dc_181 (a := 0) (b := 32) (n := 32) (by decide +kernel)
theorem dX10_clear_29 : decode cX10_clear 29 = .ok (.aload_n 0, 1) := dc_42 (by decide +kernel)
theorem dX10_clear_30 : decode cX10_clear 30 = .ok (.iconst 0, 1) := dc_3 (by decide +kernel)
theorem dX10_clear_31 : decode cX10_clear 31 = .ok (.putfield 36, 3) := dc_181 (a := 0) (b := 36) (n := 36) (by decide +kernel)
theorem dX10_clear_34 : decode cX10_clear 34 = .ok (.return_, 1) := dc_177 (by decide +kernel)
theorem GX10_11 {w : eW} {d : Nat} {Y : eY} {pc : Nat} {ls : eL} {st : List Value} {h : eH} {Q : eO → eH → Prop} {a : Nat} {x : Nat} (hf : g_A 9 h a 1 = some x) (hd : decode Y.2.1 pc = .ok (.getfield 11, 3)) (hY : Y.1.cls = RX10) (kk : wp w d Y (pc + 3) ls (.ref x :: st) h Q) : wp w d Y pc ls (.ref a :: st) h Q := x_gA (ci := 9) (k := 1) hf hd rfl (by decide) (by rw [hY]; exact q701) kk
theorem SX10_32 {w : eW} {d : Nat} {Y : eY} {pc : Nat} {ls : eL} {st : List Value} {h : eH} {Q : eO → eH → Prop} {a : Nat} {h' : eH} {x : Int32} (hf : p_V 9 h a 6 (.int x) = some h') (hd : decode Y.2.1 pc = .ok (.putfield 32, 3)) (hY : Y.1.cls = RX10) (kk : wp w d Y (pc + 3) ls st h' Q) : wp w d Y pc ls (.int x :: .ref a :: st) h Q := x_pI (ci := 9) (k := 6) hf hd rfl (by decide) (by rw [hY]; exact q707) rfl rfl kk
theorem SX10_36 {w : eW} {d : Nat} {Y : eY} {pc : Nat} {ls : eL} {st : List Value} {h : eH} {Q : eO → eH → Prop} {a : Nat} {h' : eH} {x : Int32} (hf : p_V 9 h a 5 (.int x) = some h') (hd : decode Y.2.1 pc = .ok (.putfield 36, 3)) (hY : Y.1.cls = RX10) (kk : wp w d Y (pc + 3) ls st h' Q) : wp w d Y pc ls (.int x :: .ref a :: st) h Q := x_pI (ci := 9) (k := 5) hf hd rfl (by decide) (by rw [hY]; exact q706) rfl rfl kk
def fX10_clear_b2 (N : Nat) : Nat → Nat → Int32 → eH → Option (Unit × eH)
  | 0, _, _, _ => none
  | n + 1, l0, l1, h =>
    if (4096 : Int32) ≤ l1 then
      (p_V 9 h l0 6 (.int (256 : Int32))).bind fun h2 =>
      (p_V 9 h2 l0 5 (.int (0 : Int32))).bind fun h4 =>
      some ((), h4)
    else
      (g_A 9 h l0 1).bind fun a6 =>
      (q_V 100 h a6 l1 (.int (0 : Int32))).bind fun h8 =>
      fX10_clear_b2 N n l0 (l1 + (1 : Int32)) h8
theorem pX10_clear_b2 {w : eW} {d : Nat} (hd : 0 ≤ d) {N : Nat} : ∀ (n : Nat) l0 l1 h q, fX10_clear_b2 N n l0 l1 h = some q → wp w d YX10_clear 2 [some (.ref l0), some (.int l1)] [] h (e_is (e_rn c_V q)) := by
  intro n
  induction n with
  | zero => intro l0 l1 h q hf; simp [fX10_clear_b2] at hf
  | succ n ih =>
    intro l0 l1 h q hf
    rw [fX10_clear_b2] at hf
    refine w_iload_n dX10_clear_2 rfl rfl ?_
    refine w_sipush dX10_clear_3 (v := 4096) (by decide) ?_
    refine w_icmp_ge 22 dX10_clear_6 (by decide) (fun c1 => ?_) (fun c1 => ?_)
    · replace hf := (if_pos (show (4096 : Int32) ≤ l1 from c1)).symm.trans hf
      refine w_aload_n dX10_clear_22 rfl rfl ?_
      refine w_sipush dX10_clear_23 (v := 256) (by decide) ?_
      obtain ⟨h2, b3, hf⟩ := Option.bind_eq_some_iff.mp hf
      refine SX10_32 b3 dX10_clear_26 rfl ?_
      refine w_aload_n dX10_clear_29 rfl rfl ?_
      refine w_iconst dX10_clear_30 (v := 0) (by decide) ?_
      obtain ⟨h4, b5, hf⟩ := Option.bind_eq_some_iff.mp hf
      refine SX10_36 b5 dX10_clear_31 rfl ?_
      cases hf
      exact w_vret dX10_clear_34 rfl rfl
    · replace hf := (if_neg (show ¬ ((4096 : Int32) ≤ l1) from c1)).symm.trans hf
      refine w_aload_n dX10_clear_9 rfl rfl ?_
      obtain ⟨a6, b7, hf⟩ := Option.bind_eq_some_iff.mp hf
      refine GX10_11 b7 dX10_clear_10 rfl ?_
      refine w_iload_n dX10_clear_13 rfl rfl ?_
      refine w_iconst dX10_clear_14 (v := 0) (by decide) ?_
      obtain ⟨h8, b9, hf⟩ := Option.bind_eq_some_iff.mp hf
      refine x_qI b9 dX10_clear_15 ?_
      refine w_iinc dX10_clear_16 (v := (l1 + (1 : Int32))) rfl rfl (by decide) (ls' := [some (.ref l0), some (.int (l1 + (1 : Int32)))]) rfl ?_
      refine w_goto 2 dX10_clear_19 (by decide) ?_
      exact (ih _ _ _ _ hf).to ⟨rfl, rfl, trivial⟩
def fX10_clear (N : Nat) (this : Nat) (h : eH) : Option (Unit × eH) :=
  fX10_clear_b2 N N this (0 : Int32) h
theorem pX10_clear {w : eW} {d : Nat} (hd : 0 ≤ d) {N : Nat} {this : Nat} {h : eH} {q} (hf : fX10_clear N this h = some q) : wm w d YX10_clear [.ref this] h (e_is (e_rn c_V q)) := by
  show wp w d YX10_clear 0 [some (.ref this), none] [] h _
  unfold fX10_clear at hf
  refine w_iconst dX10_clear_0 (v := 0) (by decide) ?_
  refine w_istore_n dX10_clear_1 rfl (by decide) (ls' := [some (.ref this), some (.int (0 : Int32))]) rfl ?_
  exact (pX10_clear_b2 hd N _ _ _ _ hf).to ⟨rfl, rfl, trivial⟩
abbrev cX9_clearCategories : ByteArray := prog_28_method_3_code
def yX9_clearCategories : MethodName := ⟨RX9, "clearCategories", "()V"⟩
def YX9_clearCategories : eY := (yX9_clearCategories, cX9_clearCategories, 1, none, [])
theorem mX9_clearCategories : e_mv YX9_clearCategories RX9 0 := ⟨q1927, qs5, q1928, by decide, by decide +kernel, (e_sig (by decide +kernel))⟩
theorem dX9_clearCategories_0 : decode cX9_clearCategories 0 = .ok (.aload_n 0, 1) := dc_42 (by decide +kernel)
theorem dX9_clearCategories_1 : decode cX9_clearCategories 1 = .ok (.getfield 21, 3) := dc_180 (a := 0) (b := 21) (n := 21) (by decide +kernel)
theorem dX9_clearCategories_4 : decode cX9_clearCategories 4 = .ok (.sipush 1931, 3) := dc_17 (a := 7) (b := 139) (v := 1931) (by decide +kernel)
theorem dX9_clearCategories_7 : decode cX9_clearCategories 7 = .ok (.iconst 0, 1) := dc_3 (by decide +kernel)
theorem dX9_clearCategories_8 : decode cX9_clearCategories 8 = .ok (.iastore, 1) := dc_79 (by decide +kernel)
theorem dX9_clearCategories_9 : decode cX9_clearCategories 9 = .ok (.aload_n 0, 1) := dc_42 (by decide +kernel)
theorem dX9_clearCategories_10 : decode cX9_clearCategories 10 = .ok (.getfield 21, 3) := dc_180 (a := 0) (b := 21) (n := 21) (by decide +kernel)
theorem dX9_clearCategories_13 : decode cX9_clearCategories 13 = .ok (.sipush 1962, 3) := dc_17 (a := 7) (b := 170) (v := 1962) (by decide +kernel)
theorem dX9_clearCategories_16 : decode cX9_clearCategories 16 = .ok (.iconst 1, 1) := dc_4 (by decide +kernel)
theorem dX9_clearCategories_17 : decode cX9_clearCategories 17 = .ok (.iastore, 1) := dc_79 (by decide +kernel)
theorem dX9_clearCategories_18 : decode cX9_clearCategories 18 = .ok (.aload_n 0, 1) := dc_42 (by decide +kernel)
theorem dX9_clearCategories_19 : decode cX9_clearCategories 19 = .ok (.getfield 21, 3) := dc_180 (a := 0) (b := 21) (n := 21) (by decide +kernel)
theorem dX9_clearCategories_22 : decode cX9_clearCategories 22 = .ok (.sipush 1964, 3) := dc_17 (a := 7) (b := 172) (v := 1964) (by decide +kernel)
theorem dX9_clearCategories_25 : decode cX9_clearCategories 25 = .ok (.iconst 2, 1) := dc_5 (by decide +kernel)
theorem dX9_clearCategories_26 : decode cX9_clearCategories 26 = .ok (.iastore, 1) := dc_79 (by decide +kernel)
theorem dX9_clearCategories_27 : decode cX9_clearCategories 27 = .ok (.aload_n 0, 1) := dc_42 (by decide +kernel)
theorem dX9_clearCategories_28 : decode cX9_clearCategories 28 = .ok (.getfield 21, 3) := dc_180 (a := 0) (b := 21) (n := 21) (by decide +kernel)
theorem dX9_clearCategories_31 : decode cX9_clearCategories 31 = .ok (.sipush 1875, 3) := dc_17 (a := 7) (b := 83) (v := 1875) (by decide +kernel)
theorem dX9_clearCategories_34 : decode cX9_clearCategories 34 = .ok (.iconst 3, 1) := dc_6 (by decide +kernel)
theorem dX9_clearCategories_35 : decode cX9_clearCategories 35 = .ok (.iastore, 1) := dc_79 (by decide +kernel)
theorem dX9_clearCategories_36 : decode cX9_clearCategories 36 = .ok (.aload_n 0, 1) := dc_42 (by decide +kernel)
theorem dX9_clearCategories_37 : decode cX9_clearCategories 37 = .ok (.getfield 21, 3) := dc_180 (a := 0) (b := 21) (n := 21) (by decide +kernel)
theorem dX9_clearCategories_40 : decode cX9_clearCategories 40 = .ok (.sipush 1877, 3) := dc_17 (a := 7) (b := 85) (v := 1877) (by decide +kernel)
theorem dX9_clearCategories_43 : decode cX9_clearCategories 43 = .ok (.iconst 4, 1) := dc_7 (by decide +kernel)
theorem dX9_clearCategories_44 : decode cX9_clearCategories 44 = .ok (.iastore, 1) := dc_79 (by decide +kernel)
theorem dX9_clearCategories_45 : decode cX9_clearCategories 45 = .ok (.aload_n 0, 1) := dc_42 (by decide +kernel)
theorem dX9_clearCategories_46 : decode cX9_clearCategories 46 = .ok (.getfield 21, 3) := dc_180 (a := 0) (b := 21) (n := 21) (by decide +kernel)
theorem dX9_clearCategories_49 : decode cX9_clearCategories 49 = .ok (.sipush 1852, 3) := dc_17 (a := 7) (b := 60) (v := 1852) (by decide +kernel)
theorem dX9_clearCategories_52 : decode cX9_clearCategories 52 = .ok (.iconst 5, 1) := dc_8 (by decide +kernel)
theorem dX9_clearCategories_53 : decode cX9_clearCategories 53 = .ok (.iastore, 1) := dc_79 (by decide +kernel)
theorem dX9_clearCategories_54 : decode cX9_clearCategories 54 = .ok (.aload_n 0, 1) := dc_42 (by decide +kernel)
theorem dX9_clearCategories_55 : decode cX9_clearCategories 55 = .ok (.getfield 21, 3) := dc_180 (a := 0) (b := 21) (n := 21) (by decide +kernel)
theorem dX9_clearCategories_58 : decode cX9_clearCategories 58 = .ok (.sipush 1874, 3) := dc_17 (a := 7) (b := 82) (v := 1874) (by decide +kernel)
theorem dX9_clearCategories_61 : decode cX9_clearCategories 61 = .ok (.bipush 6, 2) := dc_16 (a := 6) (v := 6) (by decide +kernel)
theorem dX9_clearCategories_63 : decode cX9_clearCategories 63 = .ok (.iastore, 1) := dc_79 (by decide +kernel)
theorem dX9_clearCategories_64 : decode cX9_clearCategories 64 = .ok (.aload_n 0, 1) := dc_42 (by decide +kernel)
theorem dX9_clearCategories_65 : decode cX9_clearCategories 65 = .ok (.getfield 21, 3) := dc_180 (a := 0) (b := 21) (n := 21) (by decide +kernel)
theorem dX9_clearCategories_68 : decode cX9_clearCategories 68 = .ok (.sipush 1933, 3) := dc_17 (a := 7) (b := 141) (v := 1933) (by decide +kernel)
theorem dX9_clearCategories_71 : decode cX9_clearCategories 71 = .ok (.bipush 7, 2) := dc_16 (a := 7) (v := 7) (by decide +kernel)
theorem dX9_clearCategories_73 : decode cX9_clearCategories 73 = .ok (.iastore, 1) := dc_79 (by decide +kernel)
theorem dX9_clearCategories_74 : decode cX9_clearCategories 74 = .ok (.aload_n 0, 1) := dc_42 (by decide +kernel)
theorem dX9_clearCategories_75 : decode cX9_clearCategories 75 = .ok (.getfield 21, 3) := dc_180 (a := 0) (b := 21) (n := 21) (by decide +kernel)
theorem dX9_clearCategories_78 : decode cX9_clearCategories 78 = .ok (.sipush 1934, 3) := dc_17 (a := 7) (b := 142) (v := 1934) (by decide +kernel)
theorem dX9_clearCategories_81 : decode cX9_clearCategories 81 = .ok (.bipush 8, 2) := dc_16 (a := 8) (v := 8) (by decide +kernel)
theorem dX9_clearCategories_83 : decode cX9_clearCategories 83 = .ok (.iastore, 1) := dc_79 (by decide +kernel)
theorem dX9_clearCategories_84 : decode cX9_clearCategories 84 = .ok (.aload_n 0, 1) := dc_42 (by decide +kernel)
theorem dX9_clearCategories_85 : decode cX9_clearCategories 85 = .ok (.getfield 21, 3) := dc_180 (a := 0) (b := 21) (n := 21) (by decide +kernel)
theorem dX9_clearCategories_88 : decode cX9_clearCategories 88 = .ok (.sipush 1839, 3) := dc_17 (a := 7) (b := 47) (v := 1839) (by decide +kernel)
theorem dX9_clearCategories_91 : decode cX9_clearCategories 91 = .ok (.bipush 9, 2) := dc_16 (a := 9) (v := 9) (by decide +kernel)
theorem dX9_clearCategories_93 : decode cX9_clearCategories 93 = .ok (.iastore, 1) := dc_79 (by decide +kernel)
theorem dX9_clearCategories_94 : decode cX9_clearCategories 94 = .ok (.aload_n 0, 1) := dc_42 (by decide +kernel)
theorem dX9_clearCategories_95 : decode cX9_clearCategories 95 = .ok (.getfield 21, 3) := dc_180 (a := 0) (b := 21) (n := 21) (by decide +kernel)
theorem dX9_clearCategories_98 : decode cX9_clearCategories 98 = .ok (.sipush 1871, 3) := dc_17 (a := 7) (b := 79) (v := 1871) (by decide +kernel)
theorem dX9_clearCategories_101 : decode cX9_clearCategories 101 = .ok (.bipush 10, 2) := dc_16 (a := 10) (v := 10) (by decide +kernel)
theorem dX9_clearCategories_103 : decode cX9_clearCategories 103 = .ok (.iastore, 1) := dc_79 (by decide +kernel)
theorem dX9_clearCategories_104 : decode cX9_clearCategories 104 = .ok (.aload_n 0, 1) := dc_42 (by decide +kernel)
theorem dX9_clearCategories_105 : decode cX9_clearCategories 105 = .ok (.getfield 21, 3) := dc_180 (a := 0) (b := 21) (n := 21) (by decide +kernel)
theorem dX9_clearCategories_108 : decode cX9_clearCategories 108 = .ok (.sipush 1848, 3) := dc_17 (a := 7) (b := 56) (v := 1848) (by decide +kernel)
theorem dX9_clearCategories_111 : decode cX9_clearCategories 111 = .ok (.bipush 10, 2) := dc_16 (a := 10) (v := 10) (by decide +kernel)
theorem dX9_clearCategories_113 : decode cX9_clearCategories 113 = .ok (.iastore, 1) := dc_79 (by decide +kernel)
theorem dX9_clearCategories_114 : decode cX9_clearCategories 114 = .ok (.aload_n 0, 1) := dc_42 (by decide +kernel)
theorem dX9_clearCategories_115 : decode cX9_clearCategories 115 = .ok (.getfield 21, 3) := dc_180 (a := 0) (b := 21) (n := 21) (by decide +kernel)
theorem dX9_clearCategories_118 : decode cX9_clearCategories 118 = .ok (.sipush 1965, 3) := dc_17 (a := 7) (b := 173) (v := 1965) (by decide +kernel)
theorem dX9_clearCategories_121 : decode cX9_clearCategories 121 = .ok (.bipush 13, 2) := dc_16 (a := 13) (v := 13) (by decide +kernel)
theorem dX9_clearCategories_123 : decode cX9_clearCategories 123 = .ok (.iastore, 1) := dc_79 (by decide +kernel)
theorem dX9_clearCategories_124 : decode cX9_clearCategories 124 = .ok (.aload_n 0, 1) := dc_42 (by decide +kernel)
theorem dX9_clearCategories_125 : decode cX9_clearCategories 125 = .ok (.getfield 21, 3) := dc_180 (a := 0) (b := 21) (n := 21) (by decide +kernel)
theorem dX9_clearCategories_128 : decode cX9_clearCategories 128 = .ok (.sipush 1876, 3) := dc_17 (a := 7) (b := 84) (v := 1876) (by decide +kernel)
theorem dX9_clearCategories_131 : decode cX9_clearCategories 131 = .ok (.bipush 14, 2) := dc_16 (a := 14) (v := 14) (by decide +kernel)
theorem dX9_clearCategories_133 : decode cX9_clearCategories 133 = .ok (.iastore, 1) := dc_79 (by decide +kernel)
theorem dX9_clearCategories_134 : decode cX9_clearCategories 134 = .ok (.aload_n 0, 1) := dc_42 (by decide +kernel)
theorem dX9_clearCategories_135 : decode cX9_clearCategories 135 = .ok (.getfield 21, 3) := dc_180 (a := 0) (b := 21) (n := 21) (by decide +kernel)
theorem dX9_clearCategories_138 : decode cX9_clearCategories 138 = .ok (.sipush 1966, 3) := dc_17 (a := 7) (b := 174) (v := 1966) (by decide +kernel)
theorem dX9_clearCategories_141 : decode cX9_clearCategories 141 = .ok (.bipush 15, 2) := dc_16 (a := 15) (v := 15) (by decide +kernel)
theorem dX9_clearCategories_143 : decode cX9_clearCategories 143 = .ok (.iastore, 1) := dc_79 (by decide +kernel)
theorem dX9_clearCategories_144 : decode cX9_clearCategories 144 = .ok (.return_, 1) := dc_177 (by decide +kernel)
theorem GX9_21 {w : eW} {d : Nat} {Y : eY} {pc : Nat} {ls : eL} {st : List Value} {h : eH} {Q : eO → eH → Prop} {a : Nat} {x : Nat} (hf : g_A 8 h a 3 = some x) (hd : decode Y.2.1 pc = .ok (.getfield 21, 3)) (hY : Y.1.cls = RX9) (kk : wp w d Y (pc + 3) ls (.ref x :: st) h Q) : wp w d Y pc ls (.ref a :: st) h Q := x_gA (ci := 8) (k := 3) hf hd rfl (by decide) (by rw [hY]; exact q655) kk
def fX9_clearCategories (this : Nat) (h : eH) : Option (Unit × eH) :=
  (g_A 8 h this 3).bind fun a1 =>
  (q_V 100 h a1 (1931 : Int32) (.int (0 : Int32))).bind fun h3 =>
  (g_A 8 h3 this 3).bind fun a5 =>
  (q_V 100 h3 a5 (1962 : Int32) (.int (1 : Int32))).bind fun h7 =>
  (g_A 8 h7 this 3).bind fun a9 =>
  (q_V 100 h7 a9 (1964 : Int32) (.int (2 : Int32))).bind fun h11 =>
  (g_A 8 h11 this 3).bind fun a13 =>
  (q_V 100 h11 a13 (1875 : Int32) (.int (3 : Int32))).bind fun h15 =>
  (g_A 8 h15 this 3).bind fun a17 =>
  (q_V 100 h15 a17 (1877 : Int32) (.int (4 : Int32))).bind fun h19 =>
  (g_A 8 h19 this 3).bind fun a21 =>
  (q_V 100 h19 a21 (1852 : Int32) (.int (5 : Int32))).bind fun h23 =>
  (g_A 8 h23 this 3).bind fun a25 =>
  (q_V 100 h23 a25 (1874 : Int32) (.int (6 : Int32))).bind fun h27 =>
  (g_A 8 h27 this 3).bind fun a29 =>
  (q_V 100 h27 a29 (1933 : Int32) (.int (7 : Int32))).bind fun h31 =>
  (g_A 8 h31 this 3).bind fun a33 =>
  (q_V 100 h31 a33 (1934 : Int32) (.int (8 : Int32))).bind fun h35 =>
  (g_A 8 h35 this 3).bind fun a37 =>
  (q_V 100 h35 a37 (1839 : Int32) (.int (9 : Int32))).bind fun h39 =>
  (g_A 8 h39 this 3).bind fun a41 =>
  (q_V 100 h39 a41 (1871 : Int32) (.int (10 : Int32))).bind fun h43 =>
  (g_A 8 h43 this 3).bind fun a45 =>
  (q_V 100 h43 a45 (1848 : Int32) (.int (10 : Int32))).bind fun h47 =>
  (g_A 8 h47 this 3).bind fun a49 =>
  (q_V 100 h47 a49 (1965 : Int32) (.int (13 : Int32))).bind fun h51 =>
  (g_A 8 h51 this 3).bind fun a53 =>
  (q_V 100 h51 a53 (1876 : Int32) (.int (14 : Int32))).bind fun h55 =>
  (g_A 8 h55 this 3).bind fun a57 =>
  (q_V 100 h55 a57 (1966 : Int32) (.int (15 : Int32))).bind fun h59 =>
  some ((), h59)
theorem pX9_clearCategories {w : eW} {d : Nat} (hd : 0 ≤ d) {this : Nat} {h : eH} {q} (hf : fX9_clearCategories this h = some q) : wm w d YX9_clearCategories [.ref this] h (e_is (e_rn c_V q)) := by
  show wp w d YX9_clearCategories 0 [some (.ref this)] [] h _
  unfold fX9_clearCategories at hf
  refine w_aload_n dX9_clearCategories_0 rfl rfl ?_
  obtain ⟨a1, b2, hf⟩ := Option.bind_eq_some_iff.mp hf
  refine GX9_21 b2 dX9_clearCategories_1 rfl ?_
  refine w_sipush dX9_clearCategories_4 (v := 1931) (by decide) ?_
  refine w_iconst dX9_clearCategories_7 (v := 0) (by decide) ?_
  obtain ⟨h3, b4, hf⟩ := Option.bind_eq_some_iff.mp hf
  refine x_qI b4 dX9_clearCategories_8 ?_
  refine w_aload_n dX9_clearCategories_9 rfl rfl ?_
  obtain ⟨a5, b6, hf⟩ := Option.bind_eq_some_iff.mp hf
  refine GX9_21 b6 dX9_clearCategories_10 rfl ?_
  refine w_sipush dX9_clearCategories_13 (v := 1962) (by decide) ?_
  refine w_iconst dX9_clearCategories_16 (v := 1) (by decide) ?_
  obtain ⟨h7, b8, hf⟩ := Option.bind_eq_some_iff.mp hf
  refine x_qI b8 dX9_clearCategories_17 ?_
  refine w_aload_n dX9_clearCategories_18 rfl rfl ?_
  obtain ⟨a9, b10, hf⟩ := Option.bind_eq_some_iff.mp hf
  refine GX9_21 b10 dX9_clearCategories_19 rfl ?_
  refine w_sipush dX9_clearCategories_22 (v := 1964) (by decide) ?_
  refine w_iconst dX9_clearCategories_25 (v := 2) (by decide) ?_
  obtain ⟨h11, b12, hf⟩ := Option.bind_eq_some_iff.mp hf
  refine x_qI b12 dX9_clearCategories_26 ?_
  refine w_aload_n dX9_clearCategories_27 rfl rfl ?_
  obtain ⟨a13, b14, hf⟩ := Option.bind_eq_some_iff.mp hf
  refine GX9_21 b14 dX9_clearCategories_28 rfl ?_
  refine w_sipush dX9_clearCategories_31 (v := 1875) (by decide) ?_
  refine w_iconst dX9_clearCategories_34 (v := 3) (by decide) ?_
  obtain ⟨h15, b16, hf⟩ := Option.bind_eq_some_iff.mp hf
  refine x_qI b16 dX9_clearCategories_35 ?_
  refine w_aload_n dX9_clearCategories_36 rfl rfl ?_
  obtain ⟨a17, b18, hf⟩ := Option.bind_eq_some_iff.mp hf
  refine GX9_21 b18 dX9_clearCategories_37 rfl ?_
  refine w_sipush dX9_clearCategories_40 (v := 1877) (by decide) ?_
  refine w_iconst dX9_clearCategories_43 (v := 4) (by decide) ?_
  obtain ⟨h19, b20, hf⟩ := Option.bind_eq_some_iff.mp hf
  refine x_qI b20 dX9_clearCategories_44 ?_
  refine w_aload_n dX9_clearCategories_45 rfl rfl ?_
  obtain ⟨a21, b22, hf⟩ := Option.bind_eq_some_iff.mp hf
  refine GX9_21 b22 dX9_clearCategories_46 rfl ?_
  refine w_sipush dX9_clearCategories_49 (v := 1852) (by decide) ?_
  refine w_iconst dX9_clearCategories_52 (v := 5) (by decide) ?_
  obtain ⟨h23, b24, hf⟩ := Option.bind_eq_some_iff.mp hf
  refine x_qI b24 dX9_clearCategories_53 ?_
  refine w_aload_n dX9_clearCategories_54 rfl rfl ?_
  obtain ⟨a25, b26, hf⟩ := Option.bind_eq_some_iff.mp hf
  refine GX9_21 b26 dX9_clearCategories_55 rfl ?_
  refine w_sipush dX9_clearCategories_58 (v := 1874) (by decide) ?_
  refine w_bipush dX9_clearCategories_61 (v := 6) (by decide) ?_
  obtain ⟨h27, b28, hf⟩ := Option.bind_eq_some_iff.mp hf
  refine x_qI b28 dX9_clearCategories_63 ?_
  refine w_aload_n dX9_clearCategories_64 rfl rfl ?_
  obtain ⟨a29, b30, hf⟩ := Option.bind_eq_some_iff.mp hf
  refine GX9_21 b30 dX9_clearCategories_65 rfl ?_
  refine w_sipush dX9_clearCategories_68 (v := 1933) (by decide) ?_
  refine w_bipush dX9_clearCategories_71 (v := 7) (by decide) ?_
  obtain ⟨h31, b32, hf⟩ := Option.bind_eq_some_iff.mp hf
  refine x_qI b32 dX9_clearCategories_73 ?_
  refine w_aload_n dX9_clearCategories_74 rfl rfl ?_
  obtain ⟨a33, b34, hf⟩ := Option.bind_eq_some_iff.mp hf
  refine GX9_21 b34 dX9_clearCategories_75 rfl ?_
  refine w_sipush dX9_clearCategories_78 (v := 1934) (by decide) ?_
  refine w_bipush dX9_clearCategories_81 (v := 8) (by decide) ?_
  obtain ⟨h35, b36, hf⟩ := Option.bind_eq_some_iff.mp hf
  refine x_qI b36 dX9_clearCategories_83 ?_
  refine w_aload_n dX9_clearCategories_84 rfl rfl ?_
  obtain ⟨a37, b38, hf⟩ := Option.bind_eq_some_iff.mp hf
  refine GX9_21 b38 dX9_clearCategories_85 rfl ?_
  refine w_sipush dX9_clearCategories_88 (v := 1839) (by decide) ?_
  refine w_bipush dX9_clearCategories_91 (v := 9) (by decide) ?_
  obtain ⟨h39, b40, hf⟩ := Option.bind_eq_some_iff.mp hf
  refine x_qI b40 dX9_clearCategories_93 ?_
  refine w_aload_n dX9_clearCategories_94 rfl rfl ?_
  obtain ⟨a41, b42, hf⟩ := Option.bind_eq_some_iff.mp hf
  refine GX9_21 b42 dX9_clearCategories_95 rfl ?_
  refine w_sipush dX9_clearCategories_98 (v := 1871) (by decide) ?_
  refine w_bipush dX9_clearCategories_101 (v := 10) (by decide) ?_
  obtain ⟨h43, b44, hf⟩ := Option.bind_eq_some_iff.mp hf
  refine x_qI b44 dX9_clearCategories_103 ?_
  refine w_aload_n dX9_clearCategories_104 rfl rfl ?_
  obtain ⟨a45, b46, hf⟩ := Option.bind_eq_some_iff.mp hf
  refine GX9_21 b46 dX9_clearCategories_105 rfl ?_
  refine w_sipush dX9_clearCategories_108 (v := 1848) (by decide) ?_
  refine w_bipush dX9_clearCategories_111 (v := 10) (by decide) ?_
  obtain ⟨h47, b48, hf⟩ := Option.bind_eq_some_iff.mp hf
  refine x_qI b48 dX9_clearCategories_113 ?_
  refine w_aload_n dX9_clearCategories_114 rfl rfl ?_
  obtain ⟨a49, b50, hf⟩ := Option.bind_eq_some_iff.mp hf
  refine GX9_21 b50 dX9_clearCategories_115 rfl ?_
  refine w_sipush dX9_clearCategories_118 (v := 1965) (by decide) ?_
  refine w_bipush dX9_clearCategories_121 (v := 13) (by decide) ?_
  obtain ⟨h51, b52, hf⟩ := Option.bind_eq_some_iff.mp hf
  refine x_qI b52 dX9_clearCategories_123 ?_
  refine w_aload_n dX9_clearCategories_124 rfl rfl ?_
  obtain ⟨a53, b54, hf⟩ := Option.bind_eq_some_iff.mp hf
  refine GX9_21 b54 dX9_clearCategories_125 rfl ?_
  refine w_sipush dX9_clearCategories_128 (v := 1876) (by decide) ?_
  refine w_bipush dX9_clearCategories_131 (v := 14) (by decide) ?_
  obtain ⟨h55, b56, hf⟩ := Option.bind_eq_some_iff.mp hf
  refine x_qI b56 dX9_clearCategories_133 ?_
  refine w_aload_n dX9_clearCategories_134 rfl rfl ?_
  obtain ⟨a57, b58, hf⟩ := Option.bind_eq_some_iff.mp hf
  refine GX9_21 b58 dX9_clearCategories_135 rfl ?_
  refine w_sipush dX9_clearCategories_138 (v := 1966) (by decide) ?_
  refine w_bipush dX9_clearCategories_141 (v := 15) (by decide) ?_
  obtain ⟨h59, b60, hf⟩ := Option.bind_eq_some_iff.mp hf
  refine x_qI b60 dX9_clearCategories_143 ?_
  cases hf
  exact w_vret dX9_clearCategories_144 rfl rfl
abbrev cX9_clearNamed : ByteArray := prog_28_method_4_code
def yX9_clearNamed : MethodName := ⟨RX9, "clearNamed", "()V"⟩
def YX9_clearNamed : eY := (yX9_clearNamed, cX9_clearNamed, 1, none, [])
theorem mX9_clearNamed : e_mv YX9_clearNamed RX9 0 := ⟨q1931, qs6, q1932, by decide, by decide +kernel, (e_sig (by decide +kernel))⟩
theorem dX9_clearNamed_0 : decode cX9_clearNamed 0 = .ok (.aload_n 0, 1) := dc_42 (by decide +kernel)
theorem dX9_clearNamed_1 : decode cX9_clearNamed 1 = .ok (.getfield 21, 3) := dc_180 (a := 0) (b := 21) (n := 21) (by decide +kernel)
theorem dX9_clearNamed_4 : decode cX9_clearNamed 4 = .ok (.sipush 256, 3) := dc_17 (a := 1) (b := 0) (v := 256) (by decide +kernel)
theorem dX9_clearNamed_7 : decode cX9_clearNamed 7 = .ok (.bipush 100, 2) := dc_16 (a := 100) (v := 100) (by decide +kernel)
theorem dX9_clearNamed_9 : decode cX9_clearNamed 9 = .ok (.iastore, 1) := dc_79 (by decide +kernel)
theorem dX9_clearNamed_10 : decode cX9_clearNamed 10 = .ok (.aload_n 0, 1) := dc_42 (by decide +kernel)
theorem dX9_clearNamed_11 : decode cX9_clearNamed 11 = .ok (.getfield 21, 3) := dc_180 (a := 0) (b := 21) (n := 21) (by decide +kernel)
theorem dX9_clearNamed_14 : decode cX9_clearNamed 14 = .ok (.sipush 257, 3) := dc_17 (a := 1) (b := 1) (v := 257) (by decide +kernel)
theorem dX9_clearNamed_17 : decode cX9_clearNamed 17 = .ok (.sipush 200, 3) := dc_17 (a := 0) (b := 200) (v := 200) (by decide +kernel)
theorem dX9_clearNamed_20 : decode cX9_clearNamed 20 = .ok (.iastore, 1) := dc_79 (by decide +kernel)
theorem dX9_clearNamed_21 : decode cX9_clearNamed 21 = .ok (.aload_n 0, 1) := dc_42 (by decide +kernel)
theorem dX9_clearNamed_22 : decode cX9_clearNamed 22 = .ok (.getfield 21, 3) := dc_180 (a := 0) (b := 21) (n := 21) (by decide +kernel)
theorem dX9_clearNamed_25 : decode cX9_clearNamed 25 = .ok (.sipush 258, 3) := dc_17 (a := 1) (b := 2) (v := 258) (by decide +kernel)
theorem dX9_clearNamed_28 : decode cX9_clearNamed 28 = .ok (.bipush 10, 2) := dc_16 (a := 10) (v := 10) (by decide +kernel)
theorem dX9_clearNamed_30 : decode cX9_clearNamed 30 = .ok (.iastore, 1) := dc_79 (by decide +kernel)
theorem dX9_clearNamed_31 : decode cX9_clearNamed 31 = .ok (.aload_n 0, 1) := dc_42 (by decide +kernel)
theorem dX9_clearNamed_32 : decode cX9_clearNamed 32 = .ok (.getfield 21, 3) := dc_180 (a := 0) (b := 21) (n := 21) (by decide +kernel)
theorem dX9_clearNamed_35 : decode cX9_clearNamed 35 = .ok (.sipush 259, 3) := dc_17 (a := 1) (b := 3) (v := 259) (by decide +kernel)
theorem dX9_clearNamed_38 : decode cX9_clearNamed 38 = .ok (.bipush 50, 2) := dc_16 (a := 50) (v := 50) (by decide +kernel)
theorem dX9_clearNamed_40 : decode cX9_clearNamed 40 = .ok (.iastore, 1) := dc_79 (by decide +kernel)
theorem dX9_clearNamed_41 : decode cX9_clearNamed 41 = .ok (.aload_n 0, 1) := dc_42 (by decide +kernel)
theorem dX9_clearNamed_42 : decode cX9_clearNamed 42 = .ok (.getfield 21, 3) := dc_180 (a := 0) (b := 21) (n := 21) (by decide +kernel)
theorem dX9_clearNamed_45 : decode cX9_clearNamed 45 = .ok (.sipush 260, 3) := dc_17 (a := 1) (b := 4) (v := 260) (by decide +kernel)
theorem dX9_clearNamed_48 : decode cX9_clearNamed 48 = .ok (.bipush 50, 2) := dc_16 (a := 50) (v := 50) (by decide +kernel)
theorem dX9_clearNamed_50 : decode cX9_clearNamed 50 = .ok (.iastore, 1) := dc_79 (by decide +kernel)
theorem dX9_clearNamed_51 : decode cX9_clearNamed 51 = .ok (.aload_n 0, 1) := dc_42 (by decide +kernel)
theorem dX9_clearNamed_52 : decode cX9_clearNamed 52 = .ok (.getfield 21, 3) := dc_180 (a := 0) (b := 21) (n := 21) (by decide +kernel)
theorem dX9_clearNamed_55 : decode cX9_clearNamed 55 = .ok (.sipush 261, 3) := dc_17 (a := 1) (b := 5) (v := 261) (by decide +kernel)
theorem dX9_clearNamed_58 : decode cX9_clearNamed 58 = .ok (.sipush 150, 3) := dc_17 (a := 0) (b := 150) (v := 150) (by decide +kernel)
theorem dX9_clearNamed_61 : decode cX9_clearNamed 61 = .ok (.iastore, 1) := dc_79 (by decide +kernel)
theorem dX9_clearNamed_62 : decode cX9_clearNamed 62 = .ok (.aload_n 0, 1) := dc_42 (by decide +kernel)
theorem dX9_clearNamed_63 : decode cX9_clearNamed 63 = .ok (.getfield 21, 3) := dc_180 (a := 0) (b := 21) (n := 21) (by decide +kernel)
theorem dX9_clearNamed_66 : decode cX9_clearNamed 66 = .ok (.sipush 262, 3) := dc_17 (a := 1) (b := 6) (v := 262) (by decide +kernel)
theorem dX9_clearNamed_69 : decode cX9_clearNamed 69 = .ok (.sipush 150, 3) := dc_17 (a := 0) (b := 150) (v := 150) (by decide +kernel)
theorem dX9_clearNamed_72 : decode cX9_clearNamed 72 = .ok (.iastore, 1) := dc_79 (by decide +kernel)
theorem dX9_clearNamed_73 : decode cX9_clearNamed 73 = .ok (.aload_n 0, 1) := dc_42 (by decide +kernel)
theorem dX9_clearNamed_74 : decode cX9_clearNamed 74 = .ok (.getfield 21, 3) := dc_180 (a := 0) (b := 21) (n := 21) (by decide +kernel)
theorem dX9_clearNamed_77 : decode cX9_clearNamed 77 = .ok (.sipush 263, 3) := dc_17 (a := 1) (b := 7) (v := 263) (by decide +kernel)
theorem dX9_clearNamed_80 : decode cX9_clearNamed 80 = .ok (.bipush 100, 2) := dc_16 (a := 100) (v := 100) (by decide +kernel)
theorem dX9_clearNamed_82 : decode cX9_clearNamed 82 = .ok (.iastore, 1) := dc_79 (by decide +kernel)
theorem dX9_clearNamed_83 : decode cX9_clearNamed 83 = .ok (.aload_n 0, 1) := dc_42 (by decide +kernel)
theorem dX9_clearNamed_84 : decode cX9_clearNamed 84 = .ok (.getfield 21, 3) := dc_180 (a := 0) (b := 21) (n := 21) (by decide +kernel)
theorem dX9_clearNamed_87 : decode cX9_clearNamed 87 = .ok (.sipush 265, 3) := dc_17 (a := 1) (b := 9) (v := 265) (by decide +kernel)
theorem dX9_clearNamed_90 : decode cX9_clearNamed 90 = .ok (.sipush 10000, 3) := dc_17 (a := 39) (b := 16) (v := 10000) (by decide +kernel)
theorem dX9_clearNamed_93 : decode cX9_clearNamed 93 = .ok (.iastore, 1) := dc_79 (by decide +kernel)
theorem dX9_clearNamed_94 : decode cX9_clearNamed 94 = .ok (.aload_n 0, 1) := dc_42 (by decide +kernel)
theorem dX9_clearNamed_95 : decode cX9_clearNamed 95 = .ok (.getfield 21, 3) := dc_180 (a := 0) (b := 21) (n := 21) (by decide +kernel)
theorem dX9_clearNamed_98 : decode cX9_clearNamed 98 = .ok (.sipush 266, 3) := dc_17 (a := 1) (b := 10) (v := 266) (by decide +kernel)
theorem dX9_clearNamed_101 : decode cX9_clearNamed 101 = .ok (.sipush 10000, 3) := dc_17 (a := 39) (b := 16) (v := 10000) (by decide +kernel)
theorem dX9_clearNamed_104 : decode cX9_clearNamed 104 = .ok (.iastore, 1) := dc_79 (by decide +kernel)
theorem dX9_clearNamed_105 : decode cX9_clearNamed 105 = .ok (.aload_n 0, 1) := dc_42 (by decide +kernel)
theorem dX9_clearNamed_106 : decode cX9_clearNamed 106 = .ok (.getfield 21, 3) := dc_180 (a := 0) (b := 21) (n := 21) (by decide +kernel)
theorem dX9_clearNamed_109 : decode cX9_clearNamed 109 = .ok (.sipush 267, 3) := dc_17 (a := 1) (b := 11) (v := 267) (by decide +kernel)
theorem dX9_clearNamed_112 : decode cX9_clearNamed 112 = .ok (.sipush 5000, 3) := dc_17 (a := 19) (b := 136) (v := 5000) (by decide +kernel)
theorem dX9_clearNamed_115 : decode cX9_clearNamed 115 = .ok (.iastore, 1) := dc_79 (by decide +kernel)
theorem dX9_clearNamed_116 : decode cX9_clearNamed 116 = .ok (.aload_n 0, 1) := dc_42 (by decide +kernel)
theorem dX9_clearNamed_117 : decode cX9_clearNamed 117 = .ok (.getfield 21, 3) := dc_180 (a := 0) (b := 21) (n := 21) (by decide +kernel)
theorem dX9_clearNamed_120 : decode cX9_clearNamed 120 = .ok (.sipush 525, 3) := dc_17 (a := 2) (b := 13) (v := 525) (by decide +kernel)
theorem dX9_clearNamed_123 : decode cX9_clearNamed 123 = .ok (.ldc 61, 2) := dc_18 (a := 61) (by decide +kernel)
theorem dX9_clearNamed_125 : decode cX9_clearNamed 125 = .ok (.iastore, 1) := dc_79 (by decide +kernel)
theorem dX9_clearNamed_126 : decode cX9_clearNamed 126 = .ok (.aload_n 0, 1) := dc_42 (by decide +kernel)
theorem dX9_clearNamed_127 : decode cX9_clearNamed 127 = .ok (.getfield 21, 3) := dc_180 (a := 0) (b := 21) (n := 21) (by decide +kernel)
theorem dX9_clearNamed_130 : decode cX9_clearNamed 130 = .ok (.sipush 526, 3) := dc_17 (a := 2) (b := 14) (v := 526) (by decide +kernel)
theorem dX9_clearNamed_133 : decode cX9_clearNamed 133 = .ok (.ldc 62, 2) := dc_18 (a := 62) (by decide +kernel)
theorem dX9_clearNamed_135 : decode cX9_clearNamed 135 = .ok (.iastore, 1) := dc_79 (by decide +kernel)
theorem dX9_clearNamed_136 : decode cX9_clearNamed 136 = .ok (.aload_n 0, 1) := dc_42 (by decide +kernel)
theorem dX9_clearNamed_137 : decode cX9_clearNamed 137 = .ok (.getfield 21, 3) := dc_180 (a := 0) (b := 21) (n := 21) (by decide +kernel)
theorem dX9_clearNamed_140 : decode cX9_clearNamed 140 = .ok (.sipush 527, 3) := dc_17 (a := 2) (b := 15) (v := 527) (by decide +kernel)
theorem dX9_clearNamed_143 : decode cX9_clearNamed 143 = .ok (.ldc 63, 2) := dc_18 (a := 63) (by decide +kernel)
theorem dX9_clearNamed_145 : decode cX9_clearNamed 145 = .ok (.iastore, 1) := dc_79 (by decide +kernel)
theorem dX9_clearNamed_146 : decode cX9_clearNamed 146 = .ok (.aload_n 0, 1) := dc_42 (by decide +kernel)
theorem dX9_clearNamed_147 : decode cX9_clearNamed 147 = .ok (.getfield 21, 3) := dc_180 (a := 0) (b := 21) (n := 21) (by decide +kernel)
theorem dX9_clearNamed_150 : decode cX9_clearNamed 150 = .ok (.sipush 529, 3) := dc_17 (a := 2) (b := 17) (v := 529) (by decide +kernel)
theorem dX9_clearNamed_153 : decode cX9_clearNamed 153 = .ok (.ldc 64, 2) := dc_18 (a := 64) (by decide +kernel)
theorem dX9_clearNamed_155 : decode cX9_clearNamed 155 = .ok (.iastore, 1) := dc_79 (by decide +kernel)
theorem dX9_clearNamed_156 : decode cX9_clearNamed 156 = .ok (.aload_n 0, 1) := dc_42 (by decide +kernel)
theorem dX9_clearNamed_157 : decode cX9_clearNamed 157 = .ok (.getfield 21, 3) := dc_180 (a := 0) (b := 21) (n := 21) (by decide +kernel)
theorem dX9_clearNamed_160 : decode cX9_clearNamed 160 = .ok (.sipush 1556, 3) := dc_17 (a := 6) (b := 20) (v := 1556) (by decide +kernel)
theorem dX9_clearNamed_163 : decode cX9_clearNamed 163 = .ok (.ldc 65, 2) := dc_18 (a := 65) (by decide +kernel)
theorem dX9_clearNamed_165 : decode cX9_clearNamed 165 = .ok (.iastore, 1) := dc_79 (by decide +kernel)
theorem dX9_clearNamed_166 : decode cX9_clearNamed 166 = .ok (.aload_n 0, 1) := dc_42 (by decide +kernel)
theorem dX9_clearNamed_167 : decode cX9_clearNamed 167 = .ok (.getfield 21, 3) := dc_180 (a := 0) (b := 21) (n := 21) (by decide +kernel)
theorem dX9_clearNamed_170 : decode cX9_clearNamed 170 = .ok (.sipush 1559, 3) := dc_17 (a := 6) (b := 23) (v := 1559) (by decide +kernel)
theorem dX9_clearNamed_173 : decode cX9_clearNamed 173 = .ok (.ldc 66, 2) := dc_18 (a := 66) (by decide +kernel)
theorem dX9_clearNamed_175 : decode cX9_clearNamed 175 = .ok (.iastore, 1) := dc_79 (by decide +kernel)
theorem dX9_clearNamed_176 : decode cX9_clearNamed 176 = .ok (.aload_n 0, 1) := dc_42 (by decide +kernel)
theorem dX9_clearNamed_177 : decode cX9_clearNamed 177 = .ok (.getfield 21, 3) := dc_180 (a := 0) (b := 21) (n := 21) (by decide +kernel)
theorem dX9_clearNamed_180 : decode cX9_clearNamed 180 = .ok (.sipush 1563, 3) := dc_17 (a := 6) (b := 27) (v := 1563) (by decide +kernel)
theorem dX9_clearNamed_183 : decode cX9_clearNamed 183 = .ok (.ldc 65, 2) := dc_18 (a := 65) (by decide +kernel)
theorem dX9_clearNamed_185 : decode cX9_clearNamed 185 = .ok (.iastore, 1) := dc_79 (by decide +kernel)
theorem dX9_clearNamed_186 : decode cX9_clearNamed 186 = .ok (.aload_n 0, 1) := dc_42 (by decide +kernel)
theorem dX9_clearNamed_187 : decode cX9_clearNamed 187 = .ok (.getfield 21, 3) := dc_180 (a := 0) (b := 21) (n := 21) (by decide +kernel)
theorem dX9_clearNamed_190 : decode cX9_clearNamed 190 = .ok (.sipush 1567, 3) := dc_17 (a := 6) (b := 31) (v := 1567) (by decide +kernel)
theorem dX9_clearNamed_193 : decode cX9_clearNamed 193 = .ok (.ldc 67, 2) := dc_18 (a := 67) (by decide +kernel)
theorem dX9_clearNamed_195 : decode cX9_clearNamed 195 = .ok (.iastore, 1) := dc_79 (by decide +kernel)
theorem dX9_clearNamed_196 : decode cX9_clearNamed 196 = .ok (.aload_n 0, 1) := dc_42 (by decide +kernel)
theorem dX9_clearNamed_197 : decode cX9_clearNamed 197 = .ok (.getfield 21, 3) := dc_180 (a := 0) (b := 21) (n := 21) (by decide +kernel)
theorem dX9_clearNamed_200 : decode cX9_clearNamed 200 = .ok (.sipush 1580, 3) := dc_17 (a := 6) (b := 44) (v := 1580) (by decide +kernel)
theorem dX9_clearNamed_203 : decode cX9_clearNamed 203 = .ok (.ldc 65, 2) := dc_18 (a := 65) (by decide +kernel)
theorem dX9_clearNamed_205 : decode cX9_clearNamed 205 = .ok (.iastore, 1) := dc_79 (by decide +kernel)
theorem dX9_clearNamed_206 : decode cX9_clearNamed 206 = .ok (.aload_n 0, 1) := dc_42 (by decide +kernel)
theorem dX9_clearNamed_207 : decode cX9_clearNamed 207 = .ok (.getfield 21, 3) := dc_180 (a := 0) (b := 21) (n := 21) (by decide +kernel)
theorem dX9_clearNamed_210 : decode cX9_clearNamed 210 = .ok (.sipush 1581, 3) := dc_17 (a := 6) (b := 45) (v := 1581) (by decide +kernel)
theorem dX9_clearNamed_213 : decode cX9_clearNamed 213 = .ok (.iconst 1, 1) := dc_4 (by decide +kernel)
theorem dX9_clearNamed_214 : decode cX9_clearNamed 214 = .ok (.iastore, 1) := dc_79 (by decide +kernel)
theorem dX9_clearNamed_215 : decode cX9_clearNamed 215 = .ok (.return_, 1) := dc_177 (by decide +kernel)
def fX9_clearNamed (this : Nat) (h : eH) : Option (Unit × eH) :=
  (g_A 8 h this 3).bind fun a1 =>
  (q_V 100 h a1 (256 : Int32) (.int (100 : Int32))).bind fun h3 =>
  (g_A 8 h3 this 3).bind fun a5 =>
  (q_V 100 h3 a5 (257 : Int32) (.int (200 : Int32))).bind fun h7 =>
  (g_A 8 h7 this 3).bind fun a9 =>
  (q_V 100 h7 a9 (258 : Int32) (.int (10 : Int32))).bind fun h11 =>
  (g_A 8 h11 this 3).bind fun a13 =>
  (q_V 100 h11 a13 (259 : Int32) (.int (50 : Int32))).bind fun h15 =>
  (g_A 8 h15 this 3).bind fun a17 =>
  (q_V 100 h15 a17 (260 : Int32) (.int (50 : Int32))).bind fun h19 =>
  (g_A 8 h19 this 3).bind fun a21 =>
  (q_V 100 h19 a21 (261 : Int32) (.int (150 : Int32))).bind fun h23 =>
  (g_A 8 h23 this 3).bind fun a25 =>
  (q_V 100 h23 a25 (262 : Int32) (.int (150 : Int32))).bind fun h27 =>
  (g_A 8 h27 this 3).bind fun a29 =>
  (q_V 100 h27 a29 (263 : Int32) (.int (100 : Int32))).bind fun h31 =>
  (g_A 8 h31 this 3).bind fun a33 =>
  (q_V 100 h31 a33 (265 : Int32) (.int (10000 : Int32))).bind fun h35 =>
  (g_A 8 h35 this 3).bind fun a37 =>
  (q_V 100 h35 a37 (266 : Int32) (.int (10000 : Int32))).bind fun h39 =>
  (g_A 8 h39 this 3).bind fun a41 =>
  (q_V 100 h39 a41 (267 : Int32) (.int (5000 : Int32))).bind fun h43 =>
  (g_A 8 h43 this 3).bind fun a45 =>
  (q_V 100 h43 a45 (525 : Int32) (.int (26214400 : Int32))).bind fun h47 =>
  (g_A 8 h47 this 3).bind fun a49 =>
  (q_V 100 h47 a49 (526 : Int32) (.int (39321600 : Int32))).bind fun h51 =>
  (g_A 8 h51 this 3).bind fun a53 =>
  (q_V 100 h51 a53 (527 : Int32) (.int (1310720 : Int32))).bind fun h55 =>
  (g_A 8 h55 this 3).bind fun a57 =>
  (q_V 100 h55 a57 (529 : Int32) (.int (262144 : Int32))).bind fun h59 =>
  (g_A 8 h59 this 3).bind fun a61 =>
  (q_V 100 h59 a61 (1556 : Int32) (.int (65536 : Int32))).bind fun h63 =>
  (g_A 8 h63 this 3).bind fun a65 =>
  (q_V 100 h63 a65 (1559 : Int32) (.int (786432 : Int32))).bind fun h67 =>
  (g_A 8 h67 this 3).bind fun a69 =>
  (q_V 100 h67 a69 (1563 : Int32) (.int (65536 : Int32))).bind fun h71 =>
  (g_A 8 h71 this 3).bind fun a73 =>
  (q_V 100 h71 a73 (1567 : Int32) (.int (655360 : Int32))).bind fun h75 =>
  (g_A 8 h75 this 3).bind fun a77 =>
  (q_V 100 h75 a77 (1580 : Int32) (.int (65536 : Int32))).bind fun h79 =>
  (g_A 8 h79 this 3).bind fun a81 =>
  (q_V 100 h79 a81 (1581 : Int32) (.int (1 : Int32))).bind fun h83 =>
  some ((), h83)
theorem pX9_clearNamed {w : eW} {d : Nat} (hd : 0 ≤ d) {this : Nat} {h : eH} {q} (hf : fX9_clearNamed this h = some q) : wm w d YX9_clearNamed [.ref this] h (e_is (e_rn c_V q)) := by
  show wp w d YX9_clearNamed 0 [some (.ref this)] [] h _
  unfold fX9_clearNamed at hf
  refine w_aload_n dX9_clearNamed_0 rfl rfl ?_
  obtain ⟨a1, b2, hf⟩ := Option.bind_eq_some_iff.mp hf
  refine GX9_21 b2 dX9_clearNamed_1 rfl ?_
  refine w_sipush dX9_clearNamed_4 (v := 256) (by decide) ?_
  refine w_bipush dX9_clearNamed_7 (v := 100) (by decide) ?_
  obtain ⟨h3, b4, hf⟩ := Option.bind_eq_some_iff.mp hf
  refine x_qI b4 dX9_clearNamed_9 ?_
  refine w_aload_n dX9_clearNamed_10 rfl rfl ?_
  obtain ⟨a5, b6, hf⟩ := Option.bind_eq_some_iff.mp hf
  refine GX9_21 b6 dX9_clearNamed_11 rfl ?_
  refine w_sipush dX9_clearNamed_14 (v := 257) (by decide) ?_
  refine w_sipush dX9_clearNamed_17 (v := 200) (by decide) ?_
  obtain ⟨h7, b8, hf⟩ := Option.bind_eq_some_iff.mp hf
  refine x_qI b8 dX9_clearNamed_20 ?_
  refine w_aload_n dX9_clearNamed_21 rfl rfl ?_
  obtain ⟨a9, b10, hf⟩ := Option.bind_eq_some_iff.mp hf
  refine GX9_21 b10 dX9_clearNamed_22 rfl ?_
  refine w_sipush dX9_clearNamed_25 (v := 258) (by decide) ?_
  refine w_bipush dX9_clearNamed_28 (v := 10) (by decide) ?_
  obtain ⟨h11, b12, hf⟩ := Option.bind_eq_some_iff.mp hf
  refine x_qI b12 dX9_clearNamed_30 ?_
  refine w_aload_n dX9_clearNamed_31 rfl rfl ?_
  obtain ⟨a13, b14, hf⟩ := Option.bind_eq_some_iff.mp hf
  refine GX9_21 b14 dX9_clearNamed_32 rfl ?_
  refine w_sipush dX9_clearNamed_35 (v := 259) (by decide) ?_
  refine w_bipush dX9_clearNamed_38 (v := 50) (by decide) ?_
  obtain ⟨h15, b16, hf⟩ := Option.bind_eq_some_iff.mp hf
  refine x_qI b16 dX9_clearNamed_40 ?_
  refine w_aload_n dX9_clearNamed_41 rfl rfl ?_
  obtain ⟨a17, b18, hf⟩ := Option.bind_eq_some_iff.mp hf
  refine GX9_21 b18 dX9_clearNamed_42 rfl ?_
  refine w_sipush dX9_clearNamed_45 (v := 260) (by decide) ?_
  refine w_bipush dX9_clearNamed_48 (v := 50) (by decide) ?_
  obtain ⟨h19, b20, hf⟩ := Option.bind_eq_some_iff.mp hf
  refine x_qI b20 dX9_clearNamed_50 ?_
  refine w_aload_n dX9_clearNamed_51 rfl rfl ?_
  obtain ⟨a21, b22, hf⟩ := Option.bind_eq_some_iff.mp hf
  refine GX9_21 b22 dX9_clearNamed_52 rfl ?_
  refine w_sipush dX9_clearNamed_55 (v := 261) (by decide) ?_
  refine w_sipush dX9_clearNamed_58 (v := 150) (by decide) ?_
  obtain ⟨h23, b24, hf⟩ := Option.bind_eq_some_iff.mp hf
  refine x_qI b24 dX9_clearNamed_61 ?_
  refine w_aload_n dX9_clearNamed_62 rfl rfl ?_
  obtain ⟨a25, b26, hf⟩ := Option.bind_eq_some_iff.mp hf
  refine GX9_21 b26 dX9_clearNamed_63 rfl ?_
  refine w_sipush dX9_clearNamed_66 (v := 262) (by decide) ?_
  refine w_sipush dX9_clearNamed_69 (v := 150) (by decide) ?_
  obtain ⟨h27, b28, hf⟩ := Option.bind_eq_some_iff.mp hf
  refine x_qI b28 dX9_clearNamed_72 ?_
  refine w_aload_n dX9_clearNamed_73 rfl rfl ?_
  obtain ⟨a29, b30, hf⟩ := Option.bind_eq_some_iff.mp hf
  refine GX9_21 b30 dX9_clearNamed_74 rfl ?_
  refine w_sipush dX9_clearNamed_77 (v := 263) (by decide) ?_
  refine w_bipush dX9_clearNamed_80 (v := 100) (by decide) ?_
  obtain ⟨h31, b32, hf⟩ := Option.bind_eq_some_iff.mp hf
  refine x_qI b32 dX9_clearNamed_82 ?_
  refine w_aload_n dX9_clearNamed_83 rfl rfl ?_
  obtain ⟨a33, b34, hf⟩ := Option.bind_eq_some_iff.mp hf
  refine GX9_21 b34 dX9_clearNamed_84 rfl ?_
  refine w_sipush dX9_clearNamed_87 (v := 265) (by decide) ?_
  refine w_sipush dX9_clearNamed_90 (v := 10000) (by decide) ?_
  obtain ⟨h35, b36, hf⟩ := Option.bind_eq_some_iff.mp hf
  refine x_qI b36 dX9_clearNamed_93 ?_
  refine w_aload_n dX9_clearNamed_94 rfl rfl ?_
  obtain ⟨a37, b38, hf⟩ := Option.bind_eq_some_iff.mp hf
  refine GX9_21 b38 dX9_clearNamed_95 rfl ?_
  refine w_sipush dX9_clearNamed_98 (v := 266) (by decide) ?_
  refine w_sipush dX9_clearNamed_101 (v := 10000) (by decide) ?_
  obtain ⟨h39, b40, hf⟩ := Option.bind_eq_some_iff.mp hf
  refine x_qI b40 dX9_clearNamed_104 ?_
  refine w_aload_n dX9_clearNamed_105 rfl rfl ?_
  obtain ⟨a41, b42, hf⟩ := Option.bind_eq_some_iff.mp hf
  refine GX9_21 b42 dX9_clearNamed_106 rfl ?_
  refine w_sipush dX9_clearNamed_109 (v := 267) (by decide) ?_
  refine w_sipush dX9_clearNamed_112 (v := 5000) (by decide) ?_
  obtain ⟨h43, b44, hf⟩ := Option.bind_eq_some_iff.mp hf
  refine x_qI b44 dX9_clearNamed_115 ?_
  refine w_aload_n dX9_clearNamed_116 rfl rfl ?_
  obtain ⟨a45, b46, hf⟩ := Option.bind_eq_some_iff.mp hf
  refine GX9_21 b46 dX9_clearNamed_117 rfl ?_
  refine w_sipush dX9_clearNamed_120 (v := 525) (by decide) ?_
  refine w_ldc dX9_clearNamed_123 q1933 ?_
  obtain ⟨h47, b48, hf⟩ := Option.bind_eq_some_iff.mp hf
  refine x_qI b48 dX9_clearNamed_125 ?_
  refine w_aload_n dX9_clearNamed_126 rfl rfl ?_
  obtain ⟨a49, b50, hf⟩ := Option.bind_eq_some_iff.mp hf
  refine GX9_21 b50 dX9_clearNamed_127 rfl ?_
  refine w_sipush dX9_clearNamed_130 (v := 526) (by decide) ?_
  refine w_ldc dX9_clearNamed_133 q1934 ?_
  obtain ⟨h51, b52, hf⟩ := Option.bind_eq_some_iff.mp hf
  refine x_qI b52 dX9_clearNamed_135 ?_
  refine w_aload_n dX9_clearNamed_136 rfl rfl ?_
  obtain ⟨a53, b54, hf⟩ := Option.bind_eq_some_iff.mp hf
  refine GX9_21 b54 dX9_clearNamed_137 rfl ?_
  refine w_sipush dX9_clearNamed_140 (v := 527) (by decide) ?_
  refine w_ldc dX9_clearNamed_143 q1935 ?_
  obtain ⟨h55, b56, hf⟩ := Option.bind_eq_some_iff.mp hf
  refine x_qI b56 dX9_clearNamed_145 ?_
  refine w_aload_n dX9_clearNamed_146 rfl rfl ?_
  obtain ⟨a57, b58, hf⟩ := Option.bind_eq_some_iff.mp hf
  refine GX9_21 b58 dX9_clearNamed_147 rfl ?_
  refine w_sipush dX9_clearNamed_150 (v := 529) (by decide) ?_
  refine w_ldc dX9_clearNamed_153 q1936 ?_
  obtain ⟨h59, b60, hf⟩ := Option.bind_eq_some_iff.mp hf
  refine x_qI b60 dX9_clearNamed_155 ?_
  refine w_aload_n dX9_clearNamed_156 rfl rfl ?_
  obtain ⟨a61, b62, hf⟩ := Option.bind_eq_some_iff.mp hf
  refine GX9_21 b62 dX9_clearNamed_157 rfl ?_
  refine w_sipush dX9_clearNamed_160 (v := 1556) (by decide) ?_
  refine w_ldc dX9_clearNamed_163 q1937 ?_
  obtain ⟨h63, b64, hf⟩ := Option.bind_eq_some_iff.mp hf
  refine x_qI b64 dX9_clearNamed_165 ?_
  refine w_aload_n dX9_clearNamed_166 rfl rfl ?_
  obtain ⟨a65, b66, hf⟩ := Option.bind_eq_some_iff.mp hf
  refine GX9_21 b66 dX9_clearNamed_167 rfl ?_
  refine w_sipush dX9_clearNamed_170 (v := 1559) (by decide) ?_
  refine w_ldc dX9_clearNamed_173 q1938 ?_
  obtain ⟨h67, b68, hf⟩ := Option.bind_eq_some_iff.mp hf
  refine x_qI b68 dX9_clearNamed_175 ?_
  refine w_aload_n dX9_clearNamed_176 rfl rfl ?_
  obtain ⟨a69, b70, hf⟩ := Option.bind_eq_some_iff.mp hf
  refine GX9_21 b70 dX9_clearNamed_177 rfl ?_
  refine w_sipush dX9_clearNamed_180 (v := 1563) (by decide) ?_
  refine w_ldc dX9_clearNamed_183 q1937 ?_
  obtain ⟨h71, b72, hf⟩ := Option.bind_eq_some_iff.mp hf
  refine x_qI b72 dX9_clearNamed_185 ?_
  refine w_aload_n dX9_clearNamed_186 rfl rfl ?_
  obtain ⟨a73, b74, hf⟩ := Option.bind_eq_some_iff.mp hf
  refine GX9_21 b74 dX9_clearNamed_187 rfl ?_
  refine w_sipush dX9_clearNamed_190 (v := 1567) (by decide) ?_
  refine w_ldc dX9_clearNamed_193 q1939 ?_
  obtain ⟨h75, b76, hf⟩ := Option.bind_eq_some_iff.mp hf
  refine x_qI b76 dX9_clearNamed_195 ?_
  refine w_aload_n dX9_clearNamed_196 rfl rfl ?_
  obtain ⟨a77, b78, hf⟩ := Option.bind_eq_some_iff.mp hf
  refine GX9_21 b78 dX9_clearNamed_197 rfl ?_
  refine w_sipush dX9_clearNamed_200 (v := 1580) (by decide) ?_
  refine w_ldc dX9_clearNamed_203 q1937 ?_
  obtain ⟨h79, b80, hf⟩ := Option.bind_eq_some_iff.mp hf
  refine x_qI b80 dX9_clearNamed_205 ?_
  refine w_aload_n dX9_clearNamed_206 rfl rfl ?_
  obtain ⟨a81, b82, hf⟩ := Option.bind_eq_some_iff.mp hf
  refine GX9_21 b82 dX9_clearNamed_207 rfl ?_
  refine w_sipush dX9_clearNamed_210 (v := 1581) (by decide) ?_
  refine w_iconst dX9_clearNamed_213 (v := 1) (by decide) ?_
  obtain ⟨h83, b84, hf⟩ := Option.bind_eq_some_iff.mp hf
  refine x_qI b84 dX9_clearNamed_214 ?_
  cases hf
  exact w_vret dX9_clearNamed_215 rfl rfl
abbrev cX9_clear : ByteArray := prog_28_method_2_code
def yX9_clear : MethodName := ⟨RX9, "clear", "()V"⟩
def YX9_clear : eY := (yX9_clear, cX9_clear, 2, none, [])
theorem mX9_clear : e_mv YX9_clear RX9 0 := ⟨q1920, qs4, q1921, by decide, by decide +kernel, (e_sig (by decide +kernel))⟩
theorem dX9_clear_0 : decode cX9_clear 0 = .ok (.aload_n 0, 1) := dc_42 (by decide +kernel)
theorem dX9_clear_1 : decode cX9_clear 1 = .ok (.getfield 9, 3) := dc_180 (a := 0) (b := 9) (n := 9) (by decide +kernel)
theorem dX9_clear_4 : decode cX9_clear 4 = .ok (.iconst 0, 1) := dc_3 (by decide +kernel)
theorem dX9_clear_5 : decode cX9_clear 5 = .ok (.invokestatic 42, 3) := dc_184 (a := 0) (b := 42) (n := 42) (by decide +kernel)
theorem dX9_clear_8 : decode cX9_clear 8 = .ok (.aload_n 0, 1) := dc_42 (by decide +kernel)
theorem dX9_clear_9 : decode cX9_clear 9 = .ok (.getfield 18, 3) := dc_180 (a := 0) (b := 18) (n := 18) (by decide +kernel)
theorem dX9_clear_12 : decode cX9_clear 12 = .ok (.iconst 0, 1) := dc_3 (by decide +kernel)
theorem dX9_clear_13 : decode cX9_clear 13 = .ok (.invokestatic 42, 3) := dc_184 (a := 0) (b := 42) (n := 42) (by decide +kernel)
theorem dX9_clear_16 : decode cX9_clear 16 = .ok (.aload_n 0, 1) := dc_42 (by decide +kernel)
theorem dX9_clear_17 : decode cX9_clear 17 = .ok (.getfield 21, 3) := dc_180 (a := 0) (b := 21) (n := 21) (by decide +kernel)
theorem dX9_clear_20 : decode cX9_clear 20 = .ok (.iconst 0, 1) := dc_3 (by decide +kernel)
theorem dX9_clear_21 : decode cX9_clear 21 = .ok (.invokestatic 42, 3) := dc_184 (a := 0) (b := 42) (n := 42) (by decide +kernel)
theorem dX9_clear_24 : decode cX9_clear 24 = .ok (.aload_n 0, 1) := dc_42 (by decide +kernel)
theorem dX9_clear_25 : decode cX9_clear 25 = .ok (.getfield 24, 3) := dc_180 (a := 0) (b := 24) (n := 24) (by decide +kernel)
theorem dX9_clear_28 : decode cX9_clear 28 = .ok (.iconst 0, 1) := dc_3 (by decide +kernel)
theorem dX9_clear_29 : decode cX9_clear 29 = .ok (.invokestatic 42, 3) := dc_184 (a := 0) (b := 42) (n := 42) (by decide +kernel)
theorem dX9_clear_32 : decode cX9_clear 32 = .ok (.iconst 0, 1) := dc_3 (by decide +kernel)
theorem dX9_clear_33 : decode cX9_clear 33 = .ok (.istore_n 1, 1) := dc_60 (by decide +kernel)
theorem dX9_clear_34 : decode cX9_clear 34 = .ok (.iload_n 1, 1) := dc_27 (by decide +kernel)
theorem dX9_clear_35 : decode cX9_clear 35 = .ok (.sipush 256, 3) := dc_17 (a := 1) (b := 0) (v := 256) (by decide +kernel)
theorem dX9_clear_38 : decode cX9_clear 38 = .ok (.if_icmp .ge 61, 3) := dc_162 (a := 0) (b := 61) (v := 61) (by decide +kernel)
theorem dX9_clear_41 : decode cX9_clear 41 = .ok (.aload_n 0, 1) := dc_42 (by decide +kernel)
theorem dX9_clear_42 : decode cX9_clear 42 = .ok (.getfield 21, 3) := dc_180 (a := 0) (b := 21) (n := 21) (by decide +kernel)
theorem dX9_clear_45 : decode cX9_clear 45 = .ok (.sipush 1583, 3) := dc_17 (a := 6) (b := 47) (v := 1583) (by decide +kernel)
theorem dX9_clear_48 : decode cX9_clear 48 = .ok (.iload_n 1, 1) := dc_27 (by decide +kernel)
theorem dX9_clear_49 : decode cX9_clear 49 = .ok (.iadd, 1) := dc_96 (by decide +kernel)
theorem dX9_clear_50 : decode cX9_clear 50 = .ok (.iconst (-1), 1) := dc_2 (by decide +kernel)
theorem dX9_clear_51 : decode cX9_clear 51 = .ok (.iastore, 1) := dc_79 (by decide +kernel)
theorem dX9_clear_52 : decode cX9_clear 52 = .ok (.aload_n 0, 1) := dc_42 (by decide +kernel)
theorem dX9_clear_53 : decode cX9_clear 53 = .ok (.getfield 21, 3) := dc_180 (a := 0) (b := 21) (n := 21) (by decide +kernel)
theorem dX9_clear_56 : decode cX9_clear 56 = .ok (.sipush 1839, 3) := dc_17 (a := 7) (b := 47) (v := 1839) (by decide +kernel)
theorem dX9_clear_59 : decode cX9_clear 59 = .ok (.iload_n 1, 1) := dc_27 (by decide +kernel)
theorem dX9_clear_60 : decode cX9_clear 60 = .ok (.iadd, 1) := dc_96 (by decide +kernel)
theorem dX9_clear_61 : decode cX9_clear 61 = .ok (.iload_n 1, 1) := dc_27 (by decide +kernel)
theorem dX9_clear_62 : decode cX9_clear 62 = .ok (.bipush 97, 2) := dc_16 (a := 97) (v := 97) (by decide +kernel)
theorem dX9_clear_64 : decode cX9_clear 64 = .ok (.if_icmp .lt 9, 3) := dc_161 (a := 0) (b := 9) (v := 9) (by decide +kernel)
theorem dX9_clear_67 : decode cX9_clear 67 = .ok (.iload_n 1, 1) := dc_27 (by decide +kernel)
theorem dX9_clear_68 : decode cX9_clear 68 = .ok (.bipush 122, 2) := dc_16 (a := 122) (v := 122) (by decide +kernel)
theorem dX9_clear_70 : decode cX9_clear 70 = .ok (.if_icmp .le 15, 3) := dc_164 (a := 0) (b := 15) (v := 15) (by decide +kernel)
theorem dX9_clear_73 : decode cX9_clear 73 = .ok (.iload_n 1, 1) := dc_27 (by decide +kernel)
theorem dX9_clear_74 : decode cX9_clear 74 = .ok (.bipush 65, 2) := dc_16 (a := 65) (v := 65) (by decide +kernel)
theorem dX9_clear_76 : decode cX9_clear 76 = .ok (.if_icmp .lt 14, 3) := dc_161 (a := 0) (b := 14) (v := 14) (by decide +kernel)
theorem dX9_clear_79 : decode cX9_clear 79 = .ok (.iload_n 1, 1) := dc_27 (by decide +kernel)
theorem dX9_clear_80 : decode cX9_clear 80 = .ok (.bipush 90, 2) := dc_16 (a := 90) (v := 90) (by decide +kernel)
theorem dX9_clear_82 : decode cX9_clear 82 = .ok (.if_icmp .gt 8, 3) := dc_163 (a := 0) (b := 8) (v := 8) (by decide +kernel)
theorem dX9_clear_85 : decode cX9_clear 85 = .ok (.bipush 11, 2) := dc_16 (a := 11) (v := 11) (by decide +kernel)
theorem dX9_clear_87 : decode cX9_clear 87 = .ok (.goto 5, 3) := dc_167 (a := 0) (b := 5) (v := 5) (by decide +kernel)
theorem dX9_clear_90 : decode cX9_clear 90 = .ok (.bipush 12, 2) := dc_16 (a := 12) (v := 12) (by decide +kernel)
theorem dX9_clear_92 : decode cX9_clear 92 = .ok (.iastore, 1) := dc_79 (by decide +kernel)
theorem dX9_clear_93 : decode cX9_clear 93 = .ok (.iinc 1 1, 3) := dc_132 (a := 1) (b := 1) (v := 1) (by decide +kernel)
theorem dX9_clear_96 : decode cX9_clear 96 = .ok (.goto (-62), 3) := dc_167 (a := 255) (b := 194) (v := -62) (by decide +kernel)
theorem dX9_clear_99 : decode cX9_clear 99 = .ok (.aload_n 0, 1) := dc_42 (by decide +kernel)
theorem dX9_clear_100 : decode cX9_clear 100 = .ok (.invokevirtual 48, 3) := dc_182 (a := 0) (b := 48) (n := 48) (by decide +kernel)
theorem dX9_clear_103 : decode cX9_clear 103 = .ok (.aload_n 0, 1) := dc_42 (by decide +kernel)
theorem dX9_clear_104 : decode cX9_clear 104 = .ok (.invokevirtual 51, 3) := dc_182 (a := 0) (b := 51) (n := 51) (by decide +kernel)
theorem dX9_clear_107 : decode cX9_clear 107 = .ok (.aload_n 0, 1) := dc_42 (by decide +kernel)
theorem dX9_clear_108 : decode cX9_clear 108 = .ok (.getfield 21, 3) := dc_180 (a := 0) (b := 21) (n := 21) (by decide +kernel)
theorem dX9_clear_111 : decode cX9_clear 111 = .ok (.sipush 2095, 3) := dc_17 (a := 8) (b := 47) (v := 2095) (by decide +kernel)
theorem dX9_clear_114 : decode cX9_clear 114 = .ok (.iconst (-1), 1) := dc_2 (by decide +kernel)
theorem dX9_clear_115 : decode cX9_clear 115 = .ok (.iastore, 1) := dc_79 (by decide +kernel)
theorem dX9_clear_116 : decode cX9_clear 116 = .ok (.aload_n 0, 1) := dc_42 (by decide +kernel)
theorem dX9_clear_117 : decode cX9_clear 117 = .ok (.iconst 0, 1) := dc_3 (by decide +kernel)
theorem dX9_clear_118 : decode cX9_clear 118 = .ok (.putfield 54, 3) := dc_181 (a := 0) (b := 54) (n := 54) (by decide +kernel)
theorem dX9_clear_121 : decode cX9_clear 121 = .ok (.aload_n 0, 1) := dc_42 (by decide +kernel)
theorem dX9_clear_122 : decode cX9_clear 122 = .ok (.iconst 0, 1) := dc_3 (by decide +kernel)
theorem dX9_clear_123 : decode cX9_clear 123 = .ok (.putfield 58, 3) := dc_181 (a := 0) (b := 58) (n := 58) (by decide +kernel)
theorem dX9_clear_126 : decode cX9_clear 126 = .ok (.return_, 1) := dc_177 (by decide +kernel)
theorem GX9_18 {w : eW} {d : Nat} {Y : eY} {pc : Nat} {ls : eL} {st : List Value} {h : eH} {Q : eO → eH → Prop} {a : Nat} {x : Nat} (hf : g_A 8 h a 2 = some x) (hd : decode Y.2.1 pc = .ok (.getfield 18, 3)) (hY : Y.1.cls = RX9) (kk : wp w d Y (pc + 3) ls (.ref x :: st) h Q) : wp w d Y pc ls (.ref a :: st) h Q := x_gA (ci := 8) (k := 2) hf hd rfl (by decide) (by rw [hY]; exact q654) kk
theorem GX9_24 {w : eW} {d : Nat} {Y : eY} {pc : Nat} {ls : eL} {st : List Value} {h : eH} {Q : eO → eH → Prop} {a : Nat} {x : Nat} (hf : g_A 8 h a 4 = some x) (hd : decode Y.2.1 pc = .ok (.getfield 24, 3)) (hY : Y.1.cls = RX9) (kk : wp w d Y (pc + 3) ls (.ref x :: st) h Q) : wp w d Y pc ls (.ref a :: st) h Q := x_gA (ci := 8) (k := 4) hf hd rfl (by decide) (by rw [hY]; exact q659) kk
theorem GX9_9 {w : eW} {d : Nat} {Y : eY} {pc : Nat} {ls : eL} {st : List Value} {h : eH} {Q : eO → eH → Prop} {a : Nat} {x : Nat} (hf : g_A 8 h a 0 = some x) (hd : decode Y.2.1 pc = .ok (.getfield 9, 3)) (hY : Y.1.cls = RX9) (kk : wp w d Y (pc + 3) ls (.ref x :: st) h Q) : wp w d Y pc ls (.ref a :: st) h Q := x_gA (ci := 8) (k := 0) hf hd rfl (by decide) (by rw [hY]; exact q650) kk
theorem SX9_54 {w : eW} {d : Nat} {Y : eY} {pc : Nat} {ls : eL} {st : List Value} {h : eH} {Q : eO → eH → Prop} {a : Nat} {h' : eH} {x : Int32} (hf : p_V 8 h a 6 (.int x) = some h') (hd : decode Y.2.1 pc = .ok (.putfield 54, 3)) (hY : Y.1.cls = RX9) (kk : wp w d Y (pc + 3) ls st h' Q) : wp w d Y pc ls (.int x :: .ref a :: st) h Q := x_pI (ci := 8) (k := 6) hf hd rfl (by decide) (by rw [hY]; exact q661) rfl rfl kk
theorem SX9_58 {w : eW} {d : Nat} {Y : eY} {pc : Nat} {ls : eL} {st : List Value} {h : eH} {Q : eO → eH → Prop} {a : Nat} {h' : eH} {x : Int32} (hf : p_V 8 h a 11 (.int x) = some h') (hd : decode Y.2.1 pc = .ok (.putfield 58, 3)) (hY : Y.1.cls = RX9) (kk : wp w d Y (pc + 3) ls st h' Q) : wp w d Y pc ls (.int x :: .ref a :: st) h Q := x_pI (ci := 8) (k := 11) hf hd rfl (by decide) (by rw [hY]; exact q667) rfl rfl kk
def fX9_clear_b92 (N : Nat) (k34 : Nat → Int32 → eH → Option (Unit × eH)) (l0 : Nat) (l1 : Int32) (s0 : Nat) (s1 : Int32) (s2 : Int32) (h : eH) : Option (Unit × eH) :=
  (q_V 100 h s0 s1 (.int s2)).bind fun h1 =>
  k34 l0 (l1 + (1 : Int32)) h1
theorem pX9_clear_b92 {w : eW} {d : Nat} (hd : 1 ≤ d + 1) {N : Nat} {k34 : Nat → Int32 → eH → Option (Unit × eH)} (hk34 : ∀ l0 l1 h q, k34 l0 l1 h = some q → wp w (d + 1) YX9_clear 34 [some (.ref l0), some (.int l1)] [] h (e_is (e_rn c_V q))) {l0 : Nat} {l1 : Int32} {s0 : Nat} {s1 : Int32} {s2 : Int32} {h : eH} {q} (hf : fX9_clear_b92 N k34 l0 l1 s0 s1 s2 h = some q) : wp w (d + 1) YX9_clear 92 [some (.ref l0), some (.int l1)] [.int s2, .int s1, .ref s0] h (e_is (e_rn c_V q)) := by
  unfold fX9_clear_b92 at hf
  obtain ⟨h1, b2, hf⟩ := Option.bind_eq_some_iff.mp hf
  refine x_qI b2 dX9_clear_92 ?_
  refine w_iinc dX9_clear_93 (v := (l1 + (1 : Int32))) rfl rfl (by decide) (ls' := [some (.ref l0), some (.int (l1 + (1 : Int32)))]) rfl ?_
  refine w_goto 34 dX9_clear_96 (by decide) ?_
  exact (hk34 _ _ _ _ hf).to ⟨rfl, rfl, trivial⟩
def fX9_clear_b85 (N : Nat) (k34 : Nat → Int32 → eH → Option (Unit × eH)) (l0 : Nat) (l1 : Int32) (s0 : Nat) (s1 : Int32) (h : eH) : Option (Unit × eH) :=
  fX9_clear_b92 N k34 l0 l1 s0 s1 (11 : Int32) h
theorem pX9_clear_b85 {w : eW} {d : Nat} (hd : 1 ≤ d + 1) {N : Nat} {k34 : Nat → Int32 → eH → Option (Unit × eH)} (hk34 : ∀ l0 l1 h q, k34 l0 l1 h = some q → wp w (d + 1) YX9_clear 34 [some (.ref l0), some (.int l1)] [] h (e_is (e_rn c_V q))) {l0 : Nat} {l1 : Int32} {s0 : Nat} {s1 : Int32} {h : eH} {q} (hf : fX9_clear_b85 N k34 l0 l1 s0 s1 h = some q) : wp w (d + 1) YX9_clear 85 [some (.ref l0), some (.int l1)] [.int s1, .ref s0] h (e_is (e_rn c_V q)) := by
  unfold fX9_clear_b85 at hf
  refine w_bipush dX9_clear_85 (v := 11) (by decide) ?_
  refine w_goto 92 dX9_clear_87 (by decide) ?_
  exact (pX9_clear_b92 hd hk34 hf).to ⟨rfl, rfl, trivial⟩
def fX9_clear_b90 (N : Nat) (k34 : Nat → Int32 → eH → Option (Unit × eH)) (l0 : Nat) (l1 : Int32) (s0 : Nat) (s1 : Int32) (h : eH) : Option (Unit × eH) :=
  fX9_clear_b92 N k34 l0 l1 s0 s1 (12 : Int32) h
theorem pX9_clear_b90 {w : eW} {d : Nat} (hd : 1 ≤ d + 1) {N : Nat} {k34 : Nat → Int32 → eH → Option (Unit × eH)} (hk34 : ∀ l0 l1 h q, k34 l0 l1 h = some q → wp w (d + 1) YX9_clear 34 [some (.ref l0), some (.int l1)] [] h (e_is (e_rn c_V q))) {l0 : Nat} {l1 : Int32} {s0 : Nat} {s1 : Int32} {h : eH} {q} (hf : fX9_clear_b90 N k34 l0 l1 s0 s1 h = some q) : wp w (d + 1) YX9_clear 90 [some (.ref l0), some (.int l1)] [.int s1, .ref s0] h (e_is (e_rn c_V q)) := by
  unfold fX9_clear_b90 at hf
  refine w_bipush dX9_clear_90 (v := 12) (by decide) ?_
  exact (pX9_clear_b92 hd hk34 hf).to ⟨rfl, rfl, trivial⟩
def fX9_clear_b73 (N : Nat) (k34 : Nat → Int32 → eH → Option (Unit × eH)) (l0 : Nat) (l1 : Int32) (s0 : Nat) (s1 : Int32) (h : eH) : Option (Unit × eH) :=
  if l1 < (65 : Int32) then
    fX9_clear_b90 N k34 l0 l1 s0 s1 h
  else
    if (90 : Int32) < l1 then
      fX9_clear_b90 N k34 l0 l1 s0 s1 h
    else
      fX9_clear_b85 N k34 l0 l1 s0 s1 h
theorem pX9_clear_b73 {w : eW} {d : Nat} (hd : 1 ≤ d + 1) {N : Nat} {k34 : Nat → Int32 → eH → Option (Unit × eH)} (hk34 : ∀ l0 l1 h q, k34 l0 l1 h = some q → wp w (d + 1) YX9_clear 34 [some (.ref l0), some (.int l1)] [] h (e_is (e_rn c_V q))) {l0 : Nat} {l1 : Int32} {s0 : Nat} {s1 : Int32} {h : eH} {q} (hf : fX9_clear_b73 N k34 l0 l1 s0 s1 h = some q) : wp w (d + 1) YX9_clear 73 [some (.ref l0), some (.int l1)] [.int s1, .ref s0] h (e_is (e_rn c_V q)) := by
  unfold fX9_clear_b73 at hf
  refine w_iload_n dX9_clear_73 rfl rfl ?_
  refine w_bipush dX9_clear_74 (v := 65) (by decide) ?_
  refine w_icmp_lt 90 dX9_clear_76 (by decide) (fun c1 => ?_) (fun c1 => ?_)
  · replace hf := (if_pos (show l1 < (65 : Int32) from c1)).symm.trans hf
    exact (pX9_clear_b90 hd hk34 hf).to ⟨rfl, rfl, trivial⟩
  · replace hf := (if_neg (show ¬ (l1 < (65 : Int32)) from c1)).symm.trans hf
    refine w_iload_n dX9_clear_79 rfl rfl ?_
    refine w_bipush dX9_clear_80 (v := 90) (by decide) ?_
    refine w_icmp_gt 90 dX9_clear_82 (by decide) (fun c2 => ?_) (fun c2 => ?_)
    · replace hf := (if_pos (show (90 : Int32) < l1 from c2)).symm.trans hf
      exact (pX9_clear_b90 hd hk34 hf).to ⟨rfl, rfl, trivial⟩
    · replace hf := (if_neg (show ¬ ((90 : Int32) < l1) from c2)).symm.trans hf
      exact (pX9_clear_b85 hd hk34 hf).to ⟨rfl, rfl, trivial⟩
def fX9_clear_b34 (N : Nat) : Nat → Nat → Int32 → eH → Option (Unit × eH)
  | 0, _, _, _ => none
  | n + 1, l0, l1, h =>
    if (256 : Int32) ≤ l1 then
      (k_ok 8 h l0).bind fun _ =>
      (fX9_clearCategories l0 h).bind fun q3 =>
      (k_ok 8 q3.2 l0).bind fun _ =>
      (fX9_clearNamed l0 q3.2).bind fun q5 =>
      (g_A 8 q5.2 l0 3).bind fun a6 =>
      (q_V 100 q5.2 a6 (2095 : Int32) (.int (-1 : Int32))).bind fun h8 =>
      (p_V 8 h8 l0 6 (.int (0 : Int32))).bind fun h10 =>
      (p_V 8 h10 l0 11 (.int (0 : Int32))).bind fun h12 =>
      some ((), h12)
    else
      (g_A 8 h l0 3).bind fun a14 =>
      (q_V 100 h a14 ((1583 : Int32) + l1) (.int (-1 : Int32))).bind fun h16 =>
      (g_A 8 h16 l0 3).bind fun a18 =>
      if l1 < (97 : Int32) then
        fX9_clear_b73 N (fX9_clear_b34 N n) l0 l1 a18 ((1839 : Int32) + l1) h16
      else
        if l1 ≤ (122 : Int32) then
          fX9_clear_b85 N (fX9_clear_b34 N n) l0 l1 a18 ((1839 : Int32) + l1) h16
        else
          fX9_clear_b73 N (fX9_clear_b34 N n) l0 l1 a18 ((1839 : Int32) + l1) h16
theorem pX9_clear_b34 {w : eW} {d : Nat} (hd : 1 ≤ d + 1) {N : Nat} : ∀ (n : Nat) l0 l1 h q, fX9_clear_b34 N n l0 l1 h = some q → wp w (d + 1) YX9_clear 34 [some (.ref l0), some (.int l1)] [] h (e_is (e_rn c_V q)) := by
  intro n
  induction n with
  | zero => intro l0 l1 h q hf; simp [fX9_clear_b34] at hf
  | succ n ih =>
    intro l0 l1 h q hf
    rw [fX9_clear_b34] at hf
    refine w_iload_n dX9_clear_34 rfl rfl ?_
    refine w_sipush dX9_clear_35 (v := 256) (by decide) ?_
    refine w_icmp_ge 99 dX9_clear_38 (by decide) (fun c1 => ?_) (fun c1 => ?_)
    · replace hf := (if_pos (show (256 : Int32) ≤ l1 from c1)).symm.trans hf
      refine w_aload_n dX9_clear_99 rfl rfl ?_
      obtain ⟨_, b2, hf⟩ := Option.bind_eq_some_iff.mp hf
      refine x_cnV hf (e_stV (Yc := YX9_clearCategories) (ci := 8) (av := []) (st := []) dX9_clear_100 q1925 mX9_clearCategories rfl (k_ok_some b2).1 (k_ok_some b2).2) mX9_clearCategories.2.2.1 mX9_clearCategories.2.2.2.2.1 (Nat.le_of_ble_eq_true rfl) (Nat.le_of_ble_eq_true rfl) (fun q hq => pX9_clearCategories (by omega) hq) (fun q3 hf => ?_)
      refine w_aload_n dX9_clear_103 rfl rfl ?_
      obtain ⟨_, b4, hf⟩ := Option.bind_eq_some_iff.mp hf
      refine x_cnV hf (e_stV (Yc := YX9_clearNamed) (ci := 8) (av := []) (st := []) dX9_clear_104 q1929 mX9_clearNamed rfl (k_ok_some b4).1 (k_ok_some b4).2) mX9_clearNamed.2.2.1 mX9_clearNamed.2.2.2.2.1 (Nat.le_of_ble_eq_true rfl) (Nat.le_of_ble_eq_true rfl) (fun q hq => pX9_clearNamed (by omega) hq) (fun q5 hf => ?_)
      refine w_aload_n dX9_clear_107 rfl rfl ?_
      obtain ⟨a6, b7, hf⟩ := Option.bind_eq_some_iff.mp hf
      refine GX9_21 b7 dX9_clear_108 rfl ?_
      refine w_sipush dX9_clear_111 (v := 2095) (by decide) ?_
      refine w_iconst dX9_clear_114 (v := -1) (by decide) ?_
      obtain ⟨h8, b9, hf⟩ := Option.bind_eq_some_iff.mp hf
      refine x_qI b9 dX9_clear_115 ?_
      refine w_aload_n dX9_clear_116 rfl rfl ?_
      refine w_iconst dX9_clear_117 (v := 0) (by decide) ?_
      obtain ⟨h10, b11, hf⟩ := Option.bind_eq_some_iff.mp hf
      refine SX9_54 b11 dX9_clear_118 rfl ?_
      refine w_aload_n dX9_clear_121 rfl rfl ?_
      refine w_iconst dX9_clear_122 (v := 0) (by decide) ?_
      obtain ⟨h12, b13, hf⟩ := Option.bind_eq_some_iff.mp hf
      refine SX9_58 b13 dX9_clear_123 rfl ?_
      cases hf
      exact w_vret dX9_clear_126 rfl rfl
    · replace hf := (if_neg (show ¬ ((256 : Int32) ≤ l1) from c1)).symm.trans hf
      refine w_aload_n dX9_clear_41 rfl rfl ?_
      obtain ⟨a14, b15, hf⟩ := Option.bind_eq_some_iff.mp hf
      refine GX9_21 b15 dX9_clear_42 rfl ?_
      refine w_sipush dX9_clear_45 (v := 1583) (by decide) ?_
      refine w_iload_n dX9_clear_48 rfl rfl ?_
      refine w_iadd dX9_clear_49 ?_
      refine w_iconst dX9_clear_50 (v := -1) (by decide) ?_
      obtain ⟨h16, b17, hf⟩ := Option.bind_eq_some_iff.mp hf
      refine x_qI b17 dX9_clear_51 ?_
      refine w_aload_n dX9_clear_52 rfl rfl ?_
      obtain ⟨a18, b19, hf⟩ := Option.bind_eq_some_iff.mp hf
      refine GX9_21 b19 dX9_clear_53 rfl ?_
      refine w_sipush dX9_clear_56 (v := 1839) (by decide) ?_
      refine w_iload_n dX9_clear_59 rfl rfl ?_
      refine w_iadd dX9_clear_60 ?_
      refine w_iload_n dX9_clear_61 rfl rfl ?_
      refine w_bipush dX9_clear_62 (v := 97) (by decide) ?_
      refine w_icmp_lt 73 dX9_clear_64 (by decide) (fun c20 => ?_) (fun c20 => ?_)
      · replace hf := (if_pos (show l1 < (97 : Int32) from c20)).symm.trans hf
        exact (pX9_clear_b73 hd ih hf).to ⟨rfl, rfl, trivial⟩
      · replace hf := (if_neg (show ¬ (l1 < (97 : Int32)) from c20)).symm.trans hf
        refine w_iload_n dX9_clear_67 rfl rfl ?_
        refine w_bipush dX9_clear_68 (v := 122) (by decide) ?_
        refine w_icmp_le 85 dX9_clear_70 (by decide) (fun c21 => ?_) (fun c21 => ?_)
        · replace hf := (if_pos (show l1 ≤ (122 : Int32) from c21)).symm.trans hf
          exact (pX9_clear_b85 hd ih hf).to ⟨rfl, rfl, trivial⟩
        · replace hf := (if_neg (show ¬ (l1 ≤ (122 : Int32)) from c21)).symm.trans hf
          exact (pX9_clear_b73 hd ih hf).to ⟨rfl, rfl, trivial⟩
def fX9_clear (N : Nat) (this : Nat) (h : eH) : Option (Unit × eH) :=
  (g_A 8 h this 0).bind fun a1 =>
  (fJ0_fill N a1 (0 : Int32) h).bind fun q3 =>
  (g_A 8 q3.2 this 2).bind fun a4 =>
  (fJ0_fill N a4 (0 : Int32) q3.2).bind fun q6 =>
  (g_A 8 q6.2 this 3).bind fun a7 =>
  (fJ0_fill N a7 (0 : Int32) q6.2).bind fun q9 =>
  (g_A 8 q9.2 this 4).bind fun a10 =>
  (fJ0_fill N a10 (0 : Int32) q9.2).bind fun q12 =>
  fX9_clear_b34 N N this (0 : Int32) q12.2
theorem pX9_clear {w : eW} {d : Nat} (hd : 1 ≤ d) {N : Nat} {this : Nat} {h : eH} {q} (hf : fX9_clear N this h = some q) : wm w d YX9_clear [.ref this] h (e_is (e_rn c_V q)) := by
  obtain ⟨d, rfl⟩ : ∃ e, d = e + 1 := ⟨d - 1, by omega⟩
  show wp w (d + 1) YX9_clear 0 [some (.ref this), none] [] h _
  unfold fX9_clear at hf
  refine w_aload_n dX9_clear_0 rfl rfl ?_
  obtain ⟨a1, b2, hf⟩ := Option.bind_eq_some_iff.mp hf
  refine GX9_9 b2 dX9_clear_1 rfl ?_
  refine w_iconst dX9_clear_4 (v := 0) (by decide) ?_
  refine x_cnV hf (e_stS (Yc := YJ0_fill) (av := [.ref a1, .int (0 : Int32)]) (st := []) dX9_clear_5 q1922 mJ0_fill) mJ0_fill.2.2.1 mJ0_fill.2.2.2.2.1 (Nat.le_of_ble_eq_true rfl) (Nat.le_of_ble_eq_true rfl) (fun q hq => pJ0_fill (by omega) hq) (fun q3 hf => ?_)
  refine w_aload_n dX9_clear_8 rfl rfl ?_
  obtain ⟨a4, b5, hf⟩ := Option.bind_eq_some_iff.mp hf
  refine GX9_18 b5 dX9_clear_9 rfl ?_
  refine w_iconst dX9_clear_12 (v := 0) (by decide) ?_
  refine x_cnV hf (e_stS (Yc := YJ0_fill) (av := [.ref a4, .int (0 : Int32)]) (st := []) dX9_clear_13 q1922 mJ0_fill) mJ0_fill.2.2.1 mJ0_fill.2.2.2.2.1 (Nat.le_of_ble_eq_true rfl) (Nat.le_of_ble_eq_true rfl) (fun q hq => pJ0_fill (by omega) hq) (fun q6 hf => ?_)
  refine w_aload_n dX9_clear_16 rfl rfl ?_
  obtain ⟨a7, b8, hf⟩ := Option.bind_eq_some_iff.mp hf
  refine GX9_21 b8 dX9_clear_17 rfl ?_
  refine w_iconst dX9_clear_20 (v := 0) (by decide) ?_
  refine x_cnV hf (e_stS (Yc := YJ0_fill) (av := [.ref a7, .int (0 : Int32)]) (st := []) dX9_clear_21 q1922 mJ0_fill) mJ0_fill.2.2.1 mJ0_fill.2.2.2.2.1 (Nat.le_of_ble_eq_true rfl) (Nat.le_of_ble_eq_true rfl) (fun q hq => pJ0_fill (by omega) hq) (fun q9 hf => ?_)
  refine w_aload_n dX9_clear_24 rfl rfl ?_
  obtain ⟨a10, b11, hf⟩ := Option.bind_eq_some_iff.mp hf
  refine GX9_24 b11 dX9_clear_25 rfl ?_
  refine w_iconst dX9_clear_28 (v := 0) (by decide) ?_
  refine x_cnV hf (e_stS (Yc := YJ0_fill) (av := [.ref a10, .int (0 : Int32)]) (st := []) dX9_clear_29 q1922 mJ0_fill) mJ0_fill.2.2.1 mJ0_fill.2.2.2.2.1 (Nat.le_of_ble_eq_true rfl) (Nat.le_of_ble_eq_true rfl) (fun q hq => pJ0_fill (by omega) hq) (fun q12 hf => ?_)
  refine w_iconst dX9_clear_32 (v := 0) (by decide) ?_
  refine w_istore_n dX9_clear_33 rfl (by decide) (ls' := [some (.ref this), some (.int (0 : Int32))]) rfl ?_
  exact (pX9_clear_b34 hd N _ _ _ _ hf).to ⟨rfl, rfl, trivial⟩
abbrev cX10_open : ByteArray := prog_17_method_3_code
def yX10_open : MethodName := ⟨RX10, "open", "()V"⟩
def YX10_open : eY := (yX10_open, cX10_open, 1, none, [])
theorem mX10_open : e_mv YX10_open RX10 0 := ⟨q1946, q1947, q1948, by decide, by decide +kernel, (e_sig (by decide +kernel))⟩
theorem dX10_open_0 : decode cX10_open 0 = .ok (.aload_n 0, 1) := dc_42 (by decide +kernel)
theorem dX10_open_1 : decode cX10_open 1 = .ok (.iconst 0, 1) := dc_3 (by decide +kernel)
theorem dX10_open_2 : decode cX10_open 2 = .ok (.putfield 39, 3) := dc_181 (a := 0) (b := 39) (n := 39) (by decide +kernel)
theorem dX10_open_5 : decode cX10_open 5 = .ok (.return_, 1) := dc_177 (by decide +kernel)
theorem SX10_39 {w : eW} {d : Nat} {Y : eY} {pc : Nat} {ls : eL} {st : List Value} {h : eH} {Q : eO → eH → Prop} {a : Nat} {h' : eH} {x : Int32} (hf : p_V 9 h a 8 (.int x) = some h') (hd : decode Y.2.1 pc = .ok (.putfield 39, 3)) (hY : Y.1.cls = RX10) (kk : wp w d Y (pc + 3) ls st h' Q) : wp w d Y pc ls (.int x :: .ref a :: st) h Q := x_pI (ci := 9) (k := 8) hf hd rfl (by decide) (by rw [hY]; exact q710) rfl rfl kk
def fX10_open (this : Nat) (h : eH) : Option (Unit × eH) :=
  (p_V 9 h this 8 (.int (0 : Int32))).bind fun h1 =>
  some ((), h1)
theorem pX10_open {w : eW} {d : Nat} (hd : 0 ≤ d) {this : Nat} {h : eH} {q} (hf : fX10_open this h = some q) : wm w d YX10_open [.ref this] h (e_is (e_rn c_V q)) := by
  show wp w d YX10_open 0 [some (.ref this)] [] h _
  unfold fX10_open at hf
  refine w_aload_n dX10_open_0 rfl rfl ?_
  refine w_iconst dX10_open_1 (v := 0) (by decide) ?_
  obtain ⟨h1, b2, hf⟩ := Option.bind_eq_some_iff.mp hf
  refine SX10_39 b2 dX10_open_2 rfl ?_
  cases hf
  exact w_vret dX10_open_5 rfl rfl
