set_option maxRecDepth 100000
set_option maxHeartbeats 4000000
theorem q4138 : (Jvm.Cond.fieldLink "TypeHouseModel$Hyphens" (102 : Nat) "TypeHouseModel$Hyphens" "patterns" "I") ∈ lw_all := lw_g (lw_at lw_m16 113 rfl) rfl
theorem q4145 : (Jvm.Cond.fieldLink "TypeHouseModel$Hyphens" (125 : Nat) "TypeHouseModel$Hyphens" "told" "I") ∈ lw_all := lw_g (lw_at lw_m16 120 rfl) rfl
theorem q4156 : (Jvm.Cond.fieldLink "TypeHouseModel$Hyphens" (139 : Nat) "TypeHouseModel$Hyphens" "wordSize" "I") ∈ lw_all := lw_g (lw_at lw_m16 131 rfl) rfl
theorem q4159 : (Jvm.Cond.fieldLink "TypeHouseModel$Hyphens" (146 : Nat) "TypeHouseModel$Hyphens" "found" "I") ∈ lw_all := lw_g (lw_at lw_m16 134 rfl) rfl
theorem q4160 : (Jvm.Cond.fieldLinkNest "TypeHouseModel" (843 : Nat) "TypeHouseModel$Hyphens" "found" "I" "TypeHouseModel") ∈ lw_tbl := lw_at lw_m16 135 rfl
theorem q4162 : (Jvm.Cond.fieldLinkNest "TypeHouseModel" (846 : Nat) "TypeHouseModel$Hyphens" "places" "[I" "TypeHouseModel") ∈ lw_tbl := lw_at lw_m16 137 rfl
theorem q4228 : (Jvm.Cond.fieldLink "TypeHouseModel$Breaker" (104 : Nat) "TypeHouseModel$Breaker" "count" "I") ∈ lw_all := lw_g (lw_at lw_m16 203 rfl) rfl
theorem q4229 : (Jvm.Cond.fieldLinkNest "TypeHouseModel" (898 : Nat) "TypeHouseModel$Breaker" "count" "I" "TypeHouseModel") ∈ lw_tbl := lw_at lw_m16 204 rfl
theorem q4239 : (Jvm.Cond.fieldLinkNest "TypeHouseModel" (904 : Nat) "TypeHouseModel$Breaker" "settings" "[I" "TypeHouseModel") ∈ lw_tbl := lw_at lw_m16 214 rfl
theorem q4241 : (Jvm.Cond.fieldLinkNest "TypeHouseModel" (918 : Nat) "TypeHouseModel$Breaker" "wide" "I" "TypeHouseModel") ∈ lw_tbl := lw_at lw_m16 216 rfl
theorem q4271 : (Jvm.Cond.fieldLink "TypeHouseModel$Breaker" (108 : Nat) "TypeHouseModel$Breaker" "brokenPass" "I") ∈ lw_all := lw_g (lw_at lw_m17 6 rfl) rfl
theorem q4559 : (Jvm.Cond.fieldLink "TypeHouseModel" (837 : Nat) "TypeHouseModel" "wordFont" "I") ∈ lw_all := lw_g (lw_at lw_m18 54 rfl) rfl
theorem q4564 : (Jvm.Cond.fieldLink "TypeHouseModel" (828 : Nat) "TypeHouseModel" "wholeSize" "I") ∈ lw_all := lw_g (lw_at lw_m18 59 rfl) rfl
theorem q4625 : (Jvm.Cond.fieldLink "TypeHouseModel" (840 : Nat) "TypeHouseModel" "softs" "I") ∈ lw_all := lw_g (lw_at lw_m18 120 rfl) rfl
theorem q4978 : (Jvm.Cond.fieldLinkNest "TypeHouseModel" (831 : Nat) "TypeHouseModel$Metrics" "kinds" "[I" "TypeHouseModel") ∈ lw_tbl := lw_at lw_m19 233 rfl
theorem q4980 : (Jvm.Cond.fieldLinkNest "TypeHouseModel" (834 : Nat) "TypeHouseModel$Metrics" "wide" "[I" "TypeHouseModel") ∈ lw_tbl := lw_at lw_m19 235 rfl
theorem q4982 : (Jvm.Cond.fieldLinkNest "TypeHouseModel" (825 : Nat) "TypeHouseModel$Metrics" "count" "I" "TypeHouseModel") ∈ lw_tbl := lw_at lw_m19 237 rfl
theorem q5051 : (Jvm.Cond.methodLink "TypeHouseModel$Hyphens" (131 : Nat) ({ cls := "TypeHouseModel$Hyphens", name := "toldAt", desc := "([II)I" } : Jvm.MethodName)) ∈ lw_all := lw_g (lw_at lw_m20 66 rfl) rfl
theorem q5053 : (Jvm.Cond.instanceMethod ({ cls := "TypeHouseModel$Hyphens", name := "toldAt", desc := "([II)I" } : Jvm.MethodName)) ∈ lw_all := lw_g (lw_at lw_m20 68 rfl) rfl
theorem q5054 : (Jvm.Cond.code ({ cls := "TypeHouseModel$Hyphens", name := "toldAt", desc := "([II)I" } : Jvm.MethodName) prog_40_method_14_code (6 : Nat) (Option.some Jvm.ClassFile.FieldType.int)) ∈ lw_all := lw_g (lw_at lw_m20 69 rfl) rfl
theorem q5395 : (Jvm.Cond.methodLink "TypeHouseModel$Metrics" (94 : Nat) ({ cls := "TypeHouseModel$Metrics", name := "scaled", desc := "(III)I" } : Jvm.MethodName)) ∈ lw_all := lw_g (lw_at lw_m21 170 rfl) rfl
theorem q5447 : (Jvm.Cond.instanceMethod ({ cls := "TypeHouseModel", name := "character", desc := "(I)V" } : Jvm.MethodName)) ∈ lw_all := lw_g (lw_at lw_m21 222 rfl) rfl
theorem q5448 : (Jvm.Cond.code ({ cls := "TypeHouseModel", name := "character", desc := "(I)V" } : Jvm.MethodName) prog_37_method_120_code (3 : Nat) (Option.none : Option Jvm.ClassFile.FieldType)) ∈ lw_all := lw_g (lw_at lw_m21 223 rfl) rfl
theorem q5453 : (Jvm.Cond.methodLink "TypeHouseModel" (869 : Nat) ({ cls := "TypeHouseModel", name := "beginParagraph", desc := "(Z)V" } : Jvm.MethodName)) ∈ lw_all := lw_g (lw_at lw_m21 228 rfl) rfl
theorem q5667 : (Jvm.Cond.methodLink "TypeHouseModel" (817 : Nat) ({ cls := "TypeHouseModel", name := "metrics", desc := "(I)LTypeHouseModel$Metrics;" } : Jvm.MethodName)) ∈ lw_all := lw_g (lw_at lw_m22 202 rfl) rfl
theorem q5671 : (Jvm.Cond.methodLink "TypeHouseModel" (857 : Nat) ({ cls := "TypeHouseModel$Metrics", name := "isThere", desc := "(I)Z" } : Jvm.MethodName)) ∈ lw_all := lw_g (lw_at lw_m22 206 rfl) rfl
theorem q5675 : (Jvm.Cond.methodLink "TypeHouseModel" (873 : Nat) ({ cls := "TypeHouseModel", name := "endWord", desc := "()V" } : Jvm.MethodName)) ∈ lw_all := lw_g (lw_at lw_m22 210 rfl) rfl
theorem q5677 : (Jvm.Cond.instanceMethod ({ cls := "TypeHouseModel", name := "endWord", desc := "()V" } : Jvm.MethodName)) ∈ lw_all := lw_g (lw_at lw_m22 212 rfl) rfl
theorem q5678 : (Jvm.Cond.code ({ cls := "TypeHouseModel", name := "endWord", desc := "()V" } : Jvm.MethodName) prog_37_method_119_code (5 : Nat) (Option.none : Option Jvm.ClassFile.FieldType)) ∈ lw_all := lw_g (lw_at lw_m22 213 rfl) rfl
theorem q5679 : (Jvm.Cond.methodLink "TypeHouseModel" (849 : Nat) ({ cls := "TypeHouseModel$Metrics", name := "set", desc := "([IIII)Z" } : Jvm.MethodName)) ∈ lw_all := lw_g (lw_at lw_m22 214 rfl) rfl
theorem q5680 : (Jvm.Cond.instanceMethod ({ cls := "TypeHouseModel$Metrics", name := "set", desc := "([IIII)Z" } : Jvm.MethodName)) ∈ lw_all := lw_g (lw_at lw_m22 215 rfl) rfl
theorem q5681 : (Jvm.Cond.selects "TypeHouseModel$Metrics" ({ cls := "TypeHouseModel$Metrics", name := "set", desc := "([IIII)Z" } : Jvm.MethodName) ({ cls := "TypeHouseModel$Metrics", name := "set", desc := "([IIII)Z" } : Jvm.MethodName)) ∈ lw_all := lw_g (lw_at lw_m22 216 rfl) rfl
theorem q5682 : (Jvm.Cond.code ({ cls := "TypeHouseModel$Metrics", name := "set", desc := "([IIII)Z" } : Jvm.MethodName) prog_41_method_34_code (8 : Nat) (Option.some Jvm.ClassFile.FieldType.boolean)) ∈ lw_all := lw_g (lw_at lw_m22 217 rfl) rfl
theorem q5686 : (Jvm.Cond.methodLink "TypeHouseModel$Metrics" (109 : Nat) ({ cls := "TypeHouseModel$Metrics", name := "insert", desc := "(III)V" } : Jvm.MethodName)) ∈ lw_all := lw_g (lw_at lw_m22 221 rfl) rfl
theorem q5690 : (Jvm.Cond.methodLink "TypeHouseModel$Metrics" (117 : Nat) ({ cls := "TypeHouseModel$Metrics", name := "step", desc := "(II)I" } : Jvm.MethodName)) ∈ lw_all := lw_g (lw_at lw_m22 225 rfl) rfl
theorem q5692 : (Jvm.Cond.instanceMethod ({ cls := "TypeHouseModel$Metrics", name := "step", desc := "(II)I" } : Jvm.MethodName)) ∈ lw_all := lw_g (lw_at lw_m22 227 rfl) rfl
theorem q5693 : (Jvm.Cond.code ({ cls := "TypeHouseModel$Metrics", name := "step", desc := "(II)I" } : Jvm.MethodName) prog_41_method_33_code (7 : Nat) (Option.some Jvm.ClassFile.FieldType.int)) ∈ lw_all := lw_g (lw_at lw_m22 228 rfl) rfl
theorem q5694 : (Jvm.Cond.methodLink "TypeHouseModel$Metrics" (105 : Nat) ({ cls := "TypeHouseModel$Metrics", name := "found", desc := "(II)I" } : Jvm.MethodName)) ∈ lw_all := lw_g (lw_at lw_m22 229 rfl) rfl
theorem q5698 : (Jvm.Cond.methodLink "TypeHouseModel$Metrics" (113 : Nat) ({ cls := "TypeHouseModel$Metrics", name := "remove", desc := "(I)V" } : Jvm.MethodName)) ∈ lw_all := lw_g (lw_at lw_m22 233 rfl) rfl
theorem q5700 : (Jvm.Cond.instanceMethod ({ cls := "TypeHouseModel$Metrics", name := "remove", desc := "(I)V" } : Jvm.MethodName)) ∈ lw_all := lw_g (lw_at lw_m22 235 rfl) rfl
theorem q5701 : (Jvm.Cond.code ({ cls := "TypeHouseModel$Metrics", name := "remove", desc := "(I)V" } : Jvm.MethodName) prog_41_method_32_code (3 : Nat) (Option.none : Option Jvm.ClassFile.FieldType)) ∈ lw_all := lw_g (lw_at lw_m22 236 rfl) rfl
theorem q5702 : (Jvm.Cond.methodLink "TypeHouseModel" (860 : Nat) ({ cls := "TypeHouseModel$Hyphens", name := "take", desc := "([II)Z" } : Jvm.MethodName)) ∈ lw_all := lw_g (lw_at lw_m22 237 rfl) rfl
theorem q5703 : (Jvm.Cond.instanceMethod ({ cls := "TypeHouseModel$Hyphens", name := "take", desc := "([II)Z" } : Jvm.MethodName)) ∈ lw_all := lw_g (lw_at lw_m22 238 rfl) rfl
theorem q5704 : (Jvm.Cond.selects "TypeHouseModel$Hyphens" ({ cls := "TypeHouseModel$Hyphens", name := "take", desc := "([II)Z" } : Jvm.MethodName) ({ cls := "TypeHouseModel$Hyphens", name := "take", desc := "([II)Z" } : Jvm.MethodName)) ∈ lw_all := lw_g (lw_at lw_m22 239 rfl) rfl
theorem q5705 : (Jvm.Cond.code ({ cls := "TypeHouseModel$Hyphens", name := "take", desc := "([II)Z" } : Jvm.MethodName) prog_40_method_21_code (5 : Nat) (Option.some Jvm.ClassFile.FieldType.boolean)) ∈ lw_all := lw_g (lw_at lw_m23 0 rfl) rfl
theorem q5706 : (Jvm.Cond.methodLink "TypeHouseModel$Hyphens" (149 : Nat) ({ cls := "TypeHouseModel$Hyphens", name := "find", desc := "()V" } : Jvm.MethodName)) ∈ lw_all := lw_g (lw_at lw_m23 1 rfl) rfl
theorem q5708 : (Jvm.Cond.instanceMethod ({ cls := "TypeHouseModel$Hyphens", name := "find", desc := "()V" } : Jvm.MethodName)) ∈ lw_all := lw_g (lw_at lw_m23 3 rfl) rfl
theorem q5709 : (Jvm.Cond.code ({ cls := "TypeHouseModel$Hyphens", name := "find", desc := "()V" } : Jvm.MethodName) prog_40_method_20_code (8 : Nat) (Option.none : Option Jvm.ClassFile.FieldType)) ∈ lw_all := lw_g (lw_at lw_m23 4 rfl) rfl
theorem q5710 : (Jvm.Cond.methodLink "TypeHouseModel$Hyphens" (142 : Nat) ({ cls := "TypeHouseModel$Hyphens", name := "fits", desc := "(II)Z" } : Jvm.MethodName)) ∈ lw_all := lw_g (lw_at lw_m23 5 rfl) rfl
theorem q5712 : (Jvm.Cond.instanceMethod ({ cls := "TypeHouseModel$Hyphens", name := "fits", desc := "(II)Z" } : Jvm.MethodName)) ∈ lw_all := lw_g (lw_at lw_m23 7 rfl) rfl
theorem q5713 : (Jvm.Cond.code ({ cls := "TypeHouseModel$Hyphens", name := "fits", desc := "(II)Z" } : Jvm.MethodName) prog_40_method_19_code (6 : Nat) (Option.some Jvm.ClassFile.FieldType.boolean)) ∈ lw_all := lw_g (lw_at lw_m23 8 rfl) rfl
theorem q5714 : (Jvm.Cond.methodLink "TypeHouseModel" (863 : Nat) ({ cls := "TypeHouseModel", name := "findSofts", desc := "(I)V" } : Jvm.MethodName)) ∈ lw_all := lw_g (lw_at lw_m23 9 rfl) rfl
theorem q5716 : (Jvm.Cond.instanceMethod ({ cls := "TypeHouseModel", name := "findSofts", desc := "(I)V" } : Jvm.MethodName)) ∈ lw_all := lw_g (lw_at lw_m23 11 rfl) rfl
theorem q5717 : (Jvm.Cond.code ({ cls := "TypeHouseModel", name := "findSofts", desc := "(I)V" } : Jvm.MethodName) prog_37_method_118_code (11 : Nat) (Option.none : Option Jvm.ClassFile.FieldType)) ∈ lw_all := lw_g (lw_at lw_m23 12 rfl) rfl
theorem q5718 : (Jvm.Cond.methodLink "TypeHouseModel" (853 : Nat) ({ cls := "TypeHouseModel", name := "isPart", desc := "(LTypeHouseModel$Metrics;I)Z" } : Jvm.MethodName)) ∈ lw_all := lw_g (lw_at lw_m23 13 rfl) rfl
theorem q5720 : (Jvm.Cond.instanceMethod ({ cls := "TypeHouseModel", name := "isPart", desc := "(LTypeHouseModel$Metrics;I)Z" } : Jvm.MethodName)) ∈ lw_all := lw_g (lw_at lw_m23 15 rfl) rfl
theorem q5721 : (Jvm.Cond.code ({ cls := "TypeHouseModel", name := "isPart", desc := "(LTypeHouseModel$Metrics;I)Z" } : Jvm.MethodName) prog_37_method_117_code (5 : Nat) (Option.some Jvm.ClassFile.FieldType.boolean)) ∈ lw_all := lw_g (lw_at lw_m23 16 rfl) rfl
theorem q5722 : (Jvm.Cond.methodLink "TypeHouseModel" (821 : Nat) ({ cls := "TypeHouseModel$Metrics", name := "of", desc := "(III)I" } : Jvm.MethodName)) ∈ lw_all := lw_g (lw_at lw_m23 17 rfl) rfl
theorem q5723 : (Jvm.Cond.instanceMethod ({ cls := "TypeHouseModel$Metrics", name := "of", desc := "(III)I" } : Jvm.MethodName)) ∈ lw_all := lw_g (lw_at lw_m23 18 rfl) rfl
theorem q5724 : (Jvm.Cond.selects "TypeHouseModel$Metrics" ({ cls := "TypeHouseModel$Metrics", name := "of", desc := "(III)I" } : Jvm.MethodName) ({ cls := "TypeHouseModel$Metrics", name := "of", desc := "(III)I" } : Jvm.MethodName)) ∈ lw_all := lw_g (lw_at lw_m23 19 rfl) rfl
theorem q5725 : (Jvm.Cond.code ({ cls := "TypeHouseModel$Metrics", name := "of", desc := "(III)I" } : Jvm.MethodName) prog_41_method_28_code (6 : Nat) (Option.some Jvm.ClassFile.FieldType.int)) ∈ lw_all := lw_g (lw_at lw_m23 20 rfl) rfl
theorem q5726 : (Jvm.Cond.methodLink "TypeHouseModel" (866 : Nat) ({ cls := "TypeHouseModel", name := "leaf", desc := "(II)V" } : Jvm.MethodName)) ∈ lw_all := lw_g (lw_at lw_m23 21 rfl) rfl
theorem q5728 : (Jvm.Cond.instanceMethod ({ cls := "TypeHouseModel", name := "leaf", desc := "(II)V" } : Jvm.MethodName)) ∈ lw_all := lw_g (lw_at lw_m23 23 rfl) rfl
theorem q5729 : (Jvm.Cond.code ({ cls := "TypeHouseModel", name := "leaf", desc := "(II)V" } : Jvm.MethodName) prog_37_method_116_code (5 : Nat) (Option.none : Option Jvm.ClassFile.FieldType)) ∈ lw_all := lw_g (lw_at lw_m23 24 rfl) rfl
theorem q5748 : (Jvm.Cond.instanceMethod ({ cls := "TypeHouseModel", name := "tell", desc := "(I)V" } : Jvm.MethodName)) ∈ lw_all := lw_g (lw_at lw_m23 43 rfl) rfl
theorem q5749 : (Jvm.Cond.code ({ cls := "TypeHouseModel", name := "tell", desc := "(I)V" } : Jvm.MethodName) prog_37_method_126_code (5 : Nat) (Option.none : Option Jvm.ClassFile.FieldType)) ∈ lw_all := lw_g (lw_at lw_m23 44 rfl) rfl
theorem q5750 : (Jvm.Cond.methodLinkNest "TypeHouseModel" (899 : Nat) ({ cls := "TypeHouseModel$Breaker", name := "append", desc := "(IIIIIII)I" } : Jvm.MethodName) "TypeHouseModel") ∈ lw_tbl := lw_at lw_m23 45 rfl
theorem q5752 : (Jvm.Cond.instanceMethod ({ cls := "TypeHouseModel$Breaker", name := "append", desc := "(IIIIIII)I" } : Jvm.MethodName)) ∈ lw_all := lw_g (lw_at lw_m23 47 rfl) rfl
theorem q5753 : (Jvm.Cond.code ({ cls := "TypeHouseModel$Breaker", name := "append", desc := "(IIIIIII)I" } : Jvm.MethodName) prog_38_method_5_code (9 : Nat) (Option.some Jvm.ClassFile.FieldType.int)) ∈ lw_all := lw_g (lw_at lw_m23 48 rfl) rfl
theorem q5754 : (Jvm.Cond.constant "TypeHouseModel" (903 : Nat) (-2147483648 : Int32)) ∈ lw_all := lw_g (lw_at lw_m23 49 rfl) rfl
theorem q5755 : (Jvm.Cond.methodLink "TypeHouseModel" (910 : Nat) ({ cls := "TypeHouseModel", name := "within", desc := "(III)I" } : Jvm.MethodName)) ∈ lw_all := lw_g (lw_at lw_m23 50 rfl) rfl
theorem q5756 : (Jvm.Cond.static ({ cls := "TypeHouseModel", name := "within", desc := "(III)I" } : Jvm.MethodName)) ∈ lw_all := lw_g (lw_at lw_m23 51 rfl) rfl
theorem q5757 : (Jvm.Cond.code ({ cls := "TypeHouseModel", name := "within", desc := "(III)I" } : Jvm.MethodName) prog_37_method_123_code (3 : Nat) (Option.some Jvm.ClassFile.FieldType.int)) ∈ lw_all := lw_g (lw_at lw_m23 52 rfl) rfl
theorem q5758 : (Jvm.Cond.constant "TypeHouseModel" (913 : Nat) (-1000000 : Int32)) ∈ lw_all := lw_g (lw_at lw_m23 53 rfl) rfl
theorem q5759 : (Jvm.Cond.constant "TypeHouseModel" (914 : Nat) (1000000 : Int32)) ∈ lw_all := lw_g (lw_at lw_m23 54 rfl) rfl
theorem q5760 : (Jvm.Cond.methodLink "TypeHouseModel" (915 : Nat) ({ cls := "TypeHouseModel", name := "around", desc := "(II)V" } : Jvm.MethodName)) ∈ lw_all := lw_g (lw_at lw_m23 55 rfl) rfl
theorem q5773 : (Jvm.Cond.static ({ cls := "TypeHouseModel$Breaker", name := "without", desc := "(I)J" } : Jvm.MethodName)) ∈ lw_all := lw_g (lw_at lw_m23 68 rfl) rfl
theorem q5774 : (Jvm.Cond.code ({ cls := "TypeHouseModel$Breaker", name := "without", desc := "(I)J" } : Jvm.MethodName) prog_38_method_25_code (1 : Nat) (Option.some Jvm.ClassFile.FieldType.long)) ∈ lw_all := lw_g (lw_at lw_m23 69 rfl) rfl
theorem q5775 : (Jvm.Cond.constant "TypeHouseModel$Breaker" (111 : Nat) (-2147483648 : Int32)) ∈ lw_all := lw_g (lw_at lw_m23 70 rfl) rfl
theorem q6053 : (Jvm.Cond.instanceMethod ({ cls := "TypeHouseModel", name := "clear", desc := "(Z)I" } : Jvm.MethodName)) ∈ lw_all := lw_g (lw_at lw_m24 108 rfl) rfl
theorem q6054 : (Jvm.Cond.selects "TypeHouseModel" ({ cls := "TypeHouseModel", name := "clear", desc := "(Z)I" } : Jvm.MethodName) ({ cls := "TypeHouseModel", name := "clear", desc := "(Z)I" } : Jvm.MethodName)) ∈ lw_all := lw_g (lw_at lw_m24 109 rfl) rfl
theorem q6055 : (Jvm.Cond.code ({ cls := "TypeHouseModel", name := "clear", desc := "(Z)I" } : Jvm.MethodName) prog_37_method_7_code (2 : Nat) (Option.some Jvm.ClassFile.FieldType.int)) ∈ lw_all := lw_g (lw_at lw_m24 110 rfl) rfl
theorem q6056 : (Jvm.Cond.methodLink "TypeHouseModel" (291 : Nat) ({ cls := "TypeHouseModel$Hyphens", name := "clear", desc := "(Z)I" } : Jvm.MethodName)) ∈ lw_all := lw_g (lw_at lw_m24 111 rfl) rfl
theorem q6057 : (Jvm.Cond.instanceMethod ({ cls := "TypeHouseModel$Hyphens", name := "clear", desc := "(Z)I" } : Jvm.MethodName)) ∈ lw_all := lw_g (lw_at lw_m24 112 rfl) rfl
theorem q6058 : (Jvm.Cond.selects "TypeHouseModel$Hyphens" ({ cls := "TypeHouseModel$Hyphens", name := "clear", desc := "(Z)I" } : Jvm.MethodName) ({ cls := "TypeHouseModel$Hyphens", name := "clear", desc := "(Z)I" } : Jvm.MethodName)) ∈ lw_all := lw_g (lw_at lw_m24 113 rfl) rfl
theorem q6059 : (Jvm.Cond.code ({ cls := "TypeHouseModel$Hyphens", name := "clear", desc := "(Z)I" } : Jvm.MethodName) prog_40_method_17_code (3 : Nat) (Option.some Jvm.ClassFile.FieldType.int)) ∈ lw_all := lw_g (lw_at lw_m24 114 rfl) rfl
abbrev cX40_remove : ByteArray := prog_41_method_32_code
def yX40_remove : MethodName := ⟨RX40, "remove", "(I)V"⟩
def YX40_remove : eY := (yX40_remove, cX40_remove, 3, none, [])
theorem mX40_remove : e_mv YX40_remove RX40 1 := ⟨q5700, qs357, q5701, by decide, by decide +kernel, (e_sig (by decide +kernel))⟩
theorem dX40_remove_0 : decode cX40_remove 0 = .ok (.aload_n 0, 1) := dc_42 (by decide +kernel)
theorem dX40_remove_1 : decode cX40_remove 1 = .ok (.dup, 1) := dc_89 (by decide +kernel)
theorem dX40_remove_2 : decode cX40_remove 2 = .ok (.getfield 101, 3) := dc_180 (a := 0) (b := 101) (n := 101) (by decide +kernel)
theorem dX40_remove_5 : decode cX40_remove 5 = .ok (.iconst 1, 1) := dc_4 (by decide +kernel)
theorem dX40_remove_6 : decode cX40_remove 6 = .ok (.isub, 1) := dc_100 (by decide +kernel)
theorem dX40_remove_7 : decode cX40_remove 7 = .ok (.putfield 101, 3) := dc_181 (a := 0) (b := 101) (n := 101) (by decide +kernel)
theorem dX40_remove_10 : decode cX40_remove 10 = .ok (.iload_n 1, 1) := dc_27 (by decide +kernel)
theorem dX40_remove_11 : decode cX40_remove 11 = .ok (.istore_n 2, 1) := dc_61 (by decide +kernel)
theorem dX40_remove_12 : decode cX40_remove 12 = .ok (.iload_n 2, 1) := dc_28 (by decide +kernel)
theorem dX40_remove_13 : decode cX40_remove 13 = .ok (.aload_n 0, 1) := dc_42 (by decide +kernel)
theorem dX40_remove_14 : decode cX40_remove 14 = .ok (.getfield 101, 3) := dc_180 (a := 0) (b := 101) (n := 101) (by decide +kernel)
theorem dX40_remove_17 : decode cX40_remove 17 = .ok (.if_icmp .ge 37, 3) := dc_162 (a := 0) (b := 37) (v := 37) (by decide +kernel)
theorem dX40_remove_20 : decode cX40_remove 20 = .ok (.aload_n 0, 1) := dc_42 (by decide +kernel)
theorem dX40_remove_21 : decode cX40_remove 21 = .ok (.getfield 15, 3) := dc_180 (a := 0) (b := 15) (n := 15) (by decide +kernel)
theorem dX40_remove_24 : decode cX40_remove 24 = .ok (.iload_n 2, 1) := dc_28 (by decide +kernel)
theorem dX40_remove_25 : decode cX40_remove 25 = .ok (.aload_n 0, 1) := dc_42 (by decide +kernel)
theorem dX40_remove_26 : decode cX40_remove 26 = .ok (.getfield 15, 3) := dc_180 (a := 0) (b := 15) (n := 15) (by decide +kernel)
theorem dX40_remove_29 : decode cX40_remove 29 = .ok (.iload_n 2, 1) := dc_28 (by decide +kernel)
theorem dX40_remove_30 : decode cX40_remove 30 = .ok (.iconst 1, 1) := dc_4 (by decide +kernel)
theorem dX40_remove_31 : decode cX40_remove 31 = .ok (.iadd, 1) := dc_96 (by decide +kernel)
theorem dX40_remove_32 : decode cX40_remove 32 = .ok (.iaload, 1) := dc_46 (by decide +kernel)
theorem dX40_remove_33 : decode cX40_remove 33 = .ok (.iastore, 1) := dc_79 (by decide +kernel)
theorem dX40_remove_34 : decode cX40_remove 34 = .ok (.aload_n 0, 1) := dc_42 (by decide +kernel)
theorem dX40_remove_35 : decode cX40_remove 35 = .ok (.getfield 19, 3) := dc_180 (a := 0) (b := 19) (n := 19) (by decide +kernel)
theorem dX40_remove_38 : decode cX40_remove 38 = .ok (.iload_n 2, 1) := dc_28 (by decide +kernel)
theorem dX40_remove_39 : decode cX40_remove 39 = .ok (.aload_n 0, 1) := dc_42 (by decide +kernel)
theorem dX40_remove_40 : decode cX40_remove 40 = .ok (.getfield 19, 3) := dc_180 (a := 0) (b := 19) (n := 19) (by decide +kernel)
theorem dX40_remove_43 : decode cX40_remove 43 = .ok (.iload_n 2, 1) := dc_28 (by decide +kernel)
theorem dX40_remove_44 : decode cX40_remove 44 = .ok (.iconst 1, 1) := dc_4 (by decide +kernel)
theorem dX40_remove_45 : decode cX40_remove 45 = .ok (.iadd, 1) := dc_96 (by decide +kernel)
theorem dX40_remove_46 : decode cX40_remove 46 = .ok (.iaload, 1) := dc_46 (by decide +kernel)
theorem dX40_remove_47 : decode cX40_remove 47 = .ok (.iastore, 1) := dc_79 (by decide +kernel)
theorem dX40_remove_48 : decode cX40_remove 48 = .ok (.iinc 2 1, 3) := dc_132 (a := 2) (b := 1) (v := 1) (by decide +kernel)
theorem dX40_remove_51 : decode cX40_remove 51 = .ok (.goto (-39), 3) := dc_167 (a := 255) (b := 217) (v := -39) (by decide +kernel)
theorem dX40_remove_54 : decode cX40_remove 54 = .ok (.return_, 1) := dc_177 (by decide +kernel)
def fX40_remove_b12 (N : Nat) : Nat → Nat → Int32 → eH → Option (Unit × eH)
  | 0, _, _, _ => none
  | n + 1, l0, l2, h =>
    (g_I 42 h l0 3).bind fun x1 =>
    if x1 ≤ l2 then
      some ((), h)
    else
      (g_A 42 h l0 1).bind fun a4 =>
      (g_A 42 h l0 1).bind fun a6 =>
      (r_I 100 h a6 (l2 + (1 : Int32))).bind fun x8 =>
      (q_V 100 h a4 l2 (.int x8)).bind fun h10 =>
      (g_A 42 h10 l0 2).bind fun a12 =>
      (g_A 42 h10 l0 2).bind fun a14 =>
      (r_I 100 h10 a14 (l2 + (1 : Int32))).bind fun x16 =>
      (q_V 100 h10 a12 l2 (.int x16)).bind fun h18 =>
      fX40_remove_b12 N n l0 (l2 + (1 : Int32)) h18
theorem pX40_remove_b12 {w : eW} {d : Nat} (hd : 0 ≤ d) {N : Nat} : ∀ (n : Nat) l0 l2 h q, fX40_remove_b12 N n l0 l2 h = some q → wp w d YX40_remove 12 [some (.ref l0), none, some (.int l2)] [] h (e_is (e_rn c_V q)) := by
  intro n
  induction n with
  | zero => intro l0 l2 h q hf; simp [fX40_remove_b12] at hf
  | succ n ih =>
    intro l0 l2 h q hf
    rw [fX40_remove_b12] at hf
    refine w_iload_n dX40_remove_12 rfl rfl ?_
    refine w_aload_n dX40_remove_13 rfl rfl ?_
    obtain ⟨x1, b2, hf⟩ := Option.bind_eq_some_iff.mp hf
    refine GX40_101 b2 dX40_remove_14 rfl ?_
    refine w_icmp_ge 54 dX40_remove_17 (by decide) (fun c3 => ?_) (fun c3 => ?_)
    · replace hf := (if_pos (show x1 ≤ l2 from c3)).symm.trans hf
      cases hf
      exact w_vret dX40_remove_54 rfl rfl
    · replace hf := (if_neg (show ¬ (x1 ≤ l2) from c3)).symm.trans hf
      refine w_aload_n dX40_remove_20 rfl rfl ?_
      obtain ⟨a4, b5, hf⟩ := Option.bind_eq_some_iff.mp hf
      refine GX40_15 b5 dX40_remove_21 rfl ?_
      refine w_iload_n dX40_remove_24 rfl rfl ?_
      refine w_aload_n dX40_remove_25 rfl rfl ?_
      obtain ⟨a6, b7, hf⟩ := Option.bind_eq_some_iff.mp hf
      refine GX40_15 b7 dX40_remove_26 rfl ?_
      refine w_iload_n dX40_remove_29 rfl rfl ?_
      refine w_iconst dX40_remove_30 (v := 1) (by decide) ?_
      refine w_iadd dX40_remove_31 ?_
      obtain ⟨x8, b9, hf⟩ := Option.bind_eq_some_iff.mp hf
      refine x_rI b9 dX40_remove_32 ?_
      obtain ⟨h10, b11, hf⟩ := Option.bind_eq_some_iff.mp hf
      refine x_qI b11 dX40_remove_33 ?_
      refine w_aload_n dX40_remove_34 rfl rfl ?_
      obtain ⟨a12, b13, hf⟩ := Option.bind_eq_some_iff.mp hf
      refine GX40_19 b13 dX40_remove_35 rfl ?_
      refine w_iload_n dX40_remove_38 rfl rfl ?_
      refine w_aload_n dX40_remove_39 rfl rfl ?_
      obtain ⟨a14, b15, hf⟩ := Option.bind_eq_some_iff.mp hf
      refine GX40_19 b15 dX40_remove_40 rfl ?_
      refine w_iload_n dX40_remove_43 rfl rfl ?_
      refine w_iconst dX40_remove_44 (v := 1) (by decide) ?_
      refine w_iadd dX40_remove_45 ?_
      obtain ⟨x16, b17, hf⟩ := Option.bind_eq_some_iff.mp hf
      refine x_rI b17 dX40_remove_46 ?_
      obtain ⟨h18, b19, hf⟩ := Option.bind_eq_some_iff.mp hf
      refine x_qI b19 dX40_remove_47 ?_
      refine w_iinc dX40_remove_48 (v := (l2 + (1 : Int32))) rfl rfl (by decide) (ls' := [some (.ref l0), none, some (.int (l2 + (1 : Int32)))]) rfl ?_
      refine w_goto 12 dX40_remove_51 (by decide) ?_
      exact (ih _ _ _ _ hf).to ⟨rfl, rfl, trivial⟩
def fX40_remove (N : Nat) (this : Nat) (p0 : Int32) (h : eH) : Option (Unit × eH) :=
  (g_I 42 h this 3).bind fun x1 =>
  (p_V 42 h this 3 (.int (x1 - (1 : Int32)))).bind fun h3 =>
  fX40_remove_b12 N N this p0 h3
theorem pX40_remove {w : eW} {d : Nat} (hd : 0 ≤ d) {N : Nat} {this : Nat} {p0 : Int32} {h : eH} {q} (hf : fX40_remove N this p0 h = some q) : wm w d YX40_remove [.ref this, .int p0] h (e_is (e_rn c_V q)) := by
  show wp w d YX40_remove 0 [some (.ref this), some (.int p0), none] [] h _
  unfold fX40_remove at hf
  refine w_aload_n dX40_remove_0 rfl rfl ?_
  refine w_dup dX40_remove_1 rfl ?_
  obtain ⟨x1, b2, hf⟩ := Option.bind_eq_some_iff.mp hf
  refine GX40_101 b2 dX40_remove_2 rfl ?_
  refine w_iconst dX40_remove_5 (v := 1) (by decide) ?_
  refine w_isub dX40_remove_6 ?_
  obtain ⟨h3, b4, hf⟩ := Option.bind_eq_some_iff.mp hf
  refine SX40_101 b4 dX40_remove_7 rfl ?_
  refine w_iload_n dX40_remove_10 rfl rfl ?_
  refine w_istore_n dX40_remove_11 rfl (by decide) (ls' := [some (.ref this), some (.int p0), some (.int p0)]) rfl ?_
  exact (pX40_remove_b12 hd N _ _ _ _ hf).to ⟨rfl, rfl, trivial⟩
abbrev cX40_step : ByteArray := prog_41_method_33_code
def yX40_step : MethodName := ⟨RX40, "step", "(II)I"⟩
def YX40_step : eY := (yX40_step, cX40_step, 7, (Option.some FieldType.int), [])
theorem mX40_step : e_mv YX40_step RX40 2 := ⟨q5692, qs355, q5693, by decide, by decide +kernel, (e_sig (by decide +kernel))⟩
theorem dX40_step_0 : decode cX40_step 0 = .ok (.aload_n 0, 1) := dc_42 (by decide +kernel)
theorem dX40_step_1 : decode cX40_step 1 = .ok (.aload_n 0, 1) := dc_42 (by decide +kernel)
theorem dX40_step_2 : decode cX40_step 2 = .ok (.getfield 15, 3) := dc_180 (a := 0) (b := 15) (n := 15) (by decide +kernel)
theorem dX40_step_5 : decode cX40_step 5 = .ok (.iload_n 1, 1) := dc_27 (by decide +kernel)
theorem dX40_step_6 : decode cX40_step 6 = .ok (.iaload, 1) := dc_46 (by decide +kernel)
theorem dX40_step_7 : decode cX40_step 7 = .ok (.aload_n 0, 1) := dc_42 (by decide +kernel)
theorem dX40_step_8 : decode cX40_step 8 = .ok (.getfield 15, 3) := dc_180 (a := 0) (b := 15) (n := 15) (by decide +kernel)
theorem dX40_step_11 : decode cX40_step 11 = .ok (.iload_n 1, 1) := dc_27 (by decide +kernel)
theorem dX40_step_12 : decode cX40_step 12 = .ok (.iconst 1, 1) := dc_4 (by decide +kernel)
theorem dX40_step_13 : decode cX40_step 13 = .ok (.iadd, 1) := dc_96 (by decide +kernel)
theorem dX40_step_14 : decode cX40_step 14 = .ok (.iaload, 1) := dc_46 (by decide +kernel)
theorem dX40_step_15 : decode cX40_step 15 = .ok (.invokevirtual 105, 3) := dc_182 (a := 0) (b := 105) (n := 105) (by decide +kernel)
theorem dX40_step_18 : decode cX40_step 18 = .ok (.istore_n 3, 1) := dc_62 (by decide +kernel)
theorem dX40_step_19 : decode cX40_step 19 = .ok (.iload_n 3, 1) := dc_29 (by decide +kernel)
theorem dX40_step_20 : decode cX40_step 20 = .ok (.ifCond .ge 7, 3) := dc_156 (a := 0) (b := 7) (v := 7) (by decide +kernel)
theorem dX40_step_23 : decode cX40_step 23 = .ok (.iload_n 1, 1) := dc_27 (by decide +kernel)
theorem dX40_step_24 : decode cX40_step 24 = .ok (.iconst 1, 1) := dc_4 (by decide +kernel)
theorem dX40_step_25 : decode cX40_step 25 = .ok (.iadd, 1) := dc_96 (by decide +kernel)
theorem dX40_step_26 : decode cX40_step 26 = .ok (.ireturn, 1) := dc_172 (by decide +kernel)
theorem dX40_step_27 : decode cX40_step 27 = .ok (.aload_n 0, 1) := dc_42 (by decide +kernel)
theorem dX40_step_28 : decode cX40_step 28 = .ok (.getfield 9, 3) := dc_180 (a := 0) (b := 9) (n := 9) (by decide +kernel)
theorem dX40_step_31 : decode cX40_step 31 = .ok (.bipush 6, 2) := dc_16 (a := 6) (v := 6) (by decide +kernel)
theorem dX40_step_33 : decode cX40_step 33 = .ok (.iload_n 3, 1) := dc_29 (by decide +kernel)
theorem dX40_step_34 : decode cX40_step 34 = .ok (.iconst 2, 1) := dc_5 (by decide +kernel)
theorem dX40_step_35 : decode cX40_step 35 = .ok (.invokestatic 32, 3) := dc_184 (a := 0) (b := 32) (n := 32) (by decide +kernel)
theorem dX40_step_38 : decode cX40_step 38 = .ok (.istore 4, 2) := dc_54 (a := 4) (by decide +kernel)
theorem dX40_step_40 : decode cX40_step 40 = .ok (.aload_n 0, 1) := dc_42 (by decide +kernel)
theorem dX40_step_41 : decode cX40_step 41 = .ok (.getfield 9, 3) := dc_180 (a := 0) (b := 9) (n := 9) (by decide +kernel)
theorem dX40_step_44 : decode cX40_step 44 = .ok (.bipush 6, 2) := dc_16 (a := 6) (v := 6) (by decide +kernel)
theorem dX40_step_46 : decode cX40_step 46 = .ok (.iload_n 3, 1) := dc_29 (by decide +kernel)
theorem dX40_step_47 : decode cX40_step 47 = .ok (.iconst 3, 1) := dc_6 (by decide +kernel)
theorem dX40_step_48 : decode cX40_step 48 = .ok (.invokestatic 32, 3) := dc_184 (a := 0) (b := 32) (n := 32) (by decide +kernel)
theorem dX40_step_51 : decode cX40_step 51 = .ok (.istore 5, 2) := dc_54 (a := 5) (by decide +kernel)
theorem dX40_step_53 : decode cX40_step 53 = .ok (.iload 4, 2) := dc_21 (a := 4) (by decide +kernel)
theorem dX40_step_55 : decode cX40_step 55 = .ok (.sipush 128, 3) := dc_17 (a := 0) (b := 128) (v := 128) (by decide +kernel)
theorem dX40_step_58 : decode cX40_step 58 = .ok (.if_icmp .lt 37, 3) := dc_161 (a := 0) (b := 37) (v := 37) (by decide +kernel)
theorem dX40_step_61 : decode cX40_step 61 = .ok (.aload_n 0, 1) := dc_42 (by decide +kernel)
theorem dX40_step_62 : decode cX40_step 62 = .ok (.iload_n 1, 1) := dc_27 (by decide +kernel)
theorem dX40_step_63 : decode cX40_step 63 = .ok (.iconst 1, 1) := dc_4 (by decide +kernel)
theorem dX40_step_64 : decode cX40_step 64 = .ok (.iadd, 1) := dc_96 (by decide +kernel)
theorem dX40_step_65 : decode cX40_step 65 = .ok (.sipush 257, 3) := dc_17 (a := 1) (b := 1) (v := 257) (by decide +kernel)
theorem dX40_step_68 : decode cX40_step 68 = .ok (.aload_n 0, 1) := dc_42 (by decide +kernel)
theorem dX40_step_69 : decode cX40_step 69 = .ok (.bipush 7, 2) := dc_16 (a := 7) (v := 7) (by decide +kernel)
theorem dX40_step_71 : decode cX40_step 71 = .ok (.sipush 256, 3) := dc_17 (a := 1) (b := 0) (v := 256) (by decide +kernel)
theorem dX40_step_74 : decode cX40_step 74 = .ok (.iload 4, 2) := dc_21 (a := 4) (by decide +kernel)
theorem dX40_step_76 : decode cX40_step 76 = .ok (.sipush 128, 3) := dc_17 (a := 0) (b := 128) (v := 128) (by decide +kernel)
theorem dX40_step_79 : decode cX40_step 79 = .ok (.isub, 1) := dc_100 (by decide +kernel)
theorem dX40_step_80 : decode cX40_step 80 = .ok (.imul, 1) := dc_104 (by decide +kernel)
theorem dX40_step_81 : decode cX40_step 81 = .ok (.iload 5, 2) := dc_21 (a := 5) (by decide +kernel)
theorem dX40_step_83 : decode cX40_step 83 = .ok (.iadd, 1) := dc_96 (by decide +kernel)
theorem dX40_step_84 : decode cX40_step 84 = .ok (.iload_n 2, 1) := dc_28 (by decide +kernel)
theorem dX40_step_85 : decode cX40_step 85 = .ok (.invokevirtual 94, 3) := dc_182 (a := 0) (b := 94) (n := 94) (by decide +kernel)
theorem dX40_step_88 : decode cX40_step 88 = .ok (.invokevirtual 109, 3) := dc_182 (a := 0) (b := 109) (n := 109) (by decide +kernel)
theorem dX40_step_91 : decode cX40_step 91 = .ok (.iload_n 1, 1) := dc_27 (by decide +kernel)
theorem dX40_step_92 : decode cX40_step 92 = .ok (.iconst 2, 1) := dc_5 (by decide +kernel)
theorem dX40_step_93 : decode cX40_step 93 = .ok (.iadd, 1) := dc_96 (by decide +kernel)
theorem dX40_step_94 : decode cX40_step 94 = .ok (.ireturn, 1) := dc_172 (by decide +kernel)
theorem dX40_step_95 : decode cX40_step 95 = .ok (.aload_n 0, 1) := dc_42 (by decide +kernel)
theorem dX40_step_96 : decode cX40_step 96 = .ok (.iload_n 1, 1) := dc_27 (by decide +kernel)
theorem dX40_step_97 : decode cX40_step 97 = .ok (.iconst 1, 1) := dc_4 (by decide +kernel)
theorem dX40_step_98 : decode cX40_step 98 = .ok (.iadd, 1) := dc_96 (by decide +kernel)
theorem dX40_step_99 : decode cX40_step 99 = .ok (.iload 5, 2) := dc_21 (a := 5) (by decide +kernel)
theorem dX40_step_101 : decode cX40_step 101 = .ok (.iconst 0, 1) := dc_3 (by decide +kernel)
theorem dX40_step_102 : decode cX40_step 102 = .ok (.invokevirtual 109, 3) := dc_182 (a := 0) (b := 109) (n := 109) (by decide +kernel)
theorem dX40_step_105 : decode cX40_step 105 = .ok (.iload 4, 2) := dc_21 (a := 4) (by decide +kernel)
theorem dX40_step_107 : decode cX40_step 107 = .ok (.iconst 2, 1) := dc_5 (by decide +kernel)
theorem dX40_step_108 : decode cX40_step 108 = .ok (.irem, 1) := dc_112 (by decide +kernel)
theorem dX40_step_109 : decode cX40_step 109 = .ok (.ifCond .ne 10, 3) := dc_154 (a := 0) (b := 10) (v := 10) (by decide +kernel)
theorem dX40_step_112 : decode cX40_step 112 = .ok (.aload_n 0, 1) := dc_42 (by decide +kernel)
theorem dX40_step_113 : decode cX40_step 113 = .ok (.iload_n 1, 1) := dc_27 (by decide +kernel)
theorem dX40_step_114 : decode cX40_step 114 = .ok (.iconst 2, 1) := dc_5 (by decide +kernel)
theorem dX40_step_115 : decode cX40_step 115 = .ok (.iadd, 1) := dc_96 (by decide +kernel)
theorem dX40_step_116 : decode cX40_step 116 = .ok (.invokevirtual 113, 3) := dc_182 (a := 0) (b := 113) (n := 113) (by decide +kernel)
theorem dX40_step_119 : decode cX40_step 119 = .ok (.iload 4, 2) := dc_21 (a := 4) (by decide +kernel)
theorem dX40_step_121 : decode cX40_step 121 = .ok (.iconst 2, 1) := dc_5 (by decide +kernel)
theorem dX40_step_122 : decode cX40_step 122 = .ok (.idiv, 1) := dc_108 (by decide +kernel)
theorem dX40_step_123 : decode cX40_step 123 = .ok (.iconst 2, 1) := dc_5 (by decide +kernel)
theorem dX40_step_124 : decode cX40_step 124 = .ok (.irem, 1) := dc_112 (by decide +kernel)
theorem dX40_step_125 : decode cX40_step 125 = .ok (.ifCond .ne 8, 3) := dc_154 (a := 0) (b := 8) (v := 8) (by decide +kernel)
theorem dX40_step_128 : decode cX40_step 128 = .ok (.aload_n 0, 1) := dc_42 (by decide +kernel)
theorem dX40_step_129 : decode cX40_step 129 = .ok (.iload_n 1, 1) := dc_27 (by decide +kernel)
theorem dX40_step_130 : decode cX40_step 130 = .ok (.invokevirtual 113, 3) := dc_182 (a := 0) (b := 113) (n := 113) (by decide +kernel)
theorem dX40_step_133 : decode cX40_step 133 = .ok (.iload_n 1, 1) := dc_27 (by decide +kernel)
theorem dX40_step_134 : decode cX40_step 134 = .ok (.iload 4, 2) := dc_21 (a := 4) (by decide +kernel)
theorem dX40_step_136 : decode cX40_step 136 = .ok (.iconst 4, 1) := dc_7 (by decide +kernel)
theorem dX40_step_137 : decode cX40_step 137 = .ok (.idiv, 1) := dc_108 (by decide +kernel)
theorem dX40_step_138 : decode cX40_step 138 = .ok (.iadd, 1) := dc_96 (by decide +kernel)
theorem dX40_step_139 : decode cX40_step 139 = .ok (.istore 6, 2) := dc_54 (a := 6) (by decide +kernel)
theorem dX40_step_141 : decode cX40_step 141 = .ok (.iload 6, 2) := dc_21 (a := 6) (by decide +kernel)
theorem dX40_step_143 : decode cX40_step 143 = .ok (.aload_n 0, 1) := dc_42 (by decide +kernel)
theorem dX40_step_144 : decode cX40_step 144 = .ok (.getfield 101, 3) := dc_180 (a := 0) (b := 101) (n := 101) (by decide +kernel)
theorem dX40_step_147 : decode cX40_step 147 = .ok (.if_icmp .ge 8, 3) := dc_162 (a := 0) (b := 8) (v := 8) (by decide +kernel)
theorem dX40_step_150 : decode cX40_step 150 = .ok (.iload 6, 2) := dc_21 (a := 6) (by decide +kernel)
theorem dX40_step_152 : decode cX40_step 152 = .ok (.goto 9, 3) := dc_167 (a := 0) (b := 9) (v := 9) (by decide +kernel)
theorem dX40_step_155 : decode cX40_step 155 = .ok (.aload_n 0, 1) := dc_42 (by decide +kernel)
theorem dX40_step_156 : decode cX40_step 156 = .ok (.getfield 101, 3) := dc_180 (a := 0) (b := 101) (n := 101) (by decide +kernel)
theorem dX40_step_159 : decode cX40_step 159 = .ok (.iconst 1, 1) := dc_4 (by decide +kernel)
theorem dX40_step_160 : decode cX40_step 160 = .ok (.isub, 1) := dc_100 (by decide +kernel)
theorem dX40_step_161 : decode cX40_step 161 = .ok (.ireturn, 1) := dc_172 (by decide +kernel)
def fX40_step_b161 (N : Nat) (s0 : Int32) (h : eH) : Option (Int32 × eH) :=
  some (s0, h)
theorem pX40_step_b161 {w : eW} {d : Nat} (hd : 7 ≤ d + 1) {N : Nat} {s0 : Int32} {h : eH} {q} (hf : fX40_step_b161 N s0 h = some q) : wp w (d + 1) YX40_step 161 [none, none, none, none, none, none, none] [.int s0] h (e_is (e_rn c_I q)) := by
  unfold fX40_step_b161 at hf
  cases hf
  exact w_iret dX40_step_161 rfl rfl rfl
def fX40_step_b133 (N : Nat) (l0 : Nat) (l1 : Int32) (l4 : Int32) (h : eH) : Option (Int32 × eH) :=
  (g_I 42 h l0 3).bind fun x1 =>
  if x1 ≤ (l1 + (l4 / (4 : Int32))) then
    (g_I 42 h l0 3).bind fun x4 =>
    fX40_step_b161 N (x4 - (1 : Int32)) h
  else
    fX40_step_b161 N (l1 + (l4 / (4 : Int32))) h
theorem pX40_step_b133 {w : eW} {d : Nat} (hd : 7 ≤ d + 1) {N : Nat} {l0 : Nat} {l1 : Int32} {l4 : Int32} {h : eH} {q} (hf : fX40_step_b133 N l0 l1 l4 h = some q) : wp w (d + 1) YX40_step 133 [some (.ref l0), some (.int l1), none, none, some (.int l4), none, none] [] h (e_is (e_rn c_I q)) := by
  unfold fX40_step_b133 at hf
  refine w_iload_n dX40_step_133 rfl rfl ?_
  refine w_iload dX40_step_134 rfl ?_
  refine w_iconst dX40_step_136 (v := 4) (by decide) ?_
  refine w_idiv dX40_step_137 (by decide) ?_
  refine w_iadd dX40_step_138 ?_
  refine w_istore dX40_step_139 (by decide) (ls' := [some (.ref l0), some (.int l1), none, none, some (.int l4), none, some (.int (l1 + (l4 / (4 : Int32))))]) rfl ?_
  refine w_iload dX40_step_141 rfl ?_
  refine w_aload_n dX40_step_143 rfl rfl ?_
  obtain ⟨x1, b2, hf⟩ := Option.bind_eq_some_iff.mp hf
  refine GX40_101 b2 dX40_step_144 rfl ?_
  refine w_icmp_ge 155 dX40_step_147 (by decide) (fun c3 => ?_) (fun c3 => ?_)
  · replace hf := (if_pos (show x1 ≤ (l1 + (l4 / (4 : Int32))) from c3)).symm.trans hf
    refine w_aload_n dX40_step_155 rfl rfl ?_
    obtain ⟨x4, b5, hf⟩ := Option.bind_eq_some_iff.mp hf
    refine GX40_101 b5 dX40_step_156 rfl ?_
    refine w_iconst dX40_step_159 (v := 1) (by decide) ?_
    refine w_isub dX40_step_160 ?_
    exact (pX40_step_b161 hd hf).to trivial
  · replace hf := (if_neg (show ¬ (x1 ≤ (l1 + (l4 / (4 : Int32)))) from c3)).symm.trans hf
    refine w_iload dX40_step_150 rfl ?_
    refine w_goto 161 dX40_step_152 (by decide) ?_
    exact (pX40_step_b161 hd hf).to trivial
def fX40_step_b119 (N : Nat) (l0 : Nat) (l1 : Int32) (l4 : Int32) (h : eH) : Option (Int32 × eH) :=
  if ¬ ((l4 / (2 : Int32)) - (l4 / (2 : Int32)) / (2 : Int32) * (2 : Int32)) = 0 then
    fX40_step_b133 N l0 l1 l4 h
  else
    (k_ok 42 h l0).bind fun _ =>
    (fX40_remove N l0 l1 h).bind fun q3 =>
    fX40_step_b133 N l0 l1 l4 q3.2
theorem pX40_step_b119 {w : eW} {d : Nat} (hd : 7 ≤ d + 1) {N : Nat} {l0 : Nat} {l1 : Int32} {l4 : Int32} {h : eH} {q} (hf : fX40_step_b119 N l0 l1 l4 h = some q) : wp w (d + 1) YX40_step 119 [some (.ref l0), some (.int l1), none, none, some (.int l4), none, none] [] h (e_is (e_rn c_I q)) := by
  unfold fX40_step_b119 at hf
  refine w_iload dX40_step_119 rfl ?_
  refine w_iconst dX40_step_121 (v := 2) (by decide) ?_
  refine w_idiv dX40_step_122 (by decide) ?_
  refine w_iconst dX40_step_123 (v := 2) (by decide) ?_
  refine w_irem dX40_step_124 (by decide) ?_
  refine w_if_ne 133 dX40_step_125 (by decide) (fun c1 => ?_) (fun c1 => ?_)
  · replace hf := (if_pos (show ¬ ((l4 / (2 : Int32)) - (l4 / (2 : Int32)) / (2 : Int32) * (2 : Int32)) = 0 from c1)).symm.trans hf
    exact (pX40_step_b133 hd hf).to ⟨rfl, rfl, rfl, trivial⟩
  · replace hf := (if_neg (show ¬ (¬ ((l4 / (2 : Int32)) - (l4 / (2 : Int32)) / (2 : Int32) * (2 : Int32)) = 0) from (fun z => z c1))).symm.trans hf
    refine w_aload_n dX40_step_128 rfl rfl ?_
    refine w_iload_n dX40_step_129 rfl rfl ?_
    obtain ⟨_, b2, hf⟩ := Option.bind_eq_some_iff.mp hf
    refine x_cnV hf (e_stV (Yc := YX40_remove) (ci := 42) (av := [.int l1]) (st := []) dX40_step_130 q5698 mX40_remove rfl (k_ok_some b2).1 (k_ok_some b2).2) mX40_remove.2.2.1 mX40_remove.2.2.2.2.1 (Nat.le_of_ble_eq_true rfl) (Nat.le_of_ble_eq_true rfl) (fun q hq => pX40_remove (by omega) hq) (fun q3 hf => ?_)
    exact (pX40_step_b133 hd hf).to ⟨rfl, rfl, rfl, trivial⟩
def fX40_step (N : Nat) (this : Nat) (p0 : Int32) (p1 : Int32) (h : eH) : Option (Int32 × eH) :=
  (g_A 42 h this 1).bind fun a1 =>
  (r_I 100 h a1 p0).bind fun x3 =>
  (g_A 42 h this 1).bind fun a5 =>
  (r_I 100 h a5 (p0 + (1 : Int32))).bind fun x7 =>
  (k_ok 42 h this).bind fun _ =>
  (fX40_found N this x3 x7 h).bind fun q10 =>
  if 0 ≤ q10.1 then
    (g_A 42 q10.2 this 0).bind fun a12 =>
    (fX40_at N a12 (6 : Int32) q10.1 (2 : Int32) q10.2).bind fun q14 =>
    (g_A 42 q14.2 this 0).bind fun a15 =>
    (fX40_at N a15 (6 : Int32) q10.1 (3 : Int32) q14.2).bind fun q17 =>
    if q14.1 < (128 : Int32) then
      (k_ok 42 q17.2 this).bind fun _ =>
      (fX40_insert N this (p0 + (1 : Int32)) q17.1 (0 : Int32) q17.2).bind fun q20 =>
      if ¬ (q14.1 - q14.1 / (2 : Int32) * (2 : Int32)) = 0 then
        fX40_step_b119 N this p0 q14.1 q20.2
      else
        (k_ok 42 q20.2 this).bind fun _ =>
        (fX40_remove N this (p0 + (2 : Int32)) q20.2).bind fun q23 =>
        fX40_step_b119 N this p0 q14.1 q23.2
    else
      (k_ok 42 q17.2 this).bind fun _ =>
      (fX40_scaled N this (7 : Int32) (((256 : Int32) * (q14.1 - (128 : Int32))) + q17.1) p1 q17.2).bind fun q25 =>
      (k_ok 42 q25.2 this).bind fun _ =>
      (fX40_insert N this (p0 + (1 : Int32)) (257 : Int32) q25.1 q25.2).bind fun q27 =>
      some ((p0 + (2 : Int32)), q27.2)
  else
    some ((p0 + (1 : Int32)), q10.2)
theorem pX40_step {w : eW} {d : Nat} (hd : 7 ≤ d) {N : Nat} {this : Nat} {p0 : Int32} {p1 : Int32} {h : eH} {q} (hf : fX40_step N this p0 p1 h = some q) : wm w d YX40_step [.ref this, .int p0, .int p1] h (e_is (e_rn c_I q)) := by
  obtain ⟨d, rfl⟩ : ∃ e, d = e + 1 := ⟨d - 1, by omega⟩
  show wp w (d + 1) YX40_step 0 [some (.ref this), some (.int p0), some (.int p1), none, none, none, none] [] h _
  unfold fX40_step at hf
  refine w_aload_n dX40_step_0 rfl rfl ?_
  refine w_aload_n dX40_step_1 rfl rfl ?_
  obtain ⟨a1, b2, hf⟩ := Option.bind_eq_some_iff.mp hf
  refine GX40_15 b2 dX40_step_2 rfl ?_
  refine w_iload_n dX40_step_5 rfl rfl ?_
  obtain ⟨x3, b4, hf⟩ := Option.bind_eq_some_iff.mp hf
  refine x_rI b4 dX40_step_6 ?_
  refine w_aload_n dX40_step_7 rfl rfl ?_
  obtain ⟨a5, b6, hf⟩ := Option.bind_eq_some_iff.mp hf
  refine GX40_15 b6 dX40_step_8 rfl ?_
  refine w_iload_n dX40_step_11 rfl rfl ?_
  refine w_iconst dX40_step_12 (v := 1) (by decide) ?_
  refine w_iadd dX40_step_13 ?_
  obtain ⟨x7, b8, hf⟩ := Option.bind_eq_some_iff.mp hf
  refine x_rI b8 dX40_step_14 ?_
  obtain ⟨_, b9, hf⟩ := Option.bind_eq_some_iff.mp hf
  refine x_cnI hf (e_stV (Yc := YX40_found) (ci := 42) (av := [.int x3, .int x7]) (st := []) dX40_step_15 q5694 mX40_found rfl (k_ok_some b9).1 (k_ok_some b9).2) mX40_found.2.2.1 mX40_found.2.2.2.2.1 (Nat.le_of_ble_eq_true rfl) (Nat.le_of_ble_eq_true rfl) (fun q hq => pX40_found (by omega) hq) (fun q10 hf => ?_)
  refine w_istore_n dX40_step_18 rfl (by decide) (ls' := [some (.ref this), some (.int p0), some (.int p1), some (.int q10.1), none, none, none]) rfl ?_
  refine w_iload_n dX40_step_19 rfl rfl ?_
  refine w_if_ge 27 dX40_step_20 (by decide) (fun c11 => ?_) (fun c11 => ?_)
  · replace hf := (if_pos (show 0 ≤ q10.1 from c11)).symm.trans hf
    refine w_aload_n dX40_step_27 rfl rfl ?_
    obtain ⟨a12, b13, hf⟩ := Option.bind_eq_some_iff.mp hf
    refine GX40_9 b13 dX40_step_28 rfl ?_
    refine w_bipush dX40_step_31 (v := 6) (by decide) ?_
    refine w_iload_n dX40_step_33 rfl rfl ?_
    refine w_iconst dX40_step_34 (v := 2) (by decide) ?_
    refine x_cnI hf (e_stS (Yc := YX40_at) (av := [.ref a12, .int (6 : Int32), .int q10.1, .int (2 : Int32)]) (st := []) dX40_step_35 q4928 mX40_at) mX40_at.2.2.1 mX40_at.2.2.2.2.1 (Nat.le_of_ble_eq_true rfl) (Nat.le_of_ble_eq_true rfl) (fun q hq => pX40_at (by omega) hq) (fun q14 hf => ?_)
    refine w_istore dX40_step_38 (by decide) (ls' := [some (.ref this), some (.int p0), some (.int p1), some (.int q10.1), some (.int q14.1), none, none]) rfl ?_
    refine w_aload_n dX40_step_40 rfl rfl ?_
    obtain ⟨a15, b16, hf⟩ := Option.bind_eq_some_iff.mp hf
    refine GX40_9 b16 dX40_step_41 rfl ?_
    refine w_bipush dX40_step_44 (v := 6) (by decide) ?_
    refine w_iload_n dX40_step_46 rfl rfl ?_
    refine w_iconst dX40_step_47 (v := 3) (by decide) ?_
    refine x_cnI hf (e_stS (Yc := YX40_at) (av := [.ref a15, .int (6 : Int32), .int q10.1, .int (3 : Int32)]) (st := []) dX40_step_48 q4928 mX40_at) mX40_at.2.2.1 mX40_at.2.2.2.2.1 (Nat.le_of_ble_eq_true rfl) (Nat.le_of_ble_eq_true rfl) (fun q hq => pX40_at (by omega) hq) (fun q17 hf => ?_)
    refine w_istore dX40_step_51 (by decide) (ls' := [some (.ref this), some (.int p0), some (.int p1), some (.int q10.1), some (.int q14.1), some (.int q17.1), none]) rfl ?_
    refine w_iload dX40_step_53 rfl ?_
    refine w_sipush dX40_step_55 (v := 128) (by decide) ?_
    refine w_icmp_lt 95 dX40_step_58 (by decide) (fun c18 => ?_) (fun c18 => ?_)
    · replace hf := (if_pos (show q14.1 < (128 : Int32) from c18)).symm.trans hf
      refine w_aload_n dX40_step_95 rfl rfl ?_
      refine w_iload_n dX40_step_96 rfl rfl ?_
      refine w_iconst dX40_step_97 (v := 1) (by decide) ?_
      refine w_iadd dX40_step_98 ?_
      refine w_iload dX40_step_99 rfl ?_
      refine w_iconst dX40_step_101 (v := 0) (by decide) ?_
      obtain ⟨_, b19, hf⟩ := Option.bind_eq_some_iff.mp hf
      refine x_cnV hf (e_stV (Yc := YX40_insert) (ci := 42) (av := [.int (p0 + (1 : Int32)), .int q17.1, .int (0 : Int32)]) (st := []) dX40_step_102 q5686 mX40_insert rfl (k_ok_some b19).1 (k_ok_some b19).2) mX40_insert.2.2.1 mX40_insert.2.2.2.2.1 (Nat.le_of_ble_eq_true rfl) (Nat.le_of_ble_eq_true rfl) (fun q hq => pX40_insert (by omega) hq) (fun q20 hf => ?_)
      refine w_iload dX40_step_105 rfl ?_
      refine w_iconst dX40_step_107 (v := 2) (by decide) ?_
      refine w_irem dX40_step_108 (by decide) ?_
      refine w_if_ne 119 dX40_step_109 (by decide) (fun c21 => ?_) (fun c21 => ?_)
      · replace hf := (if_pos (show ¬ (q14.1 - q14.1 / (2 : Int32) * (2 : Int32)) = 0 from c21)).symm.trans hf
        exact (pX40_step_b119 hd hf).to ⟨rfl, rfl, rfl, trivial⟩
      · replace hf := (if_neg (show ¬ (¬ (q14.1 - q14.1 / (2 : Int32) * (2 : Int32)) = 0) from (fun z => z c21))).symm.trans hf
        refine w_aload_n dX40_step_112 rfl rfl ?_
        refine w_iload_n dX40_step_113 rfl rfl ?_
        refine w_iconst dX40_step_114 (v := 2) (by decide) ?_
        refine w_iadd dX40_step_115 ?_
        obtain ⟨_, b22, hf⟩ := Option.bind_eq_some_iff.mp hf
        refine x_cnV hf (e_stV (Yc := YX40_remove) (ci := 42) (av := [.int (p0 + (2 : Int32))]) (st := []) dX40_step_116 q5698 mX40_remove rfl (k_ok_some b22).1 (k_ok_some b22).2) mX40_remove.2.2.1 mX40_remove.2.2.2.2.1 (Nat.le_of_ble_eq_true rfl) (Nat.le_of_ble_eq_true rfl) (fun q hq => pX40_remove (by omega) hq) (fun q23 hf => ?_)
        exact (pX40_step_b119 hd hf).to ⟨rfl, rfl, rfl, trivial⟩
    · replace hf := (if_neg (show ¬ (q14.1 < (128 : Int32)) from c18)).symm.trans hf
      refine w_aload_n dX40_step_61 rfl rfl ?_
      refine w_iload_n dX40_step_62 rfl rfl ?_
      refine w_iconst dX40_step_63 (v := 1) (by decide) ?_
      refine w_iadd dX40_step_64 ?_
      refine w_sipush dX40_step_65 (v := 257) (by decide) ?_
      refine w_aload_n dX40_step_68 rfl rfl ?_
      refine w_bipush dX40_step_69 (v := 7) (by decide) ?_
      refine w_sipush dX40_step_71 (v := 256) (by decide) ?_
      refine w_iload dX40_step_74 rfl ?_
      refine w_sipush dX40_step_76 (v := 128) (by decide) ?_
      refine w_isub dX40_step_79 ?_
      refine w_imul dX40_step_80 ?_
      refine w_iload dX40_step_81 rfl ?_
      refine w_iadd dX40_step_83 ?_
      refine w_iload_n dX40_step_84 rfl rfl ?_
      obtain ⟨_, b24, hf⟩ := Option.bind_eq_some_iff.mp hf
      refine x_cnI hf (e_stV (Yc := YX40_scaled) (ci := 42) (av := [.int (7 : Int32), .int (((256 : Int32) * (q14.1 - (128 : Int32))) + q17.1), .int p1]) (st := [.int (257 : Int32), .int (p0 + (1 : Int32)), .ref this]) dX40_step_85 q5395 mX40_scaled rfl (k_ok_some b24).1 (k_ok_some b24).2) mX40_scaled.2.2.1 mX40_scaled.2.2.2.2.1 (Nat.le_of_ble_eq_true rfl) (Nat.le_of_ble_eq_true rfl) (fun q hq => pX40_scaled (by omega) hq) (fun q25 hf => ?_)
      obtain ⟨_, b26, hf⟩ := Option.bind_eq_some_iff.mp hf
      refine x_cnV hf (e_stV (Yc := YX40_insert) (ci := 42) (av := [.int (p0 + (1 : Int32)), .int (257 : Int32), .int q25.1]) (st := []) dX40_step_88 q5686 mX40_insert rfl (k_ok_some b26).1 (k_ok_some b26).2) mX40_insert.2.2.1 mX40_insert.2.2.2.2.1 (Nat.le_of_ble_eq_true rfl) (Nat.le_of_ble_eq_true rfl) (fun q hq => pX40_insert (by omega) hq) (fun q27 hf => ?_)
      refine w_iload_n dX40_step_91 rfl rfl ?_
      refine w_iconst dX40_step_92 (v := 2) (by decide) ?_
      refine w_iadd dX40_step_93 ?_
      cases hf
      exact w_iret dX40_step_94 rfl rfl rfl
  · replace hf := (if_neg (show ¬ (0 ≤ q10.1) from c11)).symm.trans hf
    refine w_iload_n dX40_step_23 rfl rfl ?_
    refine w_iconst dX40_step_24 (v := 1) (by decide) ?_
    refine w_iadd dX40_step_25 ?_
    cases hf
    exact w_iret dX40_step_26 rfl rfl rfl
abbrev cX40_set : ByteArray := prog_41_method_34_code
def yX40_set : MethodName := ⟨RX40, "set", "([IIII)Z"⟩
def YX40_set : eY := (yX40_set, cX40_set, 8, (Option.some FieldType.boolean), [])
theorem mX40_set : e_mv YX40_set RX40 4 := ⟨q5680, q5681, q5682, by decide, by decide +kernel, (e_sig (by decide +kernel))⟩
theorem dX40_set_0 : decode cX40_set 0 = .ok (.aload_n 0, 1) := dc_42 (by decide +kernel)
theorem dX40_set_1 : decode cX40_set 1 = .ok (.iconst 0, 1) := dc_3 (by decide +kernel)
theorem dX40_set_2 : decode cX40_set 2 = .ok (.putfield 101, 3) := dc_181 (a := 0) (b := 101) (n := 101) (by decide +kernel)
theorem dX40_set_5 : decode cX40_set 5 = .ok (.aload_n 0, 1) := dc_42 (by decide +kernel)
theorem dX40_set_6 : decode cX40_set 6 = .ok (.getfield 9, 3) := dc_180 (a := 0) (b := 9) (n := 9) (by decide +kernel)
theorem dX40_set_9 : decode cX40_set 9 = .ok (.invokestatic 98, 3) := dc_184 (a := 0) (b := 98) (n := 98) (by decide +kernel)
theorem dX40_set_12 : decode cX40_set 12 = .ok (.ifCond .lt 12, 3) := dc_155 (a := 0) (b := 12) (v := 12) (by decide +kernel)
theorem dX40_set_15 : decode cX40_set 15 = .ok (.aload_n 0, 1) := dc_42 (by decide +kernel)
theorem dX40_set_16 : decode cX40_set 16 = .ok (.iconst 0, 1) := dc_3 (by decide +kernel)
theorem dX40_set_17 : decode cX40_set 17 = .ok (.sipush 256, 3) := dc_17 (a := 1) (b := 0) (v := 256) (by decide +kernel)
theorem dX40_set_20 : decode cX40_set 20 = .ok (.iconst 0, 1) := dc_3 (by decide +kernel)
theorem dX40_set_21 : decode cX40_set 21 = .ok (.invokevirtual 109, 3) := dc_182 (a := 0) (b := 109) (n := 109) (by decide +kernel)
theorem dX40_set_24 : decode cX40_set 24 = .ok (.iload_n 2, 1) := dc_28 (by decide +kernel)
theorem dX40_set_25 : decode cX40_set 25 = .ok (.istore 5, 2) := dc_54 (a := 5) (by decide +kernel)
theorem dX40_set_27 : decode cX40_set 27 = .ok (.iload 5, 2) := dc_21 (a := 5) (by decide +kernel)
theorem dX40_set_29 : decode cX40_set 29 = .ok (.iload_n 3, 1) := dc_29 (by decide +kernel)
theorem dX40_set_30 : decode cX40_set 30 = .ok (.if_icmp .ge 22, 3) := dc_162 (a := 0) (b := 22) (v := 22) (by decide +kernel)
theorem dX40_set_33 : decode cX40_set 33 = .ok (.aload_n 0, 1) := dc_42 (by decide +kernel)
theorem dX40_set_34 : decode cX40_set 34 = .ok (.aload_n 0, 1) := dc_42 (by decide +kernel)
theorem dX40_set_35 : decode cX40_set 35 = .ok (.getfield 101, 3) := dc_180 (a := 0) (b := 101) (n := 101) (by decide +kernel)
theorem dX40_set_38 : decode cX40_set 38 = .ok (.aload_n 1, 1) := dc_43 (by decide +kernel)
theorem dX40_set_39 : decode cX40_set 39 = .ok (.iload 5, 2) := dc_21 (a := 5) (by decide +kernel)
theorem dX40_set_41 : decode cX40_set 41 = .ok (.iaload, 1) := dc_46 (by decide +kernel)
theorem dX40_set_42 : decode cX40_set 42 = .ok (.iconst 0, 1) := dc_3 (by decide +kernel)
theorem dX40_set_43 : decode cX40_set 43 = .ok (.invokevirtual 109, 3) := dc_182 (a := 0) (b := 109) (n := 109) (by decide +kernel)
theorem dX40_set_46 : decode cX40_set 46 = .ok (.iinc 5 1, 3) := dc_132 (a := 5) (b := 1) (v := 1) (by decide +kernel)
theorem dX40_set_49 : decode cX40_set 49 = .ok (.goto (-22), 3) := dc_167 (a := 255) (b := 234) (v := -22) (by decide +kernel)
theorem dX40_set_52 : decode cX40_set 52 = .ok (.aload_n 0, 1) := dc_42 (by decide +kernel)
theorem dX40_set_53 : decode cX40_set 53 = .ok (.getfield 9, 3) := dc_180 (a := 0) (b := 9) (n := 9) (by decide +kernel)
theorem dX40_set_56 : decode cX40_set 56 = .ok (.invokestatic 56, 3) := dc_184 (a := 0) (b := 56) (n := 56) (by decide +kernel)
theorem dX40_set_59 : decode cX40_set 59 = .ok (.ifCond .lt 15, 3) := dc_155 (a := 0) (b := 15) (v := 15) (by decide +kernel)
theorem dX40_set_62 : decode cX40_set 62 = .ok (.aload_n 0, 1) := dc_42 (by decide +kernel)
theorem dX40_set_63 : decode cX40_set 63 = .ok (.aload_n 0, 1) := dc_42 (by decide +kernel)
theorem dX40_set_64 : decode cX40_set 64 = .ok (.getfield 101, 3) := dc_180 (a := 0) (b := 101) (n := 101) (by decide +kernel)
theorem dX40_set_67 : decode cX40_set 67 = .ok (.sipush 256, 3) := dc_17 (a := 1) (b := 0) (v := 256) (by decide +kernel)
theorem dX40_set_70 : decode cX40_set 70 = .ok (.iconst 0, 1) := dc_3 (by decide +kernel)
theorem dX40_set_71 : decode cX40_set 71 = .ok (.invokevirtual 109, 3) := dc_182 (a := 0) (b := 109) (n := 109) (by decide +kernel)
theorem dX40_set_74 : decode cX40_set 74 = .ok (.iconst 0, 1) := dc_3 (by decide +kernel)
theorem dX40_set_75 : decode cX40_set 75 = .ok (.istore 5, 2) := dc_54 (a := 5) (by decide +kernel)
theorem dX40_set_77 : decode cX40_set 77 = .ok (.iconst 0, 1) := dc_3 (by decide +kernel)
theorem dX40_set_78 : decode cX40_set 78 = .ok (.istore 6, 2) := dc_54 (a := 6) (by decide +kernel)
theorem dX40_set_80 : decode cX40_set 80 = .ok (.iload 5, 2) := dc_21 (a := 5) (by decide +kernel)
theorem dX40_set_82 : decode cX40_set 82 = .ok (.iconst 1, 1) := dc_4 (by decide +kernel)
theorem dX40_set_83 : decode cX40_set 83 = .ok (.iadd, 1) := dc_96 (by decide +kernel)
theorem dX40_set_84 : decode cX40_set 84 = .ok (.aload_n 0, 1) := dc_42 (by decide +kernel)
theorem dX40_set_85 : decode cX40_set 85 = .ok (.getfield 101, 3) := dc_180 (a := 0) (b := 101) (n := 101) (by decide +kernel)
theorem dX40_set_88 : decode cX40_set 88 = .ok (.if_icmp .ge 29, 3) := dc_162 (a := 0) (b := 29) (v := 29) (by decide +kernel)
theorem dX40_set_91 : decode cX40_set 91 = .ok (.iload 6, 2) := dc_21 (a := 6) (by decide +kernel)
theorem dX40_set_93 : decode cX40_set 93 = .ok (.sipush 1000, 3) := dc_17 (a := 3) (b := 232) (v := 1000) (by decide +kernel)
theorem dX40_set_96 : decode cX40_set 96 = .ok (.if_icmp .ne 5, 3) := dc_160 (a := 0) (b := 5) (v := 5) (by decide +kernel)
theorem dX40_set_99 : decode cX40_set 99 = .ok (.iconst 0, 1) := dc_3 (by decide +kernel)
theorem dX40_set_100 : decode cX40_set 100 = .ok (.ireturn, 1) := dc_172 (by decide +kernel)
theorem dX40_set_101 : decode cX40_set 101 = .ok (.iinc 6 1, 3) := dc_132 (a := 6) (b := 1) (v := 1) (by decide +kernel)
theorem dX40_set_104 : decode cX40_set 104 = .ok (.aload_n 0, 1) := dc_42 (by decide +kernel)
theorem dX40_set_105 : decode cX40_set 105 = .ok (.iload 5, 2) := dc_21 (a := 5) (by decide +kernel)
theorem dX40_set_107 : decode cX40_set 107 = .ok (.iload 4, 2) := dc_21 (a := 4) (by decide +kernel)
theorem dX40_set_109 : decode cX40_set 109 = .ok (.invokevirtual 117, 3) := dc_182 (a := 0) (b := 117) (n := 117) (by decide +kernel)
theorem dX40_set_112 : decode cX40_set 112 = .ok (.istore 5, 2) := dc_54 (a := 5) (by decide +kernel)
theorem dX40_set_114 : decode cX40_set 114 = .ok (.goto (-34), 3) := dc_167 (a := 255) (b := 222) (v := -34) (by decide +kernel)
theorem dX40_set_117 : decode cX40_set 117 = .ok (.aload_n 0, 1) := dc_42 (by decide +kernel)
theorem dX40_set_118 : decode cX40_set 118 = .ok (.getfield 101, 3) := dc_180 (a := 0) (b := 101) (n := 101) (by decide +kernel)
theorem dX40_set_121 : decode cX40_set 121 = .ok (.iconst 1, 1) := dc_4 (by decide +kernel)
theorem dX40_set_122 : decode cX40_set 122 = .ok (.isub, 1) := dc_100 (by decide +kernel)
theorem dX40_set_123 : decode cX40_set 123 = .ok (.istore 7, 2) := dc_54 (a := 7) (by decide +kernel)
theorem dX40_set_125 : decode cX40_set 125 = .ok (.iload 7, 2) := dc_21 (a := 7) (by decide +kernel)
theorem dX40_set_127 : decode cX40_set 127 = .ok (.ifCond .lt 28, 3) := dc_155 (a := 0) (b := 28) (v := 28) (by decide +kernel)
theorem dX40_set_130 : decode cX40_set 130 = .ok (.aload_n 0, 1) := dc_42 (by decide +kernel)
theorem dX40_set_131 : decode cX40_set 131 = .ok (.getfield 15, 3) := dc_180 (a := 0) (b := 15) (n := 15) (by decide +kernel)
theorem dX40_set_134 : decode cX40_set 134 = .ok (.iload 7, 2) := dc_21 (a := 7) (by decide +kernel)
theorem dX40_set_136 : decode cX40_set 136 = .ok (.iaload, 1) := dc_46 (by decide +kernel)
theorem dX40_set_137 : decode cX40_set 137 = .ok (.sipush 256, 3) := dc_17 (a := 1) (b := 0) (v := 256) (by decide +kernel)
theorem dX40_set_140 : decode cX40_set 140 = .ok (.if_icmp .ne 9, 3) := dc_160 (a := 0) (b := 9) (v := 9) (by decide +kernel)
theorem dX40_set_143 : decode cX40_set 143 = .ok (.aload_n 0, 1) := dc_42 (by decide +kernel)
theorem dX40_set_144 : decode cX40_set 144 = .ok (.iload 7, 2) := dc_21 (a := 7) (by decide +kernel)
theorem dX40_set_146 : decode cX40_set 146 = .ok (.invokevirtual 113, 3) := dc_182 (a := 0) (b := 113) (n := 113) (by decide +kernel)
theorem dX40_set_149 : decode cX40_set 149 = .ok (.iinc 7 (-1), 3) := dc_132 (a := 7) (b := 255) (v := -1) (by decide +kernel)
theorem dX40_set_152 : decode cX40_set 152 = .ok (.goto (-27), 3) := dc_167 (a := 255) (b := 229) (v := -27) (by decide +kernel)
theorem dX40_set_155 : decode cX40_set 155 = .ok (.iconst 1, 1) := dc_4 (by decide +kernel)
theorem dX40_set_156 : decode cX40_set 156 = .ok (.ireturn, 1) := dc_172 (by decide +kernel)
def fX40_set_b149 (N : Nat) (k125 : Nat → Int32 → eH → Option (Int32 × eH)) (l0 : Nat) (l7 : Int32) (h : eH) : Option (Int32 × eH) :=
  k125 l0 (l7 + (-1 : Int32)) h
theorem pX40_set_b149 {w : eW} {d : Nat} (hd : 8 ≤ d + 1) {N : Nat} {k125 : Nat → Int32 → eH → Option (Int32 × eH)} (hk125 : ∀ l0 l7 h q, k125 l0 l7 h = some q → wp w (d + 1) YX40_set 125 [some (.ref l0), none, none, none, none, none, none, some (.int l7)] [] h (e_is (e_rn c_I q))) {l0 : Nat} {l7 : Int32} {h : eH} {q} (hf : fX40_set_b149 N k125 l0 l7 h = some q) : wp w (d + 1) YX40_set 149 [some (.ref l0), none, none, none, none, none, none, some (.int l7)] [] h (e_is (e_rn c_I q)) := by
  unfold fX40_set_b149 at hf
  refine w_iinc dX40_set_149 (v := (l7 + (-1 : Int32))) rfl rfl (by decide) (ls' := [some (.ref l0), none, none, none, none, none, none, some (.int (l7 + (-1 : Int32)))]) rfl ?_
  refine w_goto 125 dX40_set_152 (by decide) ?_
  exact (hk125 _ _ _ _ hf).to ⟨rfl, rfl, trivial⟩
def fX40_set_b125 (N : Nat) : Nat → Nat → Int32 → eH → Option (Int32 × eH)
  | 0, _, _, _ => none
  | n + 1, l0, l7, h =>
    if l7 < 0 then
      some ((1 : Int32), h)
    else
      (g_A 42 h l0 1).bind fun a2 =>
      (r_I 100 h a2 l7).bind fun x4 =>
      if ¬ x4 = (256 : Int32) then
        fX40_set_b149 N (fX40_set_b125 N n) l0 l7 h
      else
        (k_ok 42 h l0).bind fun _ =>
        (fX40_remove N l0 l7 h).bind fun q8 =>
        fX40_set_b149 N (fX40_set_b125 N n) l0 l7 q8.2
theorem pX40_set_b125 {w : eW} {d : Nat} (hd : 8 ≤ d + 1) {N : Nat} : ∀ (n : Nat) l0 l7 h q, fX40_set_b125 N n l0 l7 h = some q → wp w (d + 1) YX40_set 125 [some (.ref l0), none, none, none, none, none, none, some (.int l7)] [] h (e_is (e_rn c_I q)) := by
  intro n
  induction n with
  | zero => intro l0 l7 h q hf; simp [fX40_set_b125] at hf
  | succ n ih =>
    intro l0 l7 h q hf
    rw [fX40_set_b125] at hf
    refine w_iload dX40_set_125 rfl ?_
    refine w_if_lt 155 dX40_set_127 (by decide) (fun c1 => ?_) (fun c1 => ?_)
    · replace hf := (if_pos (show l7 < 0 from c1)).symm.trans hf
      refine w_iconst dX40_set_155 (v := 1) (by decide) ?_
      cases hf
      exact w_iret dX40_set_156 rfl rfl rfl
    · replace hf := (if_neg (show ¬ (l7 < 0) from c1)).symm.trans hf
      refine w_aload_n dX40_set_130 rfl rfl ?_
      obtain ⟨a2, b3, hf⟩ := Option.bind_eq_some_iff.mp hf
      refine GX40_15 b3 dX40_set_131 rfl ?_
      refine w_iload dX40_set_134 rfl ?_
      obtain ⟨x4, b5, hf⟩ := Option.bind_eq_some_iff.mp hf
      refine x_rI b5 dX40_set_136 ?_
      refine w_sipush dX40_set_137 (v := 256) (by decide) ?_
      refine w_icmp_ne 149 dX40_set_140 (by decide) (fun c6 => ?_) (fun c6 => ?_)
      · replace hf := (if_pos (show ¬ x4 = (256 : Int32) from c6)).symm.trans hf
        exact (pX40_set_b149 hd ih hf).to ⟨rfl, rfl, trivial⟩
      · replace hf := (if_neg (show ¬ (¬ x4 = (256 : Int32)) from (fun z => z c6))).symm.trans hf
        refine w_aload_n dX40_set_143 rfl rfl ?_
        refine w_iload dX40_set_144 rfl ?_
        obtain ⟨_, b7, hf⟩ := Option.bind_eq_some_iff.mp hf
        refine x_cnV hf (e_stV (Yc := YX40_remove) (ci := 42) (av := [.int l7]) (st := []) dX40_set_146 q5698 mX40_remove rfl (k_ok_some b7).1 (k_ok_some b7).2) mX40_remove.2.2.1 mX40_remove.2.2.2.2.1 (Nat.le_of_ble_eq_true rfl) (Nat.le_of_ble_eq_true rfl) (fun q hq => pX40_remove (by omega) hq) (fun q8 hf => ?_)
        exact (pX40_set_b149 hd ih hf).to ⟨rfl, rfl, trivial⟩
def fX40_set_b80 (N : Nat) : Nat → Nat → Int32 → Int32 → Int32 → eH → Option (Int32 × eH)
  | 0, _, _, _, _, _ => none
  | n + 1, l0, l4, l5, l6, h =>
    (g_I 42 h l0 3).bind fun x1 =>
    if x1 ≤ (l5 + (1 : Int32)) then
      (g_I 42 h l0 3).bind fun x4 =>
      fX40_set_b125 N N l0 (x4 - (1 : Int32)) h
    else
      if ¬ l6 = (1000 : Int32) then
        (k_ok 42 h l0).bind fun _ =>
        (fX40_step N l0 l5 l4 h).bind fun q8 =>
        fX40_set_b80 N n l0 l4 q8.1 (l6 + (1 : Int32)) q8.2
      else
        some ((0 : Int32), h)
theorem pX40_set_b80 {w : eW} {d : Nat} (hd : 8 ≤ d + 1) {N : Nat} : ∀ (n : Nat) l0 l4 l5 l6 h q, fX40_set_b80 N n l0 l4 l5 l6 h = some q → wp w (d + 1) YX40_set 80 [some (.ref l0), none, none, none, some (.int l4), some (.int l5), some (.int l6), none] [] h (e_is (e_rn c_I q)) := by
  intro n
  induction n with
  | zero => intro l0 l4 l5 l6 h q hf; simp [fX40_set_b80] at hf
  | succ n ih =>
    intro l0 l4 l5 l6 h q hf
    rw [fX40_set_b80] at hf
    refine w_iload dX40_set_80 rfl ?_
    refine w_iconst dX40_set_82 (v := 1) (by decide) ?_
    refine w_iadd dX40_set_83 ?_
    refine w_aload_n dX40_set_84 rfl rfl ?_
    obtain ⟨x1, b2, hf⟩ := Option.bind_eq_some_iff.mp hf
    refine GX40_101 b2 dX40_set_85 rfl ?_
    refine w_icmp_ge 117 dX40_set_88 (by decide) (fun c3 => ?_) (fun c3 => ?_)
    · replace hf := (if_pos (show x1 ≤ (l5 + (1 : Int32)) from c3)).symm.trans hf
      refine w_aload_n dX40_set_117 rfl rfl ?_
      obtain ⟨x4, b5, hf⟩ := Option.bind_eq_some_iff.mp hf
      refine GX40_101 b5 dX40_set_118 rfl ?_
      refine w_iconst dX40_set_121 (v := 1) (by decide) ?_
      refine w_isub dX40_set_122 ?_
      refine w_istore dX40_set_123 (by decide) (ls' := [some (.ref l0), none, none, none, some (.int l4), some (.int l5), some (.int l6), some (.int (x4 - (1 : Int32)))]) rfl ?_
      exact (pX40_set_b125 hd N _ _ _ _ hf).to ⟨rfl, rfl, trivial⟩
    · replace hf := (if_neg (show ¬ (x1 ≤ (l5 + (1 : Int32))) from c3)).symm.trans hf
      refine w_iload dX40_set_91 rfl ?_
      refine w_sipush dX40_set_93 (v := 1000) (by decide) ?_
      refine w_icmp_ne 101 dX40_set_96 (by decide) (fun c6 => ?_) (fun c6 => ?_)
      · replace hf := (if_pos (show ¬ l6 = (1000 : Int32) from c6)).symm.trans hf
        refine w_iinc dX40_set_101 (v := (l6 + (1 : Int32))) rfl rfl (by decide) (ls' := [some (.ref l0), none, none, none, some (.int l4), some (.int l5), some (.int (l6 + (1 : Int32))), none]) rfl ?_
        refine w_aload_n dX40_set_104 rfl rfl ?_
        refine w_iload dX40_set_105 rfl ?_
        refine w_iload dX40_set_107 rfl ?_
        obtain ⟨_, b7, hf⟩ := Option.bind_eq_some_iff.mp hf
        refine x_cnI hf (e_stV (Yc := YX40_step) (ci := 42) (av := [.int l5, .int l4]) (st := []) dX40_set_109 q5690 mX40_step rfl (k_ok_some b7).1 (k_ok_some b7).2) mX40_step.2.2.1 mX40_step.2.2.2.2.1 (Nat.le_of_ble_eq_true rfl) (Nat.le_of_ble_eq_true rfl) (fun q hq => pX40_step (by omega) hq) (fun q8 hf => ?_)
        refine w_istore dX40_set_112 (by decide) (ls' := [some (.ref l0), none, none, none, some (.int l4), some (.int q8.1), some (.int (l6 + (1 : Int32))), none]) rfl ?_
        refine w_goto 80 dX40_set_114 (by decide) ?_
        exact (ih _ _ _ _ _ _ hf).to ⟨rfl, rfl, rfl, rfl, trivial⟩
      · replace hf := (if_neg (show ¬ (¬ l6 = (1000 : Int32)) from (fun z => z c6))).symm.trans hf
        refine w_iconst dX40_set_99 (v := 0) (by decide) ?_
        cases hf
        exact w_iret dX40_set_100 rfl rfl rfl
def fX40_set_b74 (N : Nat) (l0 : Nat) (l4 : Int32) (h : eH) : Option (Int32 × eH) :=
  fX40_set_b80 N N l0 l4 (0 : Int32) (0 : Int32) h
theorem pX40_set_b74 {w : eW} {d : Nat} (hd : 8 ≤ d + 1) {N : Nat} {l0 : Nat} {l4 : Int32} {h : eH} {q} (hf : fX40_set_b74 N l0 l4 h = some q) : wp w (d + 1) YX40_set 74 [some (.ref l0), none, none, none, some (.int l4), none, none, none] [] h (e_is (e_rn c_I q)) := by
  unfold fX40_set_b74 at hf
  refine w_iconst dX40_set_74 (v := 0) (by decide) ?_
  refine w_istore dX40_set_75 (by decide) (ls' := [some (.ref l0), none, none, none, some (.int l4), some (.int (0 : Int32)), none, none]) rfl ?_
  refine w_iconst dX40_set_77 (v := 0) (by decide) ?_
  refine w_istore dX40_set_78 (by decide) (ls' := [some (.ref l0), none, none, none, some (.int l4), some (.int (0 : Int32)), some (.int (0 : Int32)), none]) rfl ?_
  exact (pX40_set_b80 hd N _ _ _ _ _ _ hf).to ⟨rfl, rfl, rfl, rfl, trivial⟩
def fX40_set_b27 (N : Nat) : Nat → Nat → Nat → Int32 → Int32 → Int32 → eH → Option (Int32 × eH)
  | 0, _, _, _, _, _, _ => none
  | n + 1, l0, l1, l3, l4, l5, h =>
    if l3 ≤ l5 then
      (g_A 42 h l0 0).bind fun a2 =>
      (fX40_edgeOf N a2 h).bind fun q4 =>
      if q4.1 < 0 then
        fX40_set_b74 N l0 l4 q4.2
      else
        (g_I 42 q4.2 l0 3).bind fun x6 =>
        (k_ok 42 q4.2 l0).bind fun _ =>
        (fX40_insert N l0 x6 (256 : Int32) (0 : Int32) q4.2).bind fun q9 =>
        fX40_set_b74 N l0 l4 q9.2
    else
      (g_I 42 h l0 3).bind fun x10 =>
      (r_I 100 h l1 l5).bind fun x12 =>
      (k_ok 42 h l0).bind fun _ =>
      (fX40_insert N l0 x10 x12 (0 : Int32) h).bind fun q15 =>
      fX40_set_b27 N n l0 l1 l3 l4 (l5 + (1 : Int32)) q15.2
theorem pX40_set_b27 {w : eW} {d : Nat} (hd : 8 ≤ d + 1) {N : Nat} : ∀ (n : Nat) l0 l1 l3 l4 l5 h q, fX40_set_b27 N n l0 l1 l3 l4 l5 h = some q → wp w (d + 1) YX40_set 27 [some (.ref l0), some (.ref l1), none, some (.int l3), some (.int l4), some (.int l5), none, none] [] h (e_is (e_rn c_I q)) := by
  intro n
  induction n with
  | zero => intro l0 l1 l3 l4 l5 h q hf; simp [fX40_set_b27] at hf
  | succ n ih =>
    intro l0 l1 l3 l4 l5 h q hf
    rw [fX40_set_b27] at hf
    refine w_iload dX40_set_27 rfl ?_
    refine w_iload_n dX40_set_29 rfl rfl ?_
    refine w_icmp_ge 52 dX40_set_30 (by decide) (fun c1 => ?_) (fun c1 => ?_)
    · replace hf := (if_pos (show l3 ≤ l5 from c1)).symm.trans hf
      refine w_aload_n dX40_set_52 rfl rfl ?_
      obtain ⟨a2, b3, hf⟩ := Option.bind_eq_some_iff.mp hf
      refine GX40_9 b3 dX40_set_53 rfl ?_
      refine x_cnI hf (e_stS (Yc := YX40_edgeOf) (av := [.ref a2]) (st := []) dX40_set_56 q4965 mX40_edgeOf) mX40_edgeOf.2.2.1 mX40_edgeOf.2.2.2.2.1 (Nat.le_of_ble_eq_true rfl) (Nat.le_of_ble_eq_true rfl) (fun q hq => pX40_edgeOf (by omega) hq) (fun q4 hf => ?_)
      refine w_if_lt 74 dX40_set_59 (by decide) (fun c5 => ?_) (fun c5 => ?_)
      · replace hf := (if_pos (show q4.1 < 0 from c5)).symm.trans hf
        exact (pX40_set_b74 hd hf).to ⟨rfl, rfl, trivial⟩
      · replace hf := (if_neg (show ¬ (q4.1 < 0) from c5)).symm.trans hf
        refine w_aload_n dX40_set_62 rfl rfl ?_
        refine w_aload_n dX40_set_63 rfl rfl ?_
        obtain ⟨x6, b7, hf⟩ := Option.bind_eq_some_iff.mp hf
        refine GX40_101 b7 dX40_set_64 rfl ?_
        refine w_sipush dX40_set_67 (v := 256) (by decide) ?_
        refine w_iconst dX40_set_70 (v := 0) (by decide) ?_
        obtain ⟨_, b8, hf⟩ := Option.bind_eq_some_iff.mp hf
        refine x_cnV hf (e_stV (Yc := YX40_insert) (ci := 42) (av := [.int x6, .int (256 : Int32), .int (0 : Int32)]) (st := []) dX40_set_71 q5686 mX40_insert rfl (k_ok_some b8).1 (k_ok_some b8).2) mX40_insert.2.2.1 mX40_insert.2.2.2.2.1 (Nat.le_of_ble_eq_true rfl) (Nat.le_of_ble_eq_true rfl) (fun q hq => pX40_insert (by omega) hq) (fun q9 hf => ?_)
        exact (pX40_set_b74 hd hf).to ⟨rfl, rfl, trivial⟩
    · replace hf := (if_neg (show ¬ (l3 ≤ l5) from c1)).symm.trans hf
      refine w_aload_n dX40_set_33 rfl rfl ?_
      refine w_aload_n dX40_set_34 rfl rfl ?_
      obtain ⟨x10, b11, hf⟩ := Option.bind_eq_some_iff.mp hf
      refine GX40_101 b11 dX40_set_35 rfl ?_
      refine w_aload_n dX40_set_38 rfl rfl ?_
      refine w_iload dX40_set_39 rfl ?_
      obtain ⟨x12, b13, hf⟩ := Option.bind_eq_some_iff.mp hf
      refine x_rI b13 dX40_set_41 ?_
      refine w_iconst dX40_set_42 (v := 0) (by decide) ?_
      obtain ⟨_, b14, hf⟩ := Option.bind_eq_some_iff.mp hf
      refine x_cnV hf (e_stV (Yc := YX40_insert) (ci := 42) (av := [.int x10, .int x12, .int (0 : Int32)]) (st := []) dX40_set_43 q5686 mX40_insert rfl (k_ok_some b14).1 (k_ok_some b14).2) mX40_insert.2.2.1 mX40_insert.2.2.2.2.1 (Nat.le_of_ble_eq_true rfl) (Nat.le_of_ble_eq_true rfl) (fun q hq => pX40_insert (by omega) hq) (fun q15 hf => ?_)
      refine w_iinc dX40_set_46 (v := (l5 + (1 : Int32))) rfl rfl (by decide) (ls' := [some (.ref l0), some (.ref l1), none, some (.int l3), some (.int l4), some (.int (l5 + (1 : Int32))), none, none]) rfl ?_
      refine w_goto 27 dX40_set_49 (by decide) ?_
      exact (ih _ _ _ _ _ _ _ hf).to ⟨rfl, rfl, rfl, rfl, rfl, trivial⟩
def fX40_set_b24 (N : Nat) (l0 : Nat) (l1 : Nat) (l2 : Int32) (l3 : Int32) (l4 : Int32) (h : eH) : Option (Int32 × eH) :=
  fX40_set_b27 N N l0 l1 l3 l4 l2 h
theorem pX40_set_b24 {w : eW} {d : Nat} (hd : 8 ≤ d + 1) {N : Nat} {l0 : Nat} {l1 : Nat} {l2 : Int32} {l3 : Int32} {l4 : Int32} {h : eH} {q} (hf : fX40_set_b24 N l0 l1 l2 l3 l4 h = some q) : wp w (d + 1) YX40_set 24 [some (.ref l0), some (.ref l1), some (.int l2), some (.int l3), some (.int l4), none, none, none] [] h (e_is (e_rn c_I q)) := by
  unfold fX40_set_b24 at hf
  refine w_iload_n dX40_set_24 rfl rfl ?_
  refine w_istore dX40_set_25 (by decide) (ls' := [some (.ref l0), some (.ref l1), some (.int l2), some (.int l3), some (.int l4), some (.int l2), none, none]) rfl ?_
  exact (pX40_set_b27 hd N _ _ _ _ _ _ _ hf).to ⟨rfl, rfl, rfl, rfl, rfl, trivial⟩
def fX40_set (N : Nat) (this : Nat) (p0 : Nat) (p1 : Int32) (p2 : Int32) (p3 : Int32) (h : eH) : Option (Int32 × eH) :=
  (p_V 42 h this 3 (.int (0 : Int32))).bind fun h1 =>
  (g_A 42 h1 this 0).bind fun a3 =>
  (fX40_edgeProgram N a3 h1).bind fun q5 =>
  if q5.1 < 0 then
    fX40_set_b24 N this p0 p1 p2 p3 q5.2
  else
    (k_ok 42 q5.2 this).bind fun _ =>
    (fX40_insert N this (0 : Int32) (256 : Int32) (0 : Int32) q5.2).bind fun q8 =>
    fX40_set_b24 N this p0 p1 p2 p3 q8.2
theorem pX40_set {w : eW} {d : Nat} (hd : 8 ≤ d) {N : Nat} {this : Nat} {p0 : Nat} {p1 : Int32} {p2 : Int32} {p3 : Int32} {h : eH} {q} (hf : fX40_set N this p0 p1 p2 p3 h = some q) : wm w d YX40_set [.ref this, .ref p0, .int p1, .int p2, .int p3] h (e_is (e_rn c_I q)) := by
  obtain ⟨d, rfl⟩ : ∃ e, d = e + 1 := ⟨d - 1, by omega⟩
  show wp w (d + 1) YX40_set 0 [some (.ref this), some (.ref p0), some (.int p1), some (.int p2), some (.int p3), none, none, none] [] h _
  unfold fX40_set at hf
  refine w_aload_n dX40_set_0 rfl rfl ?_
  refine w_iconst dX40_set_1 (v := 0) (by decide) ?_
  obtain ⟨h1, b2, hf⟩ := Option.bind_eq_some_iff.mp hf
  refine SX40_101 b2 dX40_set_2 rfl ?_
  refine w_aload_n dX40_set_5 rfl rfl ?_
  obtain ⟨a3, b4, hf⟩ := Option.bind_eq_some_iff.mp hf
  refine GX40_9 b4 dX40_set_6 rfl ?_
  refine x_cnI hf (e_stS (Yc := YX40_edgeProgram) (av := [.ref a3]) (st := []) dX40_set_9 q5683 mX40_edgeProgram) mX40_edgeProgram.2.2.1 mX40_edgeProgram.2.2.2.2.1 (Nat.le_of_ble_eq_true rfl) (Nat.le_of_ble_eq_true rfl) (fun q hq => pX40_edgeProgram (by omega) hq) (fun q5 hf => ?_)
  refine w_if_lt 24 dX40_set_12 (by decide) (fun c6 => ?_) (fun c6 => ?_)
  · replace hf := (if_pos (show q5.1 < 0 from c6)).symm.trans hf
    exact (pX40_set_b24 hd hf).to ⟨rfl, rfl, rfl, rfl, rfl, trivial⟩
  · replace hf := (if_neg (show ¬ (q5.1 < 0) from c6)).symm.trans hf
    refine w_aload_n dX40_set_15 rfl rfl ?_
    refine w_iconst dX40_set_16 (v := 0) (by decide) ?_
    refine w_sipush dX40_set_17 (v := 256) (by decide) ?_
    refine w_iconst dX40_set_20 (v := 0) (by decide) ?_
    obtain ⟨_, b7, hf⟩ := Option.bind_eq_some_iff.mp hf
    refine x_cnV hf (e_stV (Yc := YX40_insert) (ci := 42) (av := [.int (0 : Int32), .int (256 : Int32), .int (0 : Int32)]) (st := []) dX40_set_21 q5686 mX40_insert rfl (k_ok_some b7).1 (k_ok_some b7).2) mX40_insert.2.2.1 mX40_insert.2.2.2.2.1 (Nat.le_of_ble_eq_true rfl) (Nat.le_of_ble_eq_true rfl) (fun q hq => pX40_insert (by omega) hq) (fun q8 hf => ?_)
    exact (pX40_set_b24 hd hf).to ⟨rfl, rfl, rfl, rfl, rfl, trivial⟩
abbrev cX36_toldAt : ByteArray := prog_40_method_14_code
def yX36_toldAt : MethodName := ⟨RX36, "toldAt", "([II)I"⟩
def YX36_toldAt : eY := (yX36_toldAt, cX36_toldAt, 6, (Option.some FieldType.int), [])
theorem mX36_toldAt : e_mv YX36_toldAt RX36 2 := ⟨q5053, qs231, q5054, by decide, by decide +kernel, (e_sig (by decide +kernel))⟩
theorem dX36_toldAt_0 : decode cX36_toldAt 0 = .ok (.iconst 0, 1) := dc_3 (by decide +kernel)
theorem dX36_toldAt_1 : decode cX36_toldAt 1 = .ok (.istore_n 3, 1) := dc_62 (by decide +kernel)
theorem dX36_toldAt_2 : decode cX36_toldAt 2 = .ok (.iload_n 3, 1) := dc_29 (by decide +kernel)
theorem dX36_toldAt_3 : decode cX36_toldAt 3 = .ok (.aload_n 0, 1) := dc_42 (by decide +kernel)
theorem dX36_toldAt_4 : decode cX36_toldAt 4 = .ok (.getfield 125, 3) := dc_180 (a := 0) (b := 125) (n := 125) (by decide +kernel)
theorem dX36_toldAt_7 : decode cX36_toldAt 7 = .ok (.if_icmp .ge 90, 3) := dc_162 (a := 0) (b := 90) (v := 90) (by decide +kernel)
theorem dX36_toldAt_10 : decode cX36_toldAt 10 = .ok (.aload_n 0, 1) := dc_42 (by decide +kernel)
theorem dX36_toldAt_11 : decode cX36_toldAt 11 = .ok (.getfield 43, 3) := dc_180 (a := 0) (b := 43) (n := 43) (by decide +kernel)
theorem dX36_toldAt_14 : decode cX36_toldAt 14 = .ok (.iload_n 3, 1) := dc_29 (by decide +kernel)
theorem dX36_toldAt_15 : decode cX36_toldAt 15 = .ok (.iconst 1, 1) := dc_4 (by decide +kernel)
theorem dX36_toldAt_16 : decode cX36_toldAt 16 = .ok (.iadd, 1) := dc_96 (by decide +kernel)
theorem dX36_toldAt_17 : decode cX36_toldAt 17 = .ok (.iaload, 1) := dc_46 (by decide +kernel)
theorem dX36_toldAt_18 : decode cX36_toldAt 18 = .ok (.aload_n 0, 1) := dc_42 (by decide +kernel)
theorem dX36_toldAt_19 : decode cX36_toldAt 19 = .ok (.getfield 43, 3) := dc_180 (a := 0) (b := 43) (n := 43) (by decide +kernel)
theorem dX36_toldAt_22 : decode cX36_toldAt 22 = .ok (.iload_n 3, 1) := dc_29 (by decide +kernel)
theorem dX36_toldAt_23 : decode cX36_toldAt 23 = .ok (.iaload, 1) := dc_46 (by decide +kernel)
theorem dX36_toldAt_24 : decode cX36_toldAt 24 = .ok (.isub, 1) := dc_100 (by decide +kernel)
theorem dX36_toldAt_25 : decode cX36_toldAt 25 = .ok (.iload_n 2, 1) := dc_28 (by decide +kernel)
theorem dX36_toldAt_26 : decode cX36_toldAt 26 = .ok (.if_icmp .ne 7, 3) := dc_160 (a := 0) (b := 7) (v := 7) (by decide +kernel)
theorem dX36_toldAt_29 : decode cX36_toldAt 29 = .ok (.iconst 1, 1) := dc_4 (by decide +kernel)
theorem dX36_toldAt_30 : decode cX36_toldAt 30 = .ok (.goto 4, 3) := dc_167 (a := 0) (b := 4) (v := 4) (by decide +kernel)
theorem dX36_toldAt_33 : decode cX36_toldAt 33 = .ok (.iconst 0, 1) := dc_3 (by decide +kernel)
theorem dX36_toldAt_34 : decode cX36_toldAt 34 = .ok (.istore 4, 2) := dc_54 (a := 4) (by decide +kernel)
theorem dX36_toldAt_36 : decode cX36_toldAt 36 = .ok (.iconst 0, 1) := dc_3 (by decide +kernel)
theorem dX36_toldAt_37 : decode cX36_toldAt 37 = .ok (.istore 5, 2) := dc_54 (a := 5) (by decide +kernel)
theorem dX36_toldAt_39 : decode cX36_toldAt 39 = .ok (.iload 5, 2) := dc_21 (a := 5) (by decide +kernel)
theorem dX36_toldAt_41 : decode cX36_toldAt 41 = .ok (.iload_n 2, 1) := dc_28 (by decide +kernel)
theorem dX36_toldAt_42 : decode cX36_toldAt 42 = .ok (.if_icmp .ge 42, 3) := dc_162 (a := 0) (b := 42) (v := 42) (by decide +kernel)
theorem dX36_toldAt_45 : decode cX36_toldAt 45 = .ok (.iload 4, 2) := dc_21 (a := 4) (by decide +kernel)
theorem dX36_toldAt_47 : decode cX36_toldAt 47 = .ok (.ifCond .eq 37, 3) := dc_153 (a := 0) (b := 37) (v := 37) (by decide +kernel)
theorem dX36_toldAt_50 : decode cX36_toldAt 50 = .ok (.aload_n 0, 1) := dc_42 (by decide +kernel)
theorem dX36_toldAt_51 : decode cX36_toldAt 51 = .ok (.getfield 46, 3) := dc_180 (a := 0) (b := 46) (n := 46) (by decide +kernel)
theorem dX36_toldAt_54 : decode cX36_toldAt 54 = .ok (.aload_n 0, 1) := dc_42 (by decide +kernel)
theorem dX36_toldAt_55 : decode cX36_toldAt 55 = .ok (.getfield 43, 3) := dc_180 (a := 0) (b := 43) (n := 43) (by decide +kernel)
theorem dX36_toldAt_58 : decode cX36_toldAt 58 = .ok (.iload_n 3, 1) := dc_29 (by decide +kernel)
theorem dX36_toldAt_59 : decode cX36_toldAt 59 = .ok (.iaload, 1) := dc_46 (by decide +kernel)
theorem dX36_toldAt_60 : decode cX36_toldAt 60 = .ok (.iload 5, 2) := dc_21 (a := 5) (by decide +kernel)
theorem dX36_toldAt_62 : decode cX36_toldAt 62 = .ok (.iadd, 1) := dc_96 (by decide +kernel)
theorem dX36_toldAt_63 : decode cX36_toldAt 63 = .ok (.iaload, 1) := dc_46 (by decide +kernel)
theorem dX36_toldAt_64 : decode cX36_toldAt 64 = .ok (.aload_n 1, 1) := dc_43 (by decide +kernel)
theorem dX36_toldAt_65 : decode cX36_toldAt 65 = .ok (.iload 5, 2) := dc_21 (a := 5) (by decide +kernel)
theorem dX36_toldAt_67 : decode cX36_toldAt 67 = .ok (.iaload, 1) := dc_46 (by decide +kernel)
theorem dX36_toldAt_68 : decode cX36_toldAt 68 = .ok (.if_icmp .ne 7, 3) := dc_160 (a := 0) (b := 7) (v := 7) (by decide +kernel)
theorem dX36_toldAt_71 : decode cX36_toldAt 71 = .ok (.iconst 1, 1) := dc_4 (by decide +kernel)
theorem dX36_toldAt_72 : decode cX36_toldAt 72 = .ok (.goto 4, 3) := dc_167 (a := 0) (b := 4) (v := 4) (by decide +kernel)
theorem dX36_toldAt_75 : decode cX36_toldAt 75 = .ok (.iconst 0, 1) := dc_3 (by decide +kernel)
theorem dX36_toldAt_76 : decode cX36_toldAt 76 = .ok (.istore 4, 2) := dc_54 (a := 4) (by decide +kernel)
theorem dX36_toldAt_78 : decode cX36_toldAt 78 = .ok (.iinc 5 1, 3) := dc_132 (a := 5) (b := 1) (v := 1) (by decide +kernel)
theorem dX36_toldAt_81 : decode cX36_toldAt 81 = .ok (.goto (-42), 3) := dc_167 (a := 255) (b := 214) (v := -42) (by decide +kernel)
theorem dX36_toldAt_84 : decode cX36_toldAt 84 = .ok (.iload 4, 2) := dc_21 (a := 4) (by decide +kernel)
theorem dX36_toldAt_86 : decode cX36_toldAt 86 = .ok (.ifCond .eq 5, 3) := dc_153 (a := 0) (b := 5) (v := 5) (by decide +kernel)
theorem dX36_toldAt_89 : decode cX36_toldAt 89 = .ok (.iload_n 3, 1) := dc_29 (by decide +kernel)
theorem dX36_toldAt_90 : decode cX36_toldAt 90 = .ok (.ireturn, 1) := dc_172 (by decide +kernel)
theorem dX36_toldAt_91 : decode cX36_toldAt 91 = .ok (.iinc 3 1, 3) := dc_132 (a := 3) (b := 1) (v := 1) (by decide +kernel)
theorem dX36_toldAt_94 : decode cX36_toldAt 94 = .ok (.goto (-92), 3) := dc_167 (a := 255) (b := 164) (v := -92) (by decide +kernel)
theorem dX36_toldAt_97 : decode cX36_toldAt 97 = .ok (.iconst (-1), 1) := dc_2 (by decide +kernel)
theorem dX36_toldAt_98 : decode cX36_toldAt 98 = .ok (.ireturn, 1) := dc_172 (by decide +kernel)
theorem GX36_125 {w : eW} {d : Nat} {Y : eY} {pc : Nat} {ls : eL} {st : List Value} {h : eH} {Q : eO → eH → Prop} {a : Nat} {x : Int32} (hf : g_I 35 h a 12 = some x) (hd : decode Y.2.1 pc = .ok (.getfield 125, 3)) (hY : Y.1.cls = RX36) (kk : wp w d Y (pc + 3) ls (.int x :: st) h Q) : wp w d Y pc ls (.ref a :: st) h Q := x_gI (ci := 35) (k := 12) hf hd rfl (by decide) (by rw [hY]; exact q4145) kk
theorem GX36_43 {w : eW} {d : Nat} {Y : eY} {pc : Nat} {ls : eL} {st : List Value} {h : eH} {Q : eO → eH → Prop} {a : Nat} {x : Nat} (hf : g_A 35 h a 13 = some x) (hd : decode Y.2.1 pc = .ok (.getfield 43, 3)) (hY : Y.1.cls = RX36) (kk : wp w d Y (pc + 3) ls (.ref x :: st) h Q) : wp w d Y pc ls (.ref a :: st) h Q := x_gA (ci := 35) (k := 13) hf hd rfl (by decide) (by rw [hY]; exact q4146) kk
theorem GX36_46 {w : eW} {d : Nat} {Y : eY} {pc : Nat} {ls : eL} {st : List Value} {h : eH} {Q : eO → eH → Prop} {a : Nat} {x : Nat} (hf : g_A 35 h a 14 = some x) (hd : decode Y.2.1 pc = .ok (.getfield 46, 3)) (hY : Y.1.cls = RX36) (kk : wp w d Y (pc + 3) ls (.ref x :: st) h Q) : wp w d Y pc ls (.ref a :: st) h Q := x_gA (ci := 35) (k := 14) hf hd rfl (by decide) (by rw [hY]; exact q4147) kk
def fX36_toldAt_b76 (N : Nat) (k39 : Nat → Nat → Int32 → Int32 → Int32 → Int32 → eH → Option (Int32 × eH)) (l0 : Nat) (l1 : Nat) (l2 : Int32) (l3 : Int32) (l5 : Int32) (s0 : Int32) (h : eH) : Option (Int32 × eH) :=
  k39 l0 l1 l2 l3 s0 (l5 + (1 : Int32)) h
theorem pX36_toldAt_b76 {w : eW} {d : Nat} (hd : 0 ≤ d) {N : Nat} {k39 : Nat → Nat → Int32 → Int32 → Int32 → Int32 → eH → Option (Int32 × eH)} (hk39 : ∀ l0 l1 l2 l3 l4 l5 h q, k39 l0 l1 l2 l3 l4 l5 h = some q → wp w d YX36_toldAt 39 [some (.ref l0), some (.ref l1), some (.int l2), some (.int l3), some (.int l4), some (.int l5)] [] h (e_is (e_rn c_I q))) {l0 : Nat} {l1 : Nat} {l2 : Int32} {l3 : Int32} {l5 : Int32} {s0 : Int32} {h : eH} {q} (hf : fX36_toldAt_b76 N k39 l0 l1 l2 l3 l5 s0 h = some q) : wp w d YX36_toldAt 76 [some (.ref l0), some (.ref l1), some (.int l2), some (.int l3), none, some (.int l5)] [.int s0] h (e_is (e_rn c_I q)) := by
  unfold fX36_toldAt_b76 at hf
  refine w_istore dX36_toldAt_76 (by decide) (ls' := [some (.ref l0), some (.ref l1), some (.int l2), some (.int l3), some (.int s0), some (.int l5)]) rfl ?_
  refine w_iinc dX36_toldAt_78 (v := (l5 + (1 : Int32))) rfl rfl (by decide) (ls' := [some (.ref l0), some (.ref l1), some (.int l2), some (.int l3), some (.int s0), some (.int (l5 + (1 : Int32)))]) rfl ?_
  refine w_goto 39 dX36_toldAt_81 (by decide) ?_
  exact (hk39 _ _ _ _ _ _ _ _ hf).to ⟨rfl, rfl, rfl, rfl, rfl, rfl, trivial⟩
def fX36_toldAt_b84 (N : Nat) (k2 : Nat → Nat → Int32 → Int32 → eH → Option (Int32 × eH)) (l0 : Nat) (l1 : Nat) (l2 : Int32) (l3 : Int32) (l4 : Int32) (h : eH) : Option (Int32 × eH) :=
  if l4 = 0 then
    k2 l0 l1 l2 (l3 + (1 : Int32)) h
  else
    some (l3, h)
theorem pX36_toldAt_b84 {w : eW} {d : Nat} (hd : 0 ≤ d) {N : Nat} {k2 : Nat → Nat → Int32 → Int32 → eH → Option (Int32 × eH)} (hk2 : ∀ l0 l1 l2 l3 h q, k2 l0 l1 l2 l3 h = some q → wp w d YX36_toldAt 2 [some (.ref l0), some (.ref l1), some (.int l2), some (.int l3), none, none] [] h (e_is (e_rn c_I q))) {l0 : Nat} {l1 : Nat} {l2 : Int32} {l3 : Int32} {l4 : Int32} {h : eH} {q} (hf : fX36_toldAt_b84 N k2 l0 l1 l2 l3 l4 h = some q) : wp w d YX36_toldAt 84 [some (.ref l0), some (.ref l1), some (.int l2), some (.int l3), some (.int l4), none] [] h (e_is (e_rn c_I q)) := by
  unfold fX36_toldAt_b84 at hf
  refine w_iload dX36_toldAt_84 rfl ?_
  refine w_if_eq 91 dX36_toldAt_86 (by decide) (fun c1 => ?_) (fun c1 => ?_)
  · replace hf := (if_pos (show l4 = 0 from c1)).symm.trans hf
    refine w_iinc dX36_toldAt_91 (v := (l3 + (1 : Int32))) rfl rfl (by decide) (ls' := [some (.ref l0), some (.ref l1), some (.int l2), some (.int (l3 + (1 : Int32))), some (.int l4), none]) rfl ?_
    refine w_goto 2 dX36_toldAt_94 (by decide) ?_
    exact (hk2 _ _ _ _ _ _ hf).to ⟨rfl, rfl, rfl, rfl, trivial⟩
  · replace hf := (if_neg (show ¬ (l4 = 0) from c1)).symm.trans hf
    refine w_iload_n dX36_toldAt_89 rfl rfl ?_
    cases hf
    exact w_iret dX36_toldAt_90 rfl rfl rfl
def fX36_toldAt_b39 (N : Nat) (k2 : Nat → Nat → Int32 → Int32 → eH → Option (Int32 × eH)) : Nat → Nat → Nat → Int32 → Int32 → Int32 → Int32 → eH → Option (Int32 × eH)
  | 0, _, _, _, _, _, _, _ => none
  | n + 1, l0, l1, l2, l3, l4, l5, h =>
    if l2 ≤ l5 then
      fX36_toldAt_b84 N k2 l0 l1 l2 l3 l4 h
    else
      if l4 = 0 then
        fX36_toldAt_b84 N k2 l0 l1 l2 l3 l4 h
      else
        (g_A 35 h l0 14).bind fun a3 =>
        (g_A 35 h l0 13).bind fun a5 =>
        (r_I 100 h a5 l3).bind fun x7 =>
        (r_I 100 h a3 (x7 + l5)).bind fun x9 =>
        (r_I 100 h l1 l5).bind fun x11 =>
        if ¬ x9 = x11 then
          fX36_toldAt_b76 N (fX36_toldAt_b39 N k2 n) l0 l1 l2 l3 l5 (0 : Int32) h
        else
          fX36_toldAt_b76 N (fX36_toldAt_b39 N k2 n) l0 l1 l2 l3 l5 (1 : Int32) h
theorem pX36_toldAt_b39 {w : eW} {d : Nat} (hd : 0 ≤ d) {N : Nat} {k2 : Nat → Nat → Int32 → Int32 → eH → Option (Int32 × eH)} (hk2 : ∀ l0 l1 l2 l3 h q, k2 l0 l1 l2 l3 h = some q → wp w d YX36_toldAt 2 [some (.ref l0), some (.ref l1), some (.int l2), some (.int l3), none, none] [] h (e_is (e_rn c_I q))) : ∀ (n : Nat) l0 l1 l2 l3 l4 l5 h q, fX36_toldAt_b39 N k2 n l0 l1 l2 l3 l4 l5 h = some q → wp w d YX36_toldAt 39 [some (.ref l0), some (.ref l1), some (.int l2), some (.int l3), some (.int l4), some (.int l5)] [] h (e_is (e_rn c_I q)) := by
  intro n
  induction n with
  | zero => intro l0 l1 l2 l3 l4 l5 h q hf; simp [fX36_toldAt_b39] at hf
  | succ n ih =>
    intro l0 l1 l2 l3 l4 l5 h q hf
    rw [fX36_toldAt_b39] at hf
    refine w_iload dX36_toldAt_39 rfl ?_
    refine w_iload_n dX36_toldAt_41 rfl rfl ?_
    refine w_icmp_ge 84 dX36_toldAt_42 (by decide) (fun c1 => ?_) (fun c1 => ?_)
    · replace hf := (if_pos (show l2 ≤ l5 from c1)).symm.trans hf
      exact (pX36_toldAt_b84 hd hk2 hf).to ⟨rfl, rfl, rfl, rfl, rfl, trivial⟩
    · replace hf := (if_neg (show ¬ (l2 ≤ l5) from c1)).symm.trans hf
      refine w_iload dX36_toldAt_45 rfl ?_
      refine w_if_eq 84 dX36_toldAt_47 (by decide) (fun c2 => ?_) (fun c2 => ?_)
      · replace hf := (if_pos (show l4 = 0 from c2)).symm.trans hf
        exact (pX36_toldAt_b84 hd hk2 hf).to ⟨rfl, rfl, rfl, rfl, rfl, trivial⟩
      · replace hf := (if_neg (show ¬ (l4 = 0) from c2)).symm.trans hf
        refine w_aload_n dX36_toldAt_50 rfl rfl ?_
        obtain ⟨a3, b4, hf⟩ := Option.bind_eq_some_iff.mp hf
        refine GX36_46 b4 dX36_toldAt_51 rfl ?_
        refine w_aload_n dX36_toldAt_54 rfl rfl ?_
        obtain ⟨a5, b6, hf⟩ := Option.bind_eq_some_iff.mp hf
        refine GX36_43 b6 dX36_toldAt_55 rfl ?_
        refine w_iload_n dX36_toldAt_58 rfl rfl ?_
        obtain ⟨x7, b8, hf⟩ := Option.bind_eq_some_iff.mp hf
        refine x_rI b8 dX36_toldAt_59 ?_
        refine w_iload dX36_toldAt_60 rfl ?_
        refine w_iadd dX36_toldAt_62 ?_
        obtain ⟨x9, b10, hf⟩ := Option.bind_eq_some_iff.mp hf
        refine x_rI b10 dX36_toldAt_63 ?_
        refine w_aload_n dX36_toldAt_64 rfl rfl ?_
        refine w_iload dX36_toldAt_65 rfl ?_
        obtain ⟨x11, b12, hf⟩ := Option.bind_eq_some_iff.mp hf
        refine x_rI b12 dX36_toldAt_67 ?_
        refine w_icmp_ne 75 dX36_toldAt_68 (by decide) (fun c13 => ?_) (fun c13 => ?_)
        · replace hf := (if_pos (show ¬ x9 = x11 from c13)).symm.trans hf
          refine w_iconst dX36_toldAt_75 (v := 0) (by decide) ?_
          exact (pX36_toldAt_b76 hd ih hf).to ⟨rfl, rfl, rfl, rfl, rfl, trivial⟩
        · replace hf := (if_neg (show ¬ (¬ x9 = x11) from (fun z => z c13))).symm.trans hf
          refine w_iconst dX36_toldAt_71 (v := 1) (by decide) ?_
          refine w_goto 76 dX36_toldAt_72 (by decide) ?_
          exact (pX36_toldAt_b76 hd ih hf).to ⟨rfl, rfl, rfl, rfl, rfl, trivial⟩
def fX36_toldAt_b34 (N : Nat) (k2 : Nat → Nat → Int32 → Int32 → eH → Option (Int32 × eH)) (l0 : Nat) (l1 : Nat) (l2 : Int32) (l3 : Int32) (s0 : Int32) (h : eH) : Option (Int32 × eH) :=
  fX36_toldAt_b39 N k2 N l0 l1 l2 l3 s0 (0 : Int32) h
theorem pX36_toldAt_b34 {w : eW} {d : Nat} (hd : 0 ≤ d) {N : Nat} {k2 : Nat → Nat → Int32 → Int32 → eH → Option (Int32 × eH)} (hk2 : ∀ l0 l1 l2 l3 h q, k2 l0 l1 l2 l3 h = some q → wp w d YX36_toldAt 2 [some (.ref l0), some (.ref l1), some (.int l2), some (.int l3), none, none] [] h (e_is (e_rn c_I q))) {l0 : Nat} {l1 : Nat} {l2 : Int32} {l3 : Int32} {s0 : Int32} {h : eH} {q} (hf : fX36_toldAt_b34 N k2 l0 l1 l2 l3 s0 h = some q) : wp w d YX36_toldAt 34 [some (.ref l0), some (.ref l1), some (.int l2), some (.int l3), none, none] [.int s0] h (e_is (e_rn c_I q)) := by
  unfold fX36_toldAt_b34 at hf
  refine w_istore dX36_toldAt_34 (by decide) (ls' := [some (.ref l0), some (.ref l1), some (.int l2), some (.int l3), some (.int s0), none]) rfl ?_
  refine w_iconst dX36_toldAt_36 (v := 0) (by decide) ?_
  refine w_istore dX36_toldAt_37 (by decide) (ls' := [some (.ref l0), some (.ref l1), some (.int l2), some (.int l3), some (.int s0), some (.int (0 : Int32))]) rfl ?_
  exact (pX36_toldAt_b39 hd hk2 N _ _ _ _ _ _ _ _ hf).to ⟨rfl, rfl, rfl, rfl, rfl, rfl, trivial⟩
def fX36_toldAt_b2 (N : Nat) : Nat → Nat → Nat → Int32 → Int32 → eH → Option (Int32 × eH)
  | 0, _, _, _, _, _ => none
  | n + 1, l0, l1, l2, l3, h =>
    (g_I 35 h l0 12).bind fun x1 =>
    if x1 ≤ l3 then
      some ((-1 : Int32), h)
    else
      (g_A 35 h l0 13).bind fun a4 =>
      (r_I 100 h a4 (l3 + (1 : Int32))).bind fun x6 =>
      (g_A 35 h l0 13).bind fun a8 =>
      (r_I 100 h a8 l3).bind fun x10 =>
      if ¬ (x6 - x10) = l2 then
        fX36_toldAt_b34 N (fX36_toldAt_b2 N n) l0 l1 l2 l3 (0 : Int32) h
      else
        fX36_toldAt_b34 N (fX36_toldAt_b2 N n) l0 l1 l2 l3 (1 : Int32) h
theorem pX36_toldAt_b2 {w : eW} {d : Nat} (hd : 0 ≤ d) {N : Nat} : ∀ (n : Nat) l0 l1 l2 l3 h q, fX36_toldAt_b2 N n l0 l1 l2 l3 h = some q → wp w d YX36_toldAt 2 [some (.ref l0), some (.ref l1), some (.int l2), some (.int l3), none, none] [] h (e_is (e_rn c_I q)) := by
  intro n
  induction n with
  | zero => intro l0 l1 l2 l3 h q hf; simp [fX36_toldAt_b2] at hf
  | succ n ih =>
    intro l0 l1 l2 l3 h q hf
    rw [fX36_toldAt_b2] at hf
    refine w_iload_n dX36_toldAt_2 rfl rfl ?_
    refine w_aload_n dX36_toldAt_3 rfl rfl ?_
    obtain ⟨x1, b2, hf⟩ := Option.bind_eq_some_iff.mp hf
    refine GX36_125 b2 dX36_toldAt_4 rfl ?_
    refine w_icmp_ge 97 dX36_toldAt_7 (by decide) (fun c3 => ?_) (fun c3 => ?_)
    · replace hf := (if_pos (show x1 ≤ l3 from c3)).symm.trans hf
      refine w_iconst dX36_toldAt_97 (v := -1) (by decide) ?_
      cases hf
      exact w_iret dX36_toldAt_98 rfl rfl rfl
    · replace hf := (if_neg (show ¬ (x1 ≤ l3) from c3)).symm.trans hf
      refine w_aload_n dX36_toldAt_10 rfl rfl ?_
      obtain ⟨a4, b5, hf⟩ := Option.bind_eq_some_iff.mp hf
      refine GX36_43 b5 dX36_toldAt_11 rfl ?_
      refine w_iload_n dX36_toldAt_14 rfl rfl ?_
      refine w_iconst dX36_toldAt_15 (v := 1) (by decide) ?_
      refine w_iadd dX36_toldAt_16 ?_
      obtain ⟨x6, b7, hf⟩ := Option.bind_eq_some_iff.mp hf
      refine x_rI b7 dX36_toldAt_17 ?_
      refine w_aload_n dX36_toldAt_18 rfl rfl ?_
      obtain ⟨a8, b9, hf⟩ := Option.bind_eq_some_iff.mp hf
      refine GX36_43 b9 dX36_toldAt_19 rfl ?_
      refine w_iload_n dX36_toldAt_22 rfl rfl ?_
      obtain ⟨x10, b11, hf⟩ := Option.bind_eq_some_iff.mp hf
      refine x_rI b11 dX36_toldAt_23 ?_
      refine w_isub dX36_toldAt_24 ?_
      refine w_iload_n dX36_toldAt_25 rfl rfl ?_
      refine w_icmp_ne 33 dX36_toldAt_26 (by decide) (fun c12 => ?_) (fun c12 => ?_)
      · replace hf := (if_pos (show ¬ (x6 - x10) = l2 from c12)).symm.trans hf
        refine w_iconst dX36_toldAt_33 (v := 0) (by decide) ?_
        exact (pX36_toldAt_b34 hd ih hf).to ⟨rfl, rfl, rfl, rfl, trivial⟩
      · replace hf := (if_neg (show ¬ (¬ (x6 - x10) = l2) from (fun z => z c12))).symm.trans hf
        refine w_iconst dX36_toldAt_29 (v := 1) (by decide) ?_
        refine w_goto 34 dX36_toldAt_30 (by decide) ?_
        exact (pX36_toldAt_b34 hd ih hf).to ⟨rfl, rfl, rfl, rfl, trivial⟩
def fX36_toldAt (N : Nat) (this : Nat) (p0 : Nat) (p1 : Int32) (h : eH) : Option (Int32 × eH) :=
  fX36_toldAt_b2 N N this p0 p1 (0 : Int32) h
theorem pX36_toldAt {w : eW} {d : Nat} (hd : 0 ≤ d) {N : Nat} {this : Nat} {p0 : Nat} {p1 : Int32} {h : eH} {q} (hf : fX36_toldAt N this p0 p1 h = some q) : wm w d YX36_toldAt [.ref this, .ref p0, .int p1] h (e_is (e_rn c_I q)) := by
  show wp w d YX36_toldAt 0 [some (.ref this), some (.ref p0), some (.int p1), none, none, none] [] h _
  unfold fX36_toldAt at hf
  refine w_iconst dX36_toldAt_0 (v := 0) (by decide) ?_
  refine w_istore_n dX36_toldAt_1 rfl (by decide) (ls' := [some (.ref this), some (.ref p0), some (.int p1), some (.int (0 : Int32)), none, none]) rfl ?_
  exact (pX36_toldAt_b2 hd N _ _ _ _ _ _ hf).to ⟨rfl, rfl, rfl, rfl, trivial⟩
abbrev cX36_fits : ByteArray := prog_40_method_19_code
def yX36_fits : MethodName := ⟨RX36, "fits", "(II)Z"⟩
def YX36_fits : eY := (yX36_fits, cX36_fits, 6, (Option.some FieldType.boolean), [])
theorem mX36_fits : e_mv YX36_fits RX36 2 := ⟨q5712, qs359, q5713, by decide, by decide +kernel, (e_sig (by decide +kernel))⟩
theorem dX36_fits_0 : decode cX36_fits 0 = .ok (.aload_n 0, 1) := dc_42 (by decide +kernel)
theorem dX36_fits_1 : decode cX36_fits 1 = .ok (.getfield 24, 3) := dc_180 (a := 0) (b := 24) (n := 24) (by decide +kernel)
theorem dX36_fits_4 : decode cX36_fits 4 = .ok (.iload_n 1, 1) := dc_27 (by decide +kernel)
theorem dX36_fits_5 : decode cX36_fits 5 = .ok (.iconst 1, 1) := dc_4 (by decide +kernel)
theorem dX36_fits_6 : decode cX36_fits 6 = .ok (.iadd, 1) := dc_96 (by decide +kernel)
theorem dX36_fits_7 : decode cX36_fits 7 = .ok (.iaload, 1) := dc_46 (by decide +kernel)
theorem dX36_fits_8 : decode cX36_fits 8 = .ok (.aload_n 0, 1) := dc_42 (by decide +kernel)
theorem dX36_fits_9 : decode cX36_fits 9 = .ok (.getfield 24, 3) := dc_180 (a := 0) (b := 24) (n := 24) (by decide +kernel)
theorem dX36_fits_12 : decode cX36_fits 12 = .ok (.iload_n 1, 1) := dc_27 (by decide +kernel)
theorem dX36_fits_13 : decode cX36_fits 13 = .ok (.iaload, 1) := dc_46 (by decide +kernel)
theorem dX36_fits_14 : decode cX36_fits 14 = .ok (.isub, 1) := dc_100 (by decide +kernel)
theorem dX36_fits_15 : decode cX36_fits 15 = .ok (.istore_n 3, 1) := dc_62 (by decide +kernel)
theorem dX36_fits_16 : decode cX36_fits 16 = .ok (.iload_n 2, 1) := dc_28 (by decide +kernel)
theorem dX36_fits_17 : decode cX36_fits 17 = .ok (.iload_n 3, 1) := dc_29 (by decide +kernel)
theorem dX36_fits_18 : decode cX36_fits 18 = .ok (.iadd, 1) := dc_96 (by decide +kernel)
theorem dX36_fits_19 : decode cX36_fits 19 = .ok (.aload_n 0, 1) := dc_42 (by decide +kernel)
theorem dX36_fits_20 : decode cX36_fits 20 = .ok (.getfield 139, 3) := dc_180 (a := 0) (b := 139) (n := 139) (by decide +kernel)
theorem dX36_fits_23 : decode cX36_fits 23 = .ok (.if_icmp .gt 35, 3) := dc_163 (a := 0) (b := 35) (v := 35) (by decide +kernel)
theorem dX36_fits_26 : decode cX36_fits 26 = .ok (.aload_n 0, 1) := dc_42 (by decide +kernel)
theorem dX36_fits_27 : decode cX36_fits 27 = .ok (.getfield 30, 3) := dc_180 (a := 0) (b := 30) (n := 30) (by decide +kernel)
theorem dX36_fits_30 : decode cX36_fits 30 = .ok (.iload_n 1, 1) := dc_27 (by decide +kernel)
theorem dX36_fits_31 : decode cX36_fits 31 = .ok (.baload, 1) := dc_51 (by decide +kernel)
theorem dX36_fits_32 : decode cX36_fits 32 = .ok (.ifCond .eq 7, 3) := dc_153 (a := 0) (b := 7) (v := 7) (by decide +kernel)
theorem dX36_fits_35 : decode cX36_fits 35 = .ok (.iload_n 2, 1) := dc_28 (by decide +kernel)
theorem dX36_fits_36 : decode cX36_fits 36 = .ok (.ifCond .gt 22, 3) := dc_157 (a := 0) (b := 22) (v := 22) (by decide +kernel)
theorem dX36_fits_39 : decode cX36_fits 39 = .ok (.aload_n 0, 1) := dc_42 (by decide +kernel)
theorem dX36_fits_40 : decode cX36_fits 40 = .ok (.getfield 34, 3) := dc_180 (a := 0) (b := 34) (n := 34) (by decide +kernel)
theorem dX36_fits_43 : decode cX36_fits 43 = .ok (.iload_n 1, 1) := dc_27 (by decide +kernel)
theorem dX36_fits_44 : decode cX36_fits 44 = .ok (.baload, 1) := dc_51 (by decide +kernel)
theorem dX36_fits_45 : decode cX36_fits 45 = .ok (.ifCond .eq 15, 3) := dc_153 (a := 0) (b := 15) (v := 15) (by decide +kernel)
theorem dX36_fits_48 : decode cX36_fits 48 = .ok (.iload_n 2, 1) := dc_28 (by decide +kernel)
theorem dX36_fits_49 : decode cX36_fits 49 = .ok (.iload_n 3, 1) := dc_29 (by decide +kernel)
theorem dX36_fits_50 : decode cX36_fits 50 = .ok (.iadd, 1) := dc_96 (by decide +kernel)
theorem dX36_fits_51 : decode cX36_fits 51 = .ok (.aload_n 0, 1) := dc_42 (by decide +kernel)
theorem dX36_fits_52 : decode cX36_fits 52 = .ok (.getfield 139, 3) := dc_180 (a := 0) (b := 139) (n := 139) (by decide +kernel)
theorem dX36_fits_55 : decode cX36_fits 55 = .ok (.if_icmp .ge 5, 3) := dc_162 (a := 0) (b := 5) (v := 5) (by decide +kernel)
theorem dX36_fits_58 : decode cX36_fits 58 = .ok (.iconst 0, 1) := dc_3 (by decide +kernel)
theorem dX36_fits_59 : decode cX36_fits 59 = .ok (.ireturn, 1) := dc_172 (by decide +kernel)
theorem dX36_fits_60 : decode cX36_fits 60 = .ok (.iconst 1, 1) := dc_4 (by decide +kernel)
theorem dX36_fits_61 : decode cX36_fits 61 = .ok (.istore 4, 2) := dc_54 (a := 4) (by decide +kernel)
theorem dX36_fits_63 : decode cX36_fits 63 = .ok (.iconst 0, 1) := dc_3 (by decide +kernel)
theorem dX36_fits_64 : decode cX36_fits 64 = .ok (.istore 5, 2) := dc_54 (a := 5) (by decide +kernel)
theorem dX36_fits_66 : decode cX36_fits 66 = .ok (.iload 5, 2) := dc_21 (a := 5) (by decide +kernel)
theorem dX36_fits_68 : decode cX36_fits 68 = .ok (.iload_n 3, 1) := dc_29 (by decide +kernel)
theorem dX36_fits_69 : decode cX36_fits 69 = .ok (.if_icmp .ge 47, 3) := dc_162 (a := 0) (b := 47) (v := 47) (by decide +kernel)
theorem dX36_fits_72 : decode cX36_fits 72 = .ok (.iload 4, 2) := dc_21 (a := 4) (by decide +kernel)
theorem dX36_fits_74 : decode cX36_fits 74 = .ok (.ifCond .eq 42, 3) := dc_153 (a := 0) (b := 42) (v := 42) (by decide +kernel)
theorem dX36_fits_77 : decode cX36_fits 77 = .ok (.aload_n 0, 1) := dc_42 (by decide +kernel)
theorem dX36_fits_78 : decode cX36_fits 78 = .ok (.getfield 37, 3) := dc_180 (a := 0) (b := 37) (n := 37) (by decide +kernel)
theorem dX36_fits_81 : decode cX36_fits 81 = .ok (.aload_n 0, 1) := dc_42 (by decide +kernel)
theorem dX36_fits_82 : decode cX36_fits 82 = .ok (.getfield 24, 3) := dc_180 (a := 0) (b := 24) (n := 24) (by decide +kernel)
theorem dX36_fits_85 : decode cX36_fits 85 = .ok (.iload_n 1, 1) := dc_27 (by decide +kernel)
theorem dX36_fits_86 : decode cX36_fits 86 = .ok (.iaload, 1) := dc_46 (by decide +kernel)
theorem dX36_fits_87 : decode cX36_fits 87 = .ok (.iload 5, 2) := dc_21 (a := 5) (by decide +kernel)
theorem dX36_fits_89 : decode cX36_fits 89 = .ok (.iadd, 1) := dc_96 (by decide +kernel)
theorem dX36_fits_90 : decode cX36_fits 90 = .ok (.iaload, 1) := dc_46 (by decide +kernel)
theorem dX36_fits_91 : decode cX36_fits 91 = .ok (.aload_n 0, 1) := dc_42 (by decide +kernel)
theorem dX36_fits_92 : decode cX36_fits 92 = .ok (.getfield 62, 3) := dc_180 (a := 0) (b := 62) (n := 62) (by decide +kernel)
theorem dX36_fits_95 : decode cX36_fits 95 = .ok (.iload_n 2, 1) := dc_28 (by decide +kernel)
theorem dX36_fits_96 : decode cX36_fits 96 = .ok (.iload 5, 2) := dc_21 (a := 5) (by decide +kernel)
theorem dX36_fits_98 : decode cX36_fits 98 = .ok (.iadd, 1) := dc_96 (by decide +kernel)
theorem dX36_fits_99 : decode cX36_fits 99 = .ok (.iaload, 1) := dc_46 (by decide +kernel)
theorem dX36_fits_100 : decode cX36_fits 100 = .ok (.if_icmp .ne 7, 3) := dc_160 (a := 0) (b := 7) (v := 7) (by decide +kernel)
theorem dX36_fits_103 : decode cX36_fits 103 = .ok (.iconst 1, 1) := dc_4 (by decide +kernel)
theorem dX36_fits_104 : decode cX36_fits 104 = .ok (.goto 4, 3) := dc_167 (a := 0) (b := 4) (v := 4) (by decide +kernel)
theorem dX36_fits_107 : decode cX36_fits 107 = .ok (.iconst 0, 1) := dc_3 (by decide +kernel)
theorem dX36_fits_108 : decode cX36_fits 108 = .ok (.istore 4, 2) := dc_54 (a := 4) (by decide +kernel)
theorem dX36_fits_110 : decode cX36_fits 110 = .ok (.iinc 5 1, 3) := dc_132 (a := 5) (b := 1) (v := 1) (by decide +kernel)
theorem dX36_fits_113 : decode cX36_fits 113 = .ok (.goto (-47), 3) := dc_167 (a := 255) (b := 209) (v := -47) (by decide +kernel)
theorem dX36_fits_116 : decode cX36_fits 116 = .ok (.iload 4, 2) := dc_21 (a := 4) (by decide +kernel)
theorem dX36_fits_118 : decode cX36_fits 118 = .ok (.ireturn, 1) := dc_172 (by decide +kernel)
theorem GX36_139 {w : eW} {d : Nat} {Y : eY} {pc : Nat} {ls : eL} {st : List Value} {h : eH} {Q : eO → eH → Prop} {a : Nat} {x : Int32} (hf : g_I 35 h a 23 = some x) (hd : decode Y.2.1 pc = .ok (.getfield 139, 3)) (hY : Y.1.cls = RX36) (kk : wp w d Y (pc + 3) ls (.int x :: st) h Q) : wp w d Y pc ls (.ref a :: st) h Q := x_gI (ci := 35) (k := 23) hf hd rfl (by decide) (by rw [hY]; exact q4156) kk
theorem GX36_24 {w : eW} {d : Nat} {Y : eY} {pc : Nat} {ls : eL} {st : List Value} {h : eH} {Q : eO → eH → Prop} {a : Nat} {x : Nat} (hf : g_A 35 h a 6 = some x) (hd : decode Y.2.1 pc = .ok (.getfield 24, 3)) (hY : Y.1.cls = RX36) (kk : wp w d Y (pc + 3) ls (.ref x :: st) h Q) : wp w d Y pc ls (.ref a :: st) h Q := x_gA (ci := 35) (k := 6) hf hd rfl (by decide) (by rw [hY]; exact q4139) kk
theorem GX36_30 {w : eW} {d : Nat} {Y : eY} {pc : Nat} {ls : eL} {st : List Value} {h : eH} {Q : eO → eH → Prop} {a : Nat} {x : Nat} (hf : g_A 35 h a 8 = some x) (hd : decode Y.2.1 pc = .ok (.getfield 30, 3)) (hY : Y.1.cls = RX36) (kk : wp w d Y (pc + 3) ls (.ref x :: st) h Q) : wp w d Y pc ls (.ref a :: st) h Q := x_gA (ci := 35) (k := 8) hf hd rfl (by decide) (by rw [hY]; exact q4141) kk
theorem GX36_34 {w : eW} {d : Nat} {Y : eY} {pc : Nat} {ls : eL} {st : List Value} {h : eH} {Q : eO → eH → Prop} {a : Nat} {x : Nat} (hf : g_A 35 h a 9 = some x) (hd : decode Y.2.1 pc = .ok (.getfield 34, 3)) (hY : Y.1.cls = RX36) (kk : wp w d Y (pc + 3) ls (.ref x :: st) h Q) : wp w d Y pc ls (.ref a :: st) h Q := x_gA (ci := 35) (k := 9) hf hd rfl (by decide) (by rw [hY]; exact q4142) kk
theorem GX36_37 {w : eW} {d : Nat} {Y : eY} {pc : Nat} {ls : eL} {st : List Value} {h : eH} {Q : eO → eH → Prop} {a : Nat} {x : Nat} (hf : g_A 35 h a 10 = some x) (hd : decode Y.2.1 pc = .ok (.getfield 37, 3)) (hY : Y.1.cls = RX36) (kk : wp w d Y (pc + 3) ls (.ref x :: st) h Q) : wp w d Y pc ls (.ref a :: st) h Q := x_gA (ci := 35) (k := 10) hf hd rfl (by decide) (by rw [hY]; exact q4143) kk
theorem GX36_62 {w : eW} {d : Nat} {Y : eY} {pc : Nat} {ls : eL} {st : List Value} {h : eH} {Q : eO → eH → Prop} {a : Nat} {x : Nat} (hf : g_A 35 h a 24 = some x) (hd : decode Y.2.1 pc = .ok (.getfield 62, 3)) (hY : Y.1.cls = RX36) (kk : wp w d Y (pc + 3) ls (.ref x :: st) h Q) : wp w d Y pc ls (.ref a :: st) h Q := x_gA (ci := 35) (k := 24) hf hd rfl (by decide) (by rw [hY]; exact q4157) kk
def fX36_fits_b58 (N : Nat)  (h : eH) : Option (Int32 × eH) :=
  some ((0 : Int32), h)
theorem pX36_fits_b58 {w : eW} {d : Nat} (hd : 0 ≤ d) {N : Nat}  {h : eH} {q} (hf : fX36_fits_b58 N h = some q) : wp w d YX36_fits 58 [none, none, none, none, none, none] [] h (e_is (e_rn c_I q)) := by
  unfold fX36_fits_b58 at hf
  refine w_iconst dX36_fits_58 (v := 0) (by decide) ?_
  cases hf
  exact w_iret dX36_fits_59 rfl rfl rfl
def fX36_fits_b108 (N : Nat) (k66 : Nat → Int32 → Int32 → Int32 → Int32 → Int32 → eH → Option (Int32 × eH)) (l0 : Nat) (l1 : Int32) (l2 : Int32) (l3 : Int32) (l5 : Int32) (s0 : Int32) (h : eH) : Option (Int32 × eH) :=
  k66 l0 l1 l2 l3 s0 (l5 + (1 : Int32)) h
theorem pX36_fits_b108 {w : eW} {d : Nat} (hd : 0 ≤ d) {N : Nat} {k66 : Nat → Int32 → Int32 → Int32 → Int32 → Int32 → eH → Option (Int32 × eH)} (hk66 : ∀ l0 l1 l2 l3 l4 l5 h q, k66 l0 l1 l2 l3 l4 l5 h = some q → wp w d YX36_fits 66 [some (.ref l0), some (.int l1), some (.int l2), some (.int l3), some (.int l4), some (.int l5)] [] h (e_is (e_rn c_I q))) {l0 : Nat} {l1 : Int32} {l2 : Int32} {l3 : Int32} {l5 : Int32} {s0 : Int32} {h : eH} {q} (hf : fX36_fits_b108 N k66 l0 l1 l2 l3 l5 s0 h = some q) : wp w d YX36_fits 108 [some (.ref l0), some (.int l1), some (.int l2), some (.int l3), none, some (.int l5)] [.int s0] h (e_is (e_rn c_I q)) := by
  unfold fX36_fits_b108 at hf
  refine w_istore dX36_fits_108 (by decide) (ls' := [some (.ref l0), some (.int l1), some (.int l2), some (.int l3), some (.int s0), some (.int l5)]) rfl ?_
  refine w_iinc dX36_fits_110 (v := (l5 + (1 : Int32))) rfl rfl (by decide) (ls' := [some (.ref l0), some (.int l1), some (.int l2), some (.int l3), some (.int s0), some (.int (l5 + (1 : Int32)))]) rfl ?_
  refine w_goto 66 dX36_fits_113 (by decide) ?_
  exact (hk66 _ _ _ _ _ _ _ _ hf).to ⟨rfl, rfl, rfl, rfl, rfl, rfl, trivial⟩
def fX36_fits_b116 (N : Nat) (l4 : Int32) (h : eH) : Option (Int32 × eH) :=
  z_r l4 (l4, h)
theorem pX36_fits_b116 {w : eW} {d : Nat} (hd : 0 ≤ d) {N : Nat} {l4 : Int32} {h : eH} {q} (hf : fX36_fits_b116 N l4 h = some q) : wp w d YX36_fits 116 [none, none, none, none, some (.int l4), none] [] h (e_is (e_rn c_I q)) := by
  unfold fX36_fits_b116 at hf
  refine w_iload dX36_fits_116 rfl ?_
  obtain ⟨b1, rfl⟩ := z_r_some hf
  exact w_iret dX36_fits_118 rfl b1 rfl
def fX36_fits_b66 (N : Nat) : Nat → Nat → Int32 → Int32 → Int32 → Int32 → Int32 → eH → Option (Int32 × eH)
  | 0, _, _, _, _, _, _, _ => none
  | n + 1, l0, l1, l2, l3, l4, l5, h =>
    if l3 ≤ l5 then
      fX36_fits_b116 N l4 h
    else
      if l4 = 0 then
        fX36_fits_b116 N l4 h
      else
        (g_A 35 h l0 10).bind fun a3 =>
        (g_A 35 h l0 6).bind fun a5 =>
        (r_I 100 h a5 l1).bind fun x7 =>
        (r_I 100 h a3 (x7 + l5)).bind fun x9 =>
        (g_A 35 h l0 24).bind fun a11 =>
        (r_I 100 h a11 (l2 + l5)).bind fun x13 =>
        if ¬ x9 = x13 then
          fX36_fits_b108 N (fX36_fits_b66 N n) l0 l1 l2 l3 l5 (0 : Int32) h
        else
          fX36_fits_b108 N (fX36_fits_b66 N n) l0 l1 l2 l3 l5 (1 : Int32) h
theorem pX36_fits_b66 {w : eW} {d : Nat} (hd : 0 ≤ d) {N : Nat} : ∀ (n : Nat) l0 l1 l2 l3 l4 l5 h q, fX36_fits_b66 N n l0 l1 l2 l3 l4 l5 h = some q → wp w d YX36_fits 66 [some (.ref l0), some (.int l1), some (.int l2), some (.int l3), some (.int l4), some (.int l5)] [] h (e_is (e_rn c_I q)) := by
  intro n
  induction n with
  | zero => intro l0 l1 l2 l3 l4 l5 h q hf; simp [fX36_fits_b66] at hf
  | succ n ih =>
    intro l0 l1 l2 l3 l4 l5 h q hf
    rw [fX36_fits_b66] at hf
    refine w_iload dX36_fits_66 rfl ?_
    refine w_iload_n dX36_fits_68 rfl rfl ?_
    refine w_icmp_ge 116 dX36_fits_69 (by decide) (fun c1 => ?_) (fun c1 => ?_)
    · replace hf := (if_pos (show l3 ≤ l5 from c1)).symm.trans hf
      exact (pX36_fits_b116 hd hf).to ⟨rfl, trivial⟩
    · replace hf := (if_neg (show ¬ (l3 ≤ l5) from c1)).symm.trans hf
      refine w_iload dX36_fits_72 rfl ?_
      refine w_if_eq 116 dX36_fits_74 (by decide) (fun c2 => ?_) (fun c2 => ?_)
      · replace hf := (if_pos (show l4 = 0 from c2)).symm.trans hf
        exact (pX36_fits_b116 hd hf).to ⟨rfl, trivial⟩
      · replace hf := (if_neg (show ¬ (l4 = 0) from c2)).symm.trans hf
        refine w_aload_n dX36_fits_77 rfl rfl ?_
        obtain ⟨a3, b4, hf⟩ := Option.bind_eq_some_iff.mp hf
        refine GX36_37 b4 dX36_fits_78 rfl ?_
        refine w_aload_n dX36_fits_81 rfl rfl ?_
        obtain ⟨a5, b6, hf⟩ := Option.bind_eq_some_iff.mp hf
        refine GX36_24 b6 dX36_fits_82 rfl ?_
        refine w_iload_n dX36_fits_85 rfl rfl ?_
        obtain ⟨x7, b8, hf⟩ := Option.bind_eq_some_iff.mp hf
        refine x_rI b8 dX36_fits_86 ?_
        refine w_iload dX36_fits_87 rfl ?_
        refine w_iadd dX36_fits_89 ?_
        obtain ⟨x9, b10, hf⟩ := Option.bind_eq_some_iff.mp hf
        refine x_rI b10 dX36_fits_90 ?_
        refine w_aload_n dX36_fits_91 rfl rfl ?_
        obtain ⟨a11, b12, hf⟩ := Option.bind_eq_some_iff.mp hf
        refine GX36_62 b12 dX36_fits_92 rfl ?_
        refine w_iload_n dX36_fits_95 rfl rfl ?_
        refine w_iload dX36_fits_96 rfl ?_
        refine w_iadd dX36_fits_98 ?_
        obtain ⟨x13, b14, hf⟩ := Option.bind_eq_some_iff.mp hf
        refine x_rI b14 dX36_fits_99 ?_
        refine w_icmp_ne 107 dX36_fits_100 (by decide) (fun c15 => ?_) (fun c15 => ?_)
        · replace hf := (if_pos (show ¬ x9 = x13 from c15)).symm.trans hf
          refine w_iconst dX36_fits_107 (v := 0) (by decide) ?_
          exact (pX36_fits_b108 hd ih hf).to ⟨rfl, rfl, rfl, rfl, rfl, trivial⟩
        · replace hf := (if_neg (show ¬ (¬ x9 = x13) from (fun z => z c15))).symm.trans hf
          refine w_iconst dX36_fits_103 (v := 1) (by decide) ?_
          refine w_goto 108 dX36_fits_104 (by decide) ?_
          exact (pX36_fits_b108 hd ih hf).to ⟨rfl, rfl, rfl, rfl, rfl, trivial⟩
def fX36_fits_b60 (N : Nat) (l0 : Nat) (l1 : Int32) (l2 : Int32) (l3 : Int32) (h : eH) : Option (Int32 × eH) :=
  fX36_fits_b66 N N l0 l1 l2 l3 (1 : Int32) (0 : Int32) h
theorem pX36_fits_b60 {w : eW} {d : Nat} (hd : 0 ≤ d) {N : Nat} {l0 : Nat} {l1 : Int32} {l2 : Int32} {l3 : Int32} {h : eH} {q} (hf : fX36_fits_b60 N l0 l1 l2 l3 h = some q) : wp w d YX36_fits 60 [some (.ref l0), some (.int l1), some (.int l2), some (.int l3), none, none] [] h (e_is (e_rn c_I q)) := by
  unfold fX36_fits_b60 at hf
  refine w_iconst dX36_fits_60 (v := 1) (by decide) ?_
  refine w_istore dX36_fits_61 (by decide) (ls' := [some (.ref l0), some (.int l1), some (.int l2), some (.int l3), some (.int (1 : Int32)), none]) rfl ?_
  refine w_iconst dX36_fits_63 (v := 0) (by decide) ?_
  refine w_istore dX36_fits_64 (by decide) (ls' := [some (.ref l0), some (.int l1), some (.int l2), some (.int l3), some (.int (1 : Int32)), some (.int (0 : Int32))]) rfl ?_
  exact (pX36_fits_b66 hd N _ _ _ _ _ _ _ _ hf).to ⟨rfl, rfl, rfl, rfl, rfl, rfl, trivial⟩
def fX36_fits_b39 (N : Nat) (l0 : Nat) (l1 : Int32) (l2 : Int32) (l3 : Int32) (h : eH) : Option (Int32 × eH) :=
  (g_A 35 h l0 9).bind fun a1 =>
  (r_I 103 h a1 l1).bind fun x3 =>
  if x3 = 0 then
    fX36_fits_b60 N l0 l1 l2 l3 h
  else
    (g_I 35 h l0 23).bind fun x6 =>
    if x6 ≤ (l2 + l3) then
      fX36_fits_b60 N l0 l1 l2 l3 h
    else
      fX36_fits_b58 N h
theorem pX36_fits_b39 {w : eW} {d : Nat} (hd : 0 ≤ d) {N : Nat} {l0 : Nat} {l1 : Int32} {l2 : Int32} {l3 : Int32} {h : eH} {q} (hf : fX36_fits_b39 N l0 l1 l2 l3 h = some q) : wp w d YX36_fits 39 [some (.ref l0), some (.int l1), some (.int l2), some (.int l3), none, none] [] h (e_is (e_rn c_I q)) := by
  unfold fX36_fits_b39 at hf
  refine w_aload_n dX36_fits_39 rfl rfl ?_
  obtain ⟨a1, b2, hf⟩ := Option.bind_eq_some_iff.mp hf
  refine GX36_34 b2 dX36_fits_40 rfl ?_
  refine w_iload_n dX36_fits_43 rfl rfl ?_
  obtain ⟨x3, b4, hf⟩ := Option.bind_eq_some_iff.mp hf
  refine x_rZ b4 dX36_fits_44 ?_
  refine w_if_eq 60 dX36_fits_45 (by decide) (fun c5 => ?_) (fun c5 => ?_)
  · replace hf := (if_pos (show x3 = 0 from c5)).symm.trans hf
    exact (pX36_fits_b60 hd hf).to ⟨rfl, rfl, rfl, rfl, trivial⟩
  · replace hf := (if_neg (show ¬ (x3 = 0) from c5)).symm.trans hf
    refine w_iload_n dX36_fits_48 rfl rfl ?_
    refine w_iload_n dX36_fits_49 rfl rfl ?_
    refine w_iadd dX36_fits_50 ?_
    refine w_aload_n dX36_fits_51 rfl rfl ?_
    obtain ⟨x6, b7, hf⟩ := Option.bind_eq_some_iff.mp hf
    refine GX36_139 b7 dX36_fits_52 rfl ?_
    refine w_icmp_ge 60 dX36_fits_55 (by decide) (fun c8 => ?_) (fun c8 => ?_)
    · replace hf := (if_pos (show x6 ≤ (l2 + l3) from c8)).symm.trans hf
      exact (pX36_fits_b60 hd hf).to ⟨rfl, rfl, rfl, rfl, trivial⟩
    · replace hf := (if_neg (show ¬ (x6 ≤ (l2 + l3)) from c8)).symm.trans hf
      exact (pX36_fits_b58 hd hf).to trivial
def fX36_fits (N : Nat) (this : Nat) (p0 : Int32) (p1 : Int32) (h : eH) : Option (Int32 × eH) :=
  (g_A 35 h this 6).bind fun a1 =>
  (r_I 100 h a1 (p0 + (1 : Int32))).bind fun x3 =>
  (g_A 35 h this 6).bind fun a5 =>
  (r_I 100 h a5 p0).bind fun x7 =>
  (g_I 35 h this 23).bind fun x9 =>
  if x9 < (p1 + (x3 - x7)) then
    fX36_fits_b58 N h
  else
    (g_A 35 h this 8).bind fun a12 =>
    (r_I 103 h a12 p0).bind fun x14 =>
    if x14 = 0 then
      fX36_fits_b39 N this p0 p1 (x3 - x7) h
    else
      if 0 < p1 then
        fX36_fits_b58 N h
      else
        fX36_fits_b39 N this p0 p1 (x3 - x7) h
theorem pX36_fits {w : eW} {d : Nat} (hd : 0 ≤ d) {N : Nat} {this : Nat} {p0 : Int32} {p1 : Int32} {h : eH} {q} (hf : fX36_fits N this p0 p1 h = some q) : wm w d YX36_fits [.ref this, .int p0, .int p1] h (e_is (e_rn c_I q)) := by
  show wp w d YX36_fits 0 [some (.ref this), some (.int p0), some (.int p1), none, none, none] [] h _
  unfold fX36_fits at hf
  refine w_aload_n dX36_fits_0 rfl rfl ?_
  obtain ⟨a1, b2, hf⟩ := Option.bind_eq_some_iff.mp hf
  refine GX36_24 b2 dX36_fits_1 rfl ?_
  refine w_iload_n dX36_fits_4 rfl rfl ?_
  refine w_iconst dX36_fits_5 (v := 1) (by decide) ?_
  refine w_iadd dX36_fits_6 ?_
  obtain ⟨x3, b4, hf⟩ := Option.bind_eq_some_iff.mp hf
  refine x_rI b4 dX36_fits_7 ?_
  refine w_aload_n dX36_fits_8 rfl rfl ?_
  obtain ⟨a5, b6, hf⟩ := Option.bind_eq_some_iff.mp hf
  refine GX36_24 b6 dX36_fits_9 rfl ?_
  refine w_iload_n dX36_fits_12 rfl rfl ?_
  obtain ⟨x7, b8, hf⟩ := Option.bind_eq_some_iff.mp hf
  refine x_rI b8 dX36_fits_13 ?_
  refine w_isub dX36_fits_14 ?_
  refine w_istore_n dX36_fits_15 rfl (by decide) (ls' := [some (.ref this), some (.int p0), some (.int p1), some (.int (x3 - x7)), none, none]) rfl ?_
  refine w_iload_n dX36_fits_16 rfl rfl ?_
  refine w_iload_n dX36_fits_17 rfl rfl ?_
  refine w_iadd dX36_fits_18 ?_
  refine w_aload_n dX36_fits_19 rfl rfl ?_
  obtain ⟨x9, b10, hf⟩ := Option.bind_eq_some_iff.mp hf
  refine GX36_139 b10 dX36_fits_20 rfl ?_
  refine w_icmp_gt 58 dX36_fits_23 (by decide) (fun c11 => ?_) (fun c11 => ?_)
  · replace hf := (if_pos (show x9 < (p1 + (x3 - x7)) from c11)).symm.trans hf
    exact (pX36_fits_b58 hd hf).to trivial
  · replace hf := (if_neg (show ¬ (x9 < (p1 + (x3 - x7))) from c11)).symm.trans hf
    refine w_aload_n dX36_fits_26 rfl rfl ?_
    obtain ⟨a12, b13, hf⟩ := Option.bind_eq_some_iff.mp hf
    refine GX36_30 b13 dX36_fits_27 rfl ?_
    refine w_iload_n dX36_fits_30 rfl rfl ?_
    obtain ⟨x14, b15, hf⟩ := Option.bind_eq_some_iff.mp hf
    refine x_rZ b15 dX36_fits_31 ?_
    refine w_if_eq 39 dX36_fits_32 (by decide) (fun c16 => ?_) (fun c16 => ?_)
    · replace hf := (if_pos (show x14 = 0 from c16)).symm.trans hf
      exact (pX36_fits_b39 hd hf).to ⟨rfl, rfl, rfl, rfl, trivial⟩
    · replace hf := (if_neg (show ¬ (x14 = 0) from c16)).symm.trans hf
      refine w_iload_n dX36_fits_35 rfl rfl ?_
      refine w_if_gt 58 dX36_fits_36 (by decide) (fun c17 => ?_) (fun c17 => ?_)
      · replace hf := (if_pos (show 0 < p1 from c17)).symm.trans hf
        exact (pX36_fits_b58 hd hf).to trivial
      · replace hf := (if_neg (show ¬ (0 < p1) from c17)).symm.trans hf
        exact (pX36_fits_b39 hd hf).to ⟨rfl, rfl, rfl, rfl, trivial⟩
abbrev cX36_find : ByteArray := prog_40_method_20_code
def yX36_find : MethodName := ⟨RX36, "find", "()V"⟩
def YX36_find : eY := (yX36_find, cX36_find, 8, none, [])
theorem mX36_find : e_mv YX36_find RX36 0 := ⟨q5708, qs358, q5709, by decide, by decide +kernel, (e_sig (by decide +kernel))⟩
theorem dX36_find_0 : decode cX36_find 0 = .ok (.aload_n 0, 1) := dc_42 (by decide +kernel)
theorem dX36_find_1 : decode cX36_find 1 = .ok (.aload_n 0, 1) := dc_42 (by decide +kernel)
theorem dX36_find_2 : decode cX36_find 2 = .ok (.getfield 62, 3) := dc_180 (a := 0) (b := 62) (n := 62) (by decide +kernel)
theorem dX36_find_5 : decode cX36_find 5 = .ok (.aload_n 0, 1) := dc_42 (by decide +kernel)
theorem dX36_find_6 : decode cX36_find 6 = .ok (.getfield 139, 3) := dc_180 (a := 0) (b := 139) (n := 139) (by decide +kernel)
theorem dX36_find_9 : decode cX36_find 9 = .ok (.invokevirtual 131, 3) := dc_182 (a := 0) (b := 131) (n := 131) (by decide +kernel)
theorem dX36_find_12 : decode cX36_find 12 = .ok (.istore_n 1, 1) := dc_60 (by decide +kernel)
theorem dX36_find_13 : decode cX36_find 13 = .ok (.iconst 1, 1) := dc_4 (by decide +kernel)
theorem dX36_find_14 : decode cX36_find 14 = .ok (.istore_n 2, 1) := dc_61 (by decide +kernel)
theorem dX36_find_15 : decode cX36_find 15 = .ok (.iload_n 2, 1) := dc_28 (by decide +kernel)
theorem dX36_find_16 : decode cX36_find 16 = .ok (.aload_n 0, 1) := dc_42 (by decide +kernel)
theorem dX36_find_17 : decode cX36_find 17 = .ok (.getfield 139, 3) := dc_180 (a := 0) (b := 139) (n := 139) (by decide +kernel)
theorem dX36_find_20 : decode cX36_find 20 = .ok (.if_icmp .ge 46, 3) := dc_162 (a := 0) (b := 46) (v := 46) (by decide +kernel)
theorem dX36_find_23 : decode cX36_find 23 = .ok (.aload_n 0, 1) := dc_42 (by decide +kernel)
theorem dX36_find_24 : decode cX36_find 24 = .ok (.getfield 65, 3) := dc_180 (a := 0) (b := 65) (n := 65) (by decide +kernel)
theorem dX36_find_27 : decode cX36_find 27 = .ok (.iload_n 2, 1) := dc_28 (by decide +kernel)
theorem dX36_find_28 : decode cX36_find 28 = .ok (.iload_n 1, 1) := dc_27 (by decide +kernel)
theorem dX36_find_29 : decode cX36_find 29 = .ok (.ifCond .lt 29, 3) := dc_155 (a := 0) (b := 29) (v := 29) (by decide +kernel)
theorem dX36_find_32 : decode cX36_find 32 = .ok (.aload_n 0, 1) := dc_42 (by decide +kernel)
theorem dX36_find_33 : decode cX36_find 33 = .ok (.getfield 49, 3) := dc_180 (a := 0) (b := 49) (n := 49) (by decide +kernel)
theorem dX36_find_36 : decode cX36_find 36 = .ok (.aload_n 0, 1) := dc_42 (by decide +kernel)
theorem dX36_find_37 : decode cX36_find 37 = .ok (.getfield 43, 3) := dc_180 (a := 0) (b := 43) (n := 43) (by decide +kernel)
theorem dX36_find_40 : decode cX36_find 40 = .ok (.iload_n 1, 1) := dc_27 (by decide +kernel)
theorem dX36_find_41 : decode cX36_find 41 = .ok (.iaload, 1) := dc_46 (by decide +kernel)
theorem dX36_find_42 : decode cX36_find 42 = .ok (.iload_n 2, 1) := dc_28 (by decide +kernel)
theorem dX36_find_43 : decode cX36_find 43 = .ok (.iadd, 1) := dc_96 (by decide +kernel)
theorem dX36_find_44 : decode cX36_find 44 = .ok (.iconst 1, 1) := dc_4 (by decide +kernel)
theorem dX36_find_45 : decode cX36_find 45 = .ok (.isub, 1) := dc_100 (by decide +kernel)
theorem dX36_find_46 : decode cX36_find 46 = .ok (.baload, 1) := dc_51 (by decide +kernel)
theorem dX36_find_47 : decode cX36_find 47 = .ok (.ifCond .eq 7, 3) := dc_153 (a := 0) (b := 7) (v := 7) (by decide +kernel)
theorem dX36_find_50 : decode cX36_find 50 = .ok (.iconst 1, 1) := dc_4 (by decide +kernel)
theorem dX36_find_51 : decode cX36_find 51 = .ok (.goto 8, 3) := dc_167 (a := 0) (b := 8) (v := 8) (by decide +kernel)
theorem dX36_find_54 : decode cX36_find 54 = .ok (.iconst 0, 1) := dc_3 (by decide +kernel)
theorem dX36_find_55 : decode cX36_find 55 = .ok (.goto 4, 3) := dc_167 (a := 0) (b := 4) (v := 4) (by decide +kernel)
theorem dX36_find_58 : decode cX36_find 58 = .ok (.iconst 0, 1) := dc_3 (by decide +kernel)
theorem dX36_find_59 : decode cX36_find 59 = .ok (.iastore, 1) := dc_79 (by decide +kernel)
theorem dX36_find_60 : decode cX36_find 60 = .ok (.iinc 2 1, 3) := dc_132 (a := 2) (b := 1) (v := 1) (by decide +kernel)
theorem dX36_find_63 : decode cX36_find 63 = .ok (.goto (-48), 3) := dc_167 (a := 255) (b := 208) (v := -48) (by decide +kernel)
theorem dX36_find_66 : decode cX36_find 66 = .ok (.iconst 0, 1) := dc_3 (by decide +kernel)
theorem dX36_find_67 : decode cX36_find 67 = .ok (.istore_n 2, 1) := dc_61 (by decide +kernel)
theorem dX36_find_68 : decode cX36_find 68 = .ok (.iload_n 2, 1) := dc_28 (by decide +kernel)
theorem dX36_find_69 : decode cX36_find 69 = .ok (.aload_n 0, 1) := dc_42 (by decide +kernel)
theorem dX36_find_70 : decode cX36_find 70 = .ok (.getfield 102, 3) := dc_180 (a := 0) (b := 102) (n := 102) (by decide +kernel)
theorem dX36_find_73 : decode cX36_find 73 = .ok (.if_icmp .ge 128, 3) := dc_162 (a := 0) (b := 128) (v := 128) (by decide +kernel)
theorem dX36_find_76 : decode cX36_find 76 = .ok (.iload_n 1, 1) := dc_27 (by decide +kernel)
theorem dX36_find_77 : decode cX36_find 77 = .ok (.ifCond .ge 124, 3) := dc_156 (a := 0) (b := 124) (v := 124) (by decide +kernel)
theorem dX36_find_80 : decode cX36_find 80 = .ok (.iconst 0, 1) := dc_3 (by decide +kernel)
theorem dX36_find_81 : decode cX36_find 81 = .ok (.istore_n 3, 1) := dc_62 (by decide +kernel)
theorem dX36_find_82 : decode cX36_find 82 = .ok (.iload_n 3, 1) := dc_29 (by decide +kernel)
theorem dX36_find_83 : decode cX36_find 83 = .ok (.aload_n 0, 1) := dc_42 (by decide +kernel)
theorem dX36_find_84 : decode cX36_find 84 = .ok (.getfield 139, 3) := dc_180 (a := 0) (b := 139) (n := 139) (by decide +kernel)
theorem dX36_find_87 : decode cX36_find 87 = .ok (.if_icmp .ge 108, 3) := dc_162 (a := 0) (b := 108) (v := 108) (by decide +kernel)
theorem dX36_find_90 : decode cX36_find 90 = .ok (.aload_n 0, 1) := dc_42 (by decide +kernel)
theorem dX36_find_91 : decode cX36_find 91 = .ok (.iload_n 2, 1) := dc_28 (by decide +kernel)
theorem dX36_find_92 : decode cX36_find 92 = .ok (.iload_n 3, 1) := dc_29 (by decide +kernel)
theorem dX36_find_93 : decode cX36_find 93 = .ok (.invokevirtual 142, 3) := dc_182 (a := 0) (b := 142) (n := 142) (by decide +kernel)
theorem dX36_find_96 : decode cX36_find 96 = .ok (.ifCond .eq 93, 3) := dc_153 (a := 0) (b := 93) (v := 93) (by decide +kernel)
theorem dX36_find_99 : decode cX36_find 99 = .ok (.aload_n 0, 1) := dc_42 (by decide +kernel)
theorem dX36_find_100 : decode cX36_find 100 = .ok (.getfield 24, 3) := dc_180 (a := 0) (b := 24) (n := 24) (by decide +kernel)
theorem dX36_find_103 : decode cX36_find 103 = .ok (.iload_n 2, 1) := dc_28 (by decide +kernel)
theorem dX36_find_104 : decode cX36_find 104 = .ok (.iconst 1, 1) := dc_4 (by decide +kernel)
theorem dX36_find_105 : decode cX36_find 105 = .ok (.iadd, 1) := dc_96 (by decide +kernel)
theorem dX36_find_106 : decode cX36_find 106 = .ok (.iaload, 1) := dc_46 (by decide +kernel)
theorem dX36_find_107 : decode cX36_find 107 = .ok (.aload_n 0, 1) := dc_42 (by decide +kernel)
theorem dX36_find_108 : decode cX36_find 108 = .ok (.getfield 24, 3) := dc_180 (a := 0) (b := 24) (n := 24) (by decide +kernel)
theorem dX36_find_111 : decode cX36_find 111 = .ok (.iload_n 2, 1) := dc_28 (by decide +kernel)
theorem dX36_find_112 : decode cX36_find 112 = .ok (.iaload, 1) := dc_46 (by decide +kernel)
theorem dX36_find_113 : decode cX36_find 113 = .ok (.isub, 1) := dc_100 (by decide +kernel)
theorem dX36_find_114 : decode cX36_find 114 = .ok (.istore 4, 2) := dc_54 (a := 4) (by decide +kernel)
theorem dX36_find_116 : decode cX36_find 116 = .ok (.iconst 0, 1) := dc_3 (by decide +kernel)
theorem dX36_find_117 : decode cX36_find 117 = .ok (.istore 5, 2) := dc_54 (a := 5) (by decide +kernel)
theorem dX36_find_119 : decode cX36_find 119 = .ok (.iload 5, 2) := dc_21 (a := 5) (by decide +kernel)
theorem dX36_find_121 : decode cX36_find 121 = .ok (.iload 4, 2) := dc_21 (a := 4) (by decide +kernel)
theorem dX36_find_123 : decode cX36_find 123 = .ok (.if_icmp .gt 66, 3) := dc_163 (a := 0) (b := 66) (v := 66) (by decide +kernel)
theorem dX36_find_126 : decode cX36_find 126 = .ok (.aload_n 0, 1) := dc_42 (by decide +kernel)
theorem dX36_find_127 : decode cX36_find 127 = .ok (.getfield 40, 3) := dc_180 (a := 0) (b := 40) (n := 40) (by decide +kernel)
theorem dX36_find_130 : decode cX36_find 130 = .ok (.aload_n 0, 1) := dc_42 (by decide +kernel)
theorem dX36_find_131 : decode cX36_find 131 = .ok (.getfield 27, 3) := dc_180 (a := 0) (b := 27) (n := 27) (by decide +kernel)
theorem dX36_find_134 : decode cX36_find 134 = .ok (.iload_n 2, 1) := dc_28 (by decide +kernel)
theorem dX36_find_135 : decode cX36_find 135 = .ok (.iaload, 1) := dc_46 (by decide +kernel)
theorem dX36_find_136 : decode cX36_find 136 = .ok (.iload 5, 2) := dc_21 (a := 5) (by decide +kernel)
theorem dX36_find_138 : decode cX36_find 138 = .ok (.iadd, 1) := dc_96 (by decide +kernel)
theorem dX36_find_139 : decode cX36_find 139 = .ok (.iaload, 1) := dc_46 (by decide +kernel)
theorem dX36_find_140 : decode cX36_find 140 = .ok (.istore 6, 2) := dc_54 (a := 6) (by decide +kernel)
theorem dX36_find_142 : decode cX36_find 142 = .ok (.iload_n 3, 1) := dc_29 (by decide +kernel)
theorem dX36_find_143 : decode cX36_find 143 = .ok (.iload 5, 2) := dc_21 (a := 5) (by decide +kernel)
theorem dX36_find_145 : decode cX36_find 145 = .ok (.iadd, 1) := dc_96 (by decide +kernel)
theorem dX36_find_146 : decode cX36_find 146 = .ok (.istore 7, 2) := dc_54 (a := 7) (by decide +kernel)
theorem dX36_find_148 : decode cX36_find 148 = .ok (.iload 7, 2) := dc_21 (a := 7) (by decide +kernel)
theorem dX36_find_150 : decode cX36_find 150 = .ok (.ifCond .le 33, 3) := dc_158 (a := 0) (b := 33) (v := 33) (by decide +kernel)
theorem dX36_find_153 : decode cX36_find 153 = .ok (.iload 7, 2) := dc_21 (a := 7) (by decide +kernel)
theorem dX36_find_155 : decode cX36_find 155 = .ok (.aload_n 0, 1) := dc_42 (by decide +kernel)
theorem dX36_find_156 : decode cX36_find 156 = .ok (.getfield 139, 3) := dc_180 (a := 0) (b := 139) (n := 139) (by decide +kernel)
theorem dX36_find_159 : decode cX36_find 159 = .ok (.if_icmp .ge 24, 3) := dc_162 (a := 0) (b := 24) (v := 24) (by decide +kernel)
theorem dX36_find_162 : decode cX36_find 162 = .ok (.iload 6, 2) := dc_21 (a := 6) (by decide +kernel)
theorem dX36_find_164 : decode cX36_find 164 = .ok (.aload_n 0, 1) := dc_42 (by decide +kernel)
theorem dX36_find_165 : decode cX36_find 165 = .ok (.getfield 65, 3) := dc_180 (a := 0) (b := 65) (n := 65) (by decide +kernel)
theorem dX36_find_168 : decode cX36_find 168 = .ok (.iload 7, 2) := dc_21 (a := 7) (by decide +kernel)
theorem dX36_find_170 : decode cX36_find 170 = .ok (.iaload, 1) := dc_46 (by decide +kernel)
theorem dX36_find_171 : decode cX36_find 171 = .ok (.if_icmp .le 12, 3) := dc_164 (a := 0) (b := 12) (v := 12) (by decide +kernel)
theorem dX36_find_174 : decode cX36_find 174 = .ok (.aload_n 0, 1) := dc_42 (by decide +kernel)
theorem dX36_find_175 : decode cX36_find 175 = .ok (.getfield 65, 3) := dc_180 (a := 0) (b := 65) (n := 65) (by decide +kernel)
theorem dX36_find_178 : decode cX36_find 178 = .ok (.iload 7, 2) := dc_21 (a := 7) (by decide +kernel)
theorem dX36_find_180 : decode cX36_find 180 = .ok (.iload 6, 2) := dc_21 (a := 6) (by decide +kernel)
theorem dX36_find_182 : decode cX36_find 182 = .ok (.iastore, 1) := dc_79 (by decide +kernel)
theorem dX36_find_183 : decode cX36_find 183 = .ok (.iinc 5 1, 3) := dc_132 (a := 5) (b := 1) (v := 1) (by decide +kernel)
theorem dX36_find_186 : decode cX36_find 186 = .ok (.goto (-67), 3) := dc_167 (a := 255) (b := 189) (v := -67) (by decide +kernel)
theorem dX36_find_189 : decode cX36_find 189 = .ok (.iinc 3 1, 3) := dc_132 (a := 3) (b := 1) (v := 1) (by decide +kernel)
theorem dX36_find_192 : decode cX36_find 192 = .ok (.goto (-110), 3) := dc_167 (a := 255) (b := 146) (v := -110) (by decide +kernel)
theorem dX36_find_195 : decode cX36_find 195 = .ok (.iinc 2 1, 3) := dc_132 (a := 2) (b := 1) (v := 1) (by decide +kernel)
theorem dX36_find_198 : decode cX36_find 198 = .ok (.goto (-130), 3) := dc_167 (a := 255) (b := 126) (v := -130) (by decide +kernel)
theorem dX36_find_201 : decode cX36_find 201 = .ok (.aload_n 0, 1) := dc_42 (by decide +kernel)
theorem dX36_find_202 : decode cX36_find 202 = .ok (.iconst 0, 1) := dc_3 (by decide +kernel)
theorem dX36_find_203 : decode cX36_find 203 = .ok (.putfield 146, 3) := dc_181 (a := 0) (b := 146) (n := 146) (by decide +kernel)
theorem dX36_find_206 : decode cX36_find 206 = .ok (.iconst 1, 1) := dc_4 (by decide +kernel)
theorem dX36_find_207 : decode cX36_find 207 = .ok (.istore_n 2, 1) := dc_61 (by decide +kernel)
theorem dX36_find_208 : decode cX36_find 208 = .ok (.iload_n 2, 1) := dc_28 (by decide +kernel)
theorem dX36_find_209 : decode cX36_find 209 = .ok (.aload_n 0, 1) := dc_42 (by decide +kernel)
theorem dX36_find_210 : decode cX36_find 210 = .ok (.getfield 139, 3) := dc_180 (a := 0) (b := 139) (n := 139) (by decide +kernel)
theorem dX36_find_213 : decode cX36_find 213 = .ok (.if_icmp .ge 62, 3) := dc_162 (a := 0) (b := 62) (v := 62) (by decide +kernel)
theorem dX36_find_216 : decode cX36_find 216 = .ok (.aload_n 0, 1) := dc_42 (by decide +kernel)
theorem dX36_find_217 : decode cX36_find 217 = .ok (.getfield 65, 3) := dc_180 (a := 0) (b := 65) (n := 65) (by decide +kernel)
theorem dX36_find_220 : decode cX36_find 220 = .ok (.iload_n 2, 1) := dc_28 (by decide +kernel)
theorem dX36_find_221 : decode cX36_find 221 = .ok (.iaload, 1) := dc_46 (by decide +kernel)
theorem dX36_find_222 : decode cX36_find 222 = .ok (.iconst 2, 1) := dc_5 (by decide +kernel)
theorem dX36_find_223 : decode cX36_find 223 = .ok (.irem, 1) := dc_112 (by decide +kernel)
theorem dX36_find_224 : decode cX36_find 224 = .ok (.iconst 1, 1) := dc_4 (by decide +kernel)
theorem dX36_find_225 : decode cX36_find 225 = .ok (.if_icmp .ne 44, 3) := dc_160 (a := 0) (b := 44) (v := 44) (by decide +kernel)
theorem dX36_find_228 : decode cX36_find 228 = .ok (.iload_n 2, 1) := dc_28 (by decide +kernel)
theorem dX36_find_229 : decode cX36_find 229 = .ok (.aload_n 0, 1) := dc_42 (by decide +kernel)
theorem dX36_find_230 : decode cX36_find 230 = .ok (.getfield 13, 3) := dc_180 (a := 0) (b := 13) (n := 13) (by decide +kernel)
theorem dX36_find_233 : decode cX36_find 233 = .ok (.if_icmp .lt 36, 3) := dc_161 (a := 0) (b := 36) (v := 36) (by decide +kernel)
theorem dX36_find_236 : decode cX36_find 236 = .ok (.aload_n 0, 1) := dc_42 (by decide +kernel)
theorem dX36_find_237 : decode cX36_find 237 = .ok (.getfield 139, 3) := dc_180 (a := 0) (b := 139) (n := 139) (by decide +kernel)
theorem dX36_find_240 : decode cX36_find 240 = .ok (.iload_n 2, 1) := dc_28 (by decide +kernel)
theorem dX36_find_241 : decode cX36_find 241 = .ok (.isub, 1) := dc_100 (by decide +kernel)
theorem dX36_find_242 : decode cX36_find 242 = .ok (.aload_n 0, 1) := dc_42 (by decide +kernel)
theorem dX36_find_243 : decode cX36_find 243 = .ok (.getfield 17, 3) := dc_180 (a := 0) (b := 17) (n := 17) (by decide +kernel)
theorem dX36_find_246 : decode cX36_find 246 = .ok (.if_icmp .lt 23, 3) := dc_161 (a := 0) (b := 23) (v := 23) (by decide +kernel)
theorem dX36_find_249 : decode cX36_find 249 = .ok (.aload_n 0, 1) := dc_42 (by decide +kernel)
theorem dX36_find_250 : decode cX36_find 250 = .ok (.getfield 68, 3) := dc_180 (a := 0) (b := 68) (n := 68) (by decide +kernel)
theorem dX36_find_253 : decode cX36_find 253 = .ok (.aload_n 0, 1) := dc_42 (by decide +kernel)
theorem dX36_find_254 : decode cX36_find 254 = .ok (.getfield 146, 3) := dc_180 (a := 0) (b := 146) (n := 146) (by decide +kernel)
theorem dX36_find_257 : decode cX36_find 257 = .ok (.iload_n 2, 1) := dc_28 (by decide +kernel)
theorem dX36_find_258 : decode cX36_find 258 = .ok (.iastore, 1) := dc_79 (by decide +kernel)
theorem dX36_find_259 : decode cX36_find 259 = .ok (.aload_n 0, 1) := dc_42 (by decide +kernel)
theorem dX36_find_260 : decode cX36_find 260 = .ok (.dup, 1) := dc_89 (by decide +kernel)
theorem dX36_find_261 : decode cX36_find 261 = .ok (.getfield 146, 3) := dc_180 (a := 0) (b := 146) (n := 146) (by decide +kernel)
theorem dX36_find_264 : decode cX36_find 264 = .ok (.iconst 1, 1) := dc_4 (by decide +kernel)
theorem dX36_find_265 : decode cX36_find 265 = .ok (.iadd, 1) := dc_96 (by decide +kernel)
theorem dX36_find_266 : decode cX36_find 266 = .ok (.putfield 146, 3) := dc_181 (a := 0) (b := 146) (n := 146) (by decide +kernel)
theorem dX36_find_269 : decode cX36_find 269 = .ok (.iinc 2 1, 3) := dc_132 (a := 2) (b := 1) (v := 1) (by decide +kernel)
theorem dX36_find_272 : decode cX36_find 272 = .ok (.goto (-64), 3) := dc_167 (a := 255) (b := 192) (v := -64) (by decide +kernel)
theorem dX36_find_275 : decode cX36_find 275 = .ok (.return_, 1) := dc_177 (by decide +kernel)
theorem GX36_102 {w : eW} {d : Nat} {Y : eY} {pc : Nat} {ls : eL} {st : List Value} {h : eH} {Q : eO → eH → Prop} {a : Nat} {x : Int32} (hf : g_I 35 h a 5 = some x) (hd : decode Y.2.1 pc = .ok (.getfield 102, 3)) (hY : Y.1.cls = RX36) (kk : wp w d Y (pc + 3) ls (.int x :: st) h Q) : wp w d Y pc ls (.ref a :: st) h Q := x_gI (ci := 35) (k := 5) hf hd rfl (by decide) (by rw [hY]; exact q4138) kk
theorem GX36_13 {w : eW} {d : Nat} {Y : eY} {pc : Nat} {ls : eL} {st : List Value} {h : eH} {Q : eO → eH → Prop} {a : Nat} {x : Int32} (hf : g_I 35 h a 1 = some x) (hd : decode Y.2.1 pc = .ok (.getfield 13, 3)) (hY : Y.1.cls = RX36) (kk : wp w d Y (pc + 3) ls (.int x :: st) h Q) : wp w d Y pc ls (.ref a :: st) h Q := x_gI (ci := 35) (k := 1) hf hd rfl (by decide) (by rw [hY]; exact q4132) kk
theorem GX36_146 {w : eW} {d : Nat} {Y : eY} {pc : Nat} {ls : eL} {st : List Value} {h : eH} {Q : eO → eH → Prop} {a : Nat} {x : Int32} (hf : g_I 35 h a 26 = some x) (hd : decode Y.2.1 pc = .ok (.getfield 146, 3)) (hY : Y.1.cls = RX36) (kk : wp w d Y (pc + 3) ls (.int x :: st) h Q) : wp w d Y pc ls (.ref a :: st) h Q := x_gI (ci := 35) (k := 26) hf hd rfl (by decide) (by rw [hY]; exact q4159) kk
theorem GX36_17 {w : eW} {d : Nat} {Y : eY} {pc : Nat} {ls : eL} {st : List Value} {h : eH} {Q : eO → eH → Prop} {a : Nat} {x : Int32} (hf : g_I 35 h a 2 = some x) (hd : decode Y.2.1 pc = .ok (.getfield 17, 3)) (hY : Y.1.cls = RX36) (kk : wp w d Y (pc + 3) ls (.int x :: st) h Q) : wp w d Y pc ls (.ref a :: st) h Q := x_gI (ci := 35) (k := 2) hf hd rfl (by decide) (by rw [hY]; exact q4133) kk
theorem GX36_27 {w : eW} {d : Nat} {Y : eY} {pc : Nat} {ls : eL} {st : List Value} {h : eH} {Q : eO → eH → Prop} {a : Nat} {x : Nat} (hf : g_A 35 h a 7 = some x) (hd : decode Y.2.1 pc = .ok (.getfield 27, 3)) (hY : Y.1.cls = RX36) (kk : wp w d Y (pc + 3) ls (.ref x :: st) h Q) : wp w d Y pc ls (.ref a :: st) h Q := x_gA (ci := 35) (k := 7) hf hd rfl (by decide) (by rw [hY]; exact q4140) kk
theorem GX36_40 {w : eW} {d : Nat} {Y : eY} {pc : Nat} {ls : eL} {st : List Value} {h : eH} {Q : eO → eH → Prop} {a : Nat} {x : Nat} (hf : g_A 35 h a 11 = some x) (hd : decode Y.2.1 pc = .ok (.getfield 40, 3)) (hY : Y.1.cls = RX36) (kk : wp w d Y (pc + 3) ls (.ref x :: st) h Q) : wp w d Y pc ls (.ref a :: st) h Q := x_gA (ci := 35) (k := 11) hf hd rfl (by decide) (by rw [hY]; exact q4144) kk
theorem GX36_49 {w : eW} {d : Nat} {Y : eY} {pc : Nat} {ls : eL} {st : List Value} {h : eH} {Q : eO → eH → Prop} {a : Nat} {x : Nat} (hf : g_A 35 h a 15 = some x) (hd : decode Y.2.1 pc = .ok (.getfield 49, 3)) (hY : Y.1.cls = RX36) (kk : wp w d Y (pc + 3) ls (.ref x :: st) h Q) : wp w d Y pc ls (.ref a :: st) h Q := x_gA (ci := 35) (k := 15) hf hd rfl (by decide) (by rw [hY]; exact q4148) kk
theorem GX36_65 {w : eW} {d : Nat} {Y : eY} {pc : Nat} {ls : eL} {st : List Value} {h : eH} {Q : eO → eH → Prop} {a : Nat} {x : Nat} (hf : g_A 35 h a 25 = some x) (hd : decode Y.2.1 pc = .ok (.getfield 65, 3)) (hY : Y.1.cls = RX36) (kk : wp w d Y (pc + 3) ls (.ref x :: st) h Q) : wp w d Y pc ls (.ref a :: st) h Q := x_gA (ci := 35) (k := 25) hf hd rfl (by decide) (by rw [hY]; exact q4158) kk
theorem GX36_68 {w : eW} {d : Nat} {Y : eY} {pc : Nat} {ls : eL} {st : List Value} {h : eH} {Q : eO → eH → Prop} {a : Nat} {x : Nat} (hf : g_A 35 h a 27 = some x) (hd : decode Y.2.1 pc = .ok (.getfield 68, 3)) (hY : Y.1.cls = RX36) (kk : wp w d Y (pc + 3) ls (.ref x :: st) h Q) : wp w d Y pc ls (.ref a :: st) h Q := x_gA (ci := 35) (k := 27) hf hd rfl (by decide) (by rw [hY]; exact q4161) kk
theorem SX36_146 {w : eW} {d : Nat} {Y : eY} {pc : Nat} {ls : eL} {st : List Value} {h : eH} {Q : eO → eH → Prop} {a : Nat} {h' : eH} {x : Int32} (hf : p_V 35 h a 26 (.int x) = some h') (hd : decode Y.2.1 pc = .ok (.putfield 146, 3)) (hY : Y.1.cls = RX36) (kk : wp w d Y (pc + 3) ls st h' Q) : wp w d Y pc ls (.int x :: .ref a :: st) h Q := x_pI (ci := 35) (k := 26) hf hd rfl (by decide) (by rw [hY]; exact q4159) rfl rfl kk
def fX36_find_b59 (N : Nat) (k15 : Nat → Int32 → Int32 → eH → Option (Unit × eH)) (l0 : Nat) (l1 : Int32) (l2 : Int32) (s0 : Nat) (s1 : Int32) (s2 : Int32) (h : eH) : Option (Unit × eH) :=
  (q_V 100 h s0 s1 (.int s2)).bind fun h1 =>
  k15 l0 l1 (l2 + (1 : Int32)) h1
theorem pX36_find_b59 {w : eW} {d : Nat} (hd : 1 ≤ d + 1) {N : Nat} {k15 : Nat → Int32 → Int32 → eH → Option (Unit × eH)} (hk15 : ∀ l0 l1 l2 h q, k15 l0 l1 l2 h = some q → wp w (d + 1) YX36_find 15 [some (.ref l0), some (.int l1), some (.int l2), none, none, none, none, none] [] h (e_is (e_rn c_V q))) {l0 : Nat} {l1 : Int32} {l2 : Int32} {s0 : Nat} {s1 : Int32} {s2 : Int32} {h : eH} {q} (hf : fX36_find_b59 N k15 l0 l1 l2 s0 s1 s2 h = some q) : wp w (d + 1) YX36_find 59 [some (.ref l0), some (.int l1), some (.int l2), none, none, none, none, none] [.int s2, .int s1, .ref s0] h (e_is (e_rn c_V q)) := by
  unfold fX36_find_b59 at hf
  obtain ⟨h1, b2, hf⟩ := Option.bind_eq_some_iff.mp hf
  refine x_qI b2 dX36_find_59 ?_
  refine w_iinc dX36_find_60 (v := (l2 + (1 : Int32))) rfl rfl (by decide) (ls' := [some (.ref l0), some (.int l1), some (.int (l2 + (1 : Int32))), none, none, none, none, none]) rfl ?_
  refine w_goto 15 dX36_find_63 (by decide) ?_
  exact (hk15 _ _ _ _ _ hf).to ⟨rfl, rfl, rfl, trivial⟩
def fX36_find_b183 (N : Nat) (k119 : Nat → Int32 → Int32 → Int32 → Int32 → Int32 → eH → Option (Unit × eH)) (l0 : Nat) (l1 : Int32) (l2 : Int32) (l3 : Int32) (l4 : Int32) (l5 : Int32) (h : eH) : Option (Unit × eH) :=
  k119 l0 l1 l2 l3 l4 (l5 + (1 : Int32)) h
theorem pX36_find_b183 {w : eW} {d : Nat} (hd : 1 ≤ d + 1) {N : Nat} {k119 : Nat → Int32 → Int32 → Int32 → Int32 → Int32 → eH → Option (Unit × eH)} (hk119 : ∀ l0 l1 l2 l3 l4 l5 h q, k119 l0 l1 l2 l3 l4 l5 h = some q → wp w (d + 1) YX36_find 119 [some (.ref l0), some (.int l1), some (.int l2), some (.int l3), some (.int l4), some (.int l5), none, none] [] h (e_is (e_rn c_V q))) {l0 : Nat} {l1 : Int32} {l2 : Int32} {l3 : Int32} {l4 : Int32} {l5 : Int32} {h : eH} {q} (hf : fX36_find_b183 N k119 l0 l1 l2 l3 l4 l5 h = some q) : wp w (d + 1) YX36_find 183 [some (.ref l0), some (.int l1), some (.int l2), some (.int l3), some (.int l4), some (.int l5), none, none] [] h (e_is (e_rn c_V q)) := by
  unfold fX36_find_b183 at hf
  refine w_iinc dX36_find_183 (v := (l5 + (1 : Int32))) rfl rfl (by decide) (ls' := [some (.ref l0), some (.int l1), some (.int l2), some (.int l3), some (.int l4), some (.int (l5 + (1 : Int32))), none, none]) rfl ?_
  refine w_goto 119 dX36_find_186 (by decide) ?_
  exact (hk119 _ _ _ _ _ _ _ _ hf).to ⟨rfl, rfl, rfl, rfl, rfl, rfl, trivial⟩
def fX36_find_b189 (N : Nat) (k82 : Nat → Int32 → Int32 → Int32 → eH → Option (Unit × eH)) (l0 : Nat) (l1 : Int32) (l2 : Int32) (l3 : Int32) (h : eH) : Option (Unit × eH) :=
  k82 l0 l1 l2 (l3 + (1 : Int32)) h
theorem pX36_find_b189 {w : eW} {d : Nat} (hd : 1 ≤ d + 1) {N : Nat} {k82 : Nat → Int32 → Int32 → Int32 → eH → Option (Unit × eH)} (hk82 : ∀ l0 l1 l2 l3 h q, k82 l0 l1 l2 l3 h = some q → wp w (d + 1) YX36_find 82 [some (.ref l0), some (.int l1), some (.int l2), some (.int l3), none, none, none, none] [] h (e_is (e_rn c_V q))) {l0 : Nat} {l1 : Int32} {l2 : Int32} {l3 : Int32} {h : eH} {q} (hf : fX36_find_b189 N k82 l0 l1 l2 l3 h = some q) : wp w (d + 1) YX36_find 189 [some (.ref l0), some (.int l1), some (.int l2), some (.int l3), none, none, none, none] [] h (e_is (e_rn c_V q)) := by
  unfold fX36_find_b189 at hf
  refine w_iinc dX36_find_189 (v := (l3 + (1 : Int32))) rfl rfl (by decide) (ls' := [some (.ref l0), some (.int l1), some (.int l2), some (.int (l3 + (1 : Int32))), none, none, none, none]) rfl ?_
  refine w_goto 82 dX36_find_192 (by decide) ?_
  exact (hk82 _ _ _ _ _ _ hf).to ⟨rfl, rfl, rfl, rfl, trivial⟩
def fX36_find_b119 (N : Nat) (k82 : Nat → Int32 → Int32 → Int32 → eH → Option (Unit × eH)) : Nat → Nat → Int32 → Int32 → Int32 → Int32 → Int32 → eH → Option (Unit × eH)
  | 0, _, _, _, _, _, _, _ => none
  | n + 1, l0, l1, l2, l3, l4, l5, h =>
    if l4 < l5 then
      fX36_find_b189 N k82 l0 l1 l2 l3 h
    else
      (g_A 35 h l0 11).bind fun a2 =>
      (g_A 35 h l0 7).bind fun a4 =>
      (r_I 100 h a4 l2).bind fun x6 =>
      (r_I 100 h a2 (x6 + l5)).bind fun x8 =>
      if (l3 + l5) ≤ 0 then
        fX36_find_b183 N (fX36_find_b119 N k82 n) l0 l1 l2 l3 l4 l5 h
      else
        (g_I 35 h l0 23).bind fun x11 =>
        if x11 ≤ (l3 + l5) then
          fX36_find_b183 N (fX36_find_b119 N k82 n) l0 l1 l2 l3 l4 l5 h
        else
          (g_A 35 h l0 25).bind fun a14 =>
          (r_I 100 h a14 (l3 + l5)).bind fun x16 =>
          if x8 ≤ x16 then
            fX36_find_b183 N (fX36_find_b119 N k82 n) l0 l1 l2 l3 l4 l5 h
          else
            (g_A 35 h l0 25).bind fun a19 =>
            (q_V 100 h a19 (l3 + l5) (.int x8)).bind fun h21 =>
            fX36_find_b183 N (fX36_find_b119 N k82 n) l0 l1 l2 l3 l4 l5 h21
theorem pX36_find_b119 {w : eW} {d : Nat} (hd : 1 ≤ d + 1) {N : Nat} {k82 : Nat → Int32 → Int32 → Int32 → eH → Option (Unit × eH)} (hk82 : ∀ l0 l1 l2 l3 h q, k82 l0 l1 l2 l3 h = some q → wp w (d + 1) YX36_find 82 [some (.ref l0), some (.int l1), some (.int l2), some (.int l3), none, none, none, none] [] h (e_is (e_rn c_V q))) : ∀ (n : Nat) l0 l1 l2 l3 l4 l5 h q, fX36_find_b119 N k82 n l0 l1 l2 l3 l4 l5 h = some q → wp w (d + 1) YX36_find 119 [some (.ref l0), some (.int l1), some (.int l2), some (.int l3), some (.int l4), some (.int l5), none, none] [] h (e_is (e_rn c_V q)) := by
  intro n
  induction n with
  | zero => intro l0 l1 l2 l3 l4 l5 h q hf; simp [fX36_find_b119] at hf
  | succ n ih =>
    intro l0 l1 l2 l3 l4 l5 h q hf
    rw [fX36_find_b119] at hf
    refine w_iload dX36_find_119 rfl ?_
    refine w_iload dX36_find_121 rfl ?_
    refine w_icmp_gt 189 dX36_find_123 (by decide) (fun c1 => ?_) (fun c1 => ?_)
    · replace hf := (if_pos (show l4 < l5 from c1)).symm.trans hf
      exact (pX36_find_b189 hd hk82 hf).to ⟨rfl, rfl, rfl, rfl, trivial⟩
    · replace hf := (if_neg (show ¬ (l4 < l5) from c1)).symm.trans hf
      refine w_aload_n dX36_find_126 rfl rfl ?_
      obtain ⟨a2, b3, hf⟩ := Option.bind_eq_some_iff.mp hf
      refine GX36_40 b3 dX36_find_127 rfl ?_
      refine w_aload_n dX36_find_130 rfl rfl ?_
      obtain ⟨a4, b5, hf⟩ := Option.bind_eq_some_iff.mp hf
      refine GX36_27 b5 dX36_find_131 rfl ?_
      refine w_iload_n dX36_find_134 rfl rfl ?_
      obtain ⟨x6, b7, hf⟩ := Option.bind_eq_some_iff.mp hf
      refine x_rI b7 dX36_find_135 ?_
      refine w_iload dX36_find_136 rfl ?_
      refine w_iadd dX36_find_138 ?_
      obtain ⟨x8, b9, hf⟩ := Option.bind_eq_some_iff.mp hf
      refine x_rI b9 dX36_find_139 ?_
      refine w_istore dX36_find_140 (by decide) (ls' := [some (.ref l0), some (.int l1), some (.int l2), some (.int l3), some (.int l4), some (.int l5), some (.int x8), none]) rfl ?_
      refine w_iload_n dX36_find_142 rfl rfl ?_
      refine w_iload dX36_find_143 rfl ?_
      refine w_iadd dX36_find_145 ?_
      refine w_istore dX36_find_146 (by decide) (ls' := [some (.ref l0), some (.int l1), some (.int l2), some (.int l3), some (.int l4), some (.int l5), some (.int x8), some (.int (l3 + l5))]) rfl ?_
      refine w_iload dX36_find_148 rfl ?_
      refine w_if_le 183 dX36_find_150 (by decide) (fun c10 => ?_) (fun c10 => ?_)
      · replace hf := (if_pos (show (l3 + l5) ≤ 0 from c10)).symm.trans hf
        exact (pX36_find_b183 hd ih hf).to ⟨rfl, rfl, rfl, rfl, rfl, rfl, trivial⟩
      · replace hf := (if_neg (show ¬ ((l3 + l5) ≤ 0) from c10)).symm.trans hf
        refine w_iload dX36_find_153 rfl ?_
        refine w_aload_n dX36_find_155 rfl rfl ?_
        obtain ⟨x11, b12, hf⟩ := Option.bind_eq_some_iff.mp hf
        refine GX36_139 b12 dX36_find_156 rfl ?_
        refine w_icmp_ge 183 dX36_find_159 (by decide) (fun c13 => ?_) (fun c13 => ?_)
        · replace hf := (if_pos (show x11 ≤ (l3 + l5) from c13)).symm.trans hf
          exact (pX36_find_b183 hd ih hf).to ⟨rfl, rfl, rfl, rfl, rfl, rfl, trivial⟩
        · replace hf := (if_neg (show ¬ (x11 ≤ (l3 + l5)) from c13)).symm.trans hf
          refine w_iload dX36_find_162 rfl ?_
          refine w_aload_n dX36_find_164 rfl rfl ?_
          obtain ⟨a14, b15, hf⟩ := Option.bind_eq_some_iff.mp hf
          refine GX36_65 b15 dX36_find_165 rfl ?_
          refine w_iload dX36_find_168 rfl ?_
          obtain ⟨x16, b17, hf⟩ := Option.bind_eq_some_iff.mp hf
          refine x_rI b17 dX36_find_170 ?_
          refine w_icmp_le 183 dX36_find_171 (by decide) (fun c18 => ?_) (fun c18 => ?_)
          · replace hf := (if_pos (show x8 ≤ x16 from c18)).symm.trans hf
            exact (pX36_find_b183 hd ih hf).to ⟨rfl, rfl, rfl, rfl, rfl, rfl, trivial⟩
          · replace hf := (if_neg (show ¬ (x8 ≤ x16) from c18)).symm.trans hf
            refine w_aload_n dX36_find_174 rfl rfl ?_
            obtain ⟨a19, b20, hf⟩ := Option.bind_eq_some_iff.mp hf
            refine GX36_65 b20 dX36_find_175 rfl ?_
            refine w_iload dX36_find_178 rfl ?_
            refine w_iload dX36_find_180 rfl ?_
            obtain ⟨h21, b22, hf⟩ := Option.bind_eq_some_iff.mp hf
            refine x_qI b22 dX36_find_182 ?_
            exact (pX36_find_b183 hd ih hf).to ⟨rfl, rfl, rfl, rfl, rfl, rfl, trivial⟩
def fX36_find_b82 (N : Nat) (k68 : Nat → Int32 → Int32 → eH → Option (Unit × eH)) : Nat → Nat → Int32 → Int32 → Int32 → eH → Option (Unit × eH)
  | 0, _, _, _, _, _ => none
  | n + 1, l0, l1, l2, l3, h =>
    (g_I 35 h l0 23).bind fun x1 =>
    if x1 ≤ l3 then
      k68 l0 l1 (l2 + (1 : Int32)) h
    else
      (k_ok 35 h l0).bind fun _ =>
      (fX36_fits N l0 l2 l3 h).bind fun q5 =>
      if q5.1 = 0 then
        fX36_find_b189 N (fX36_find_b82 N k68 n) l0 l1 l2 l3 q5.2
      else
        (g_A 35 q5.2 l0 6).bind fun a7 =>
        (r_I 100 q5.2 a7 (l2 + (1 : Int32))).bind fun x9 =>
        (g_A 35 q5.2 l0 6).bind fun a11 =>
        (r_I 100 q5.2 a11 l2).bind fun x13 =>
        fX36_find_b119 N (fX36_find_b82 N k68 n) N l0 l1 l2 l3 (x9 - x13) (0 : Int32) q5.2
theorem pX36_find_b82 {w : eW} {d : Nat} (hd : 1 ≤ d + 1) {N : Nat} {k68 : Nat → Int32 → Int32 → eH → Option (Unit × eH)} (hk68 : ∀ l0 l1 l2 h q, k68 l0 l1 l2 h = some q → wp w (d + 1) YX36_find 68 [some (.ref l0), some (.int l1), some (.int l2), none, none, none, none, none] [] h (e_is (e_rn c_V q))) : ∀ (n : Nat) l0 l1 l2 l3 h q, fX36_find_b82 N k68 n l0 l1 l2 l3 h = some q → wp w (d + 1) YX36_find 82 [some (.ref l0), some (.int l1), some (.int l2), some (.int l3), none, none, none, none] [] h (e_is (e_rn c_V q)) := by
  intro n
  induction n with
  | zero => intro l0 l1 l2 l3 h q hf; simp [fX36_find_b82] at hf
  | succ n ih =>
    intro l0 l1 l2 l3 h q hf
    rw [fX36_find_b82] at hf
    refine w_iload_n dX36_find_82 rfl rfl ?_
    refine w_aload_n dX36_find_83 rfl rfl ?_
    obtain ⟨x1, b2, hf⟩ := Option.bind_eq_some_iff.mp hf
    refine GX36_139 b2 dX36_find_84 rfl ?_
    refine w_icmp_ge 195 dX36_find_87 (by decide) (fun c3 => ?_) (fun c3 => ?_)
    · replace hf := (if_pos (show x1 ≤ l3 from c3)).symm.trans hf
      refine w_iinc dX36_find_195 (v := (l2 + (1 : Int32))) rfl rfl (by decide) (ls' := [some (.ref l0), some (.int l1), some (.int (l2 + (1 : Int32))), some (.int l3), none, none, none, none]) rfl ?_
      refine w_goto 68 dX36_find_198 (by decide) ?_
      exact (hk68 _ _ _ _ _ hf).to ⟨rfl, rfl, rfl, trivial⟩
    · replace hf := (if_neg (show ¬ (x1 ≤ l3) from c3)).symm.trans hf
      refine w_aload_n dX36_find_90 rfl rfl ?_
      refine w_iload_n dX36_find_91 rfl rfl ?_
      refine w_iload_n dX36_find_92 rfl rfl ?_
      obtain ⟨_, b4, hf⟩ := Option.bind_eq_some_iff.mp hf
      refine x_cnI hf (e_stV (Yc := YX36_fits) (ci := 35) (av := [.int l2, .int l3]) (st := []) dX36_find_93 q5710 mX36_fits rfl (k_ok_some b4).1 (k_ok_some b4).2) mX36_fits.2.2.1 mX36_fits.2.2.2.2.1 (Nat.le_of_ble_eq_true rfl) (Nat.le_of_ble_eq_true rfl) (fun q hq => pX36_fits (by omega) hq) (fun q5 hf => ?_)
      refine w_if_eq 189 dX36_find_96 (by decide) (fun c6 => ?_) (fun c6 => ?_)
      · replace hf := (if_pos (show q5.1 = 0 from c6)).symm.trans hf
        exact (pX36_find_b189 hd ih hf).to ⟨rfl, rfl, rfl, rfl, trivial⟩
      · replace hf := (if_neg (show ¬ (q5.1 = 0) from c6)).symm.trans hf
        refine w_aload_n dX36_find_99 rfl rfl ?_
        obtain ⟨a7, b8, hf⟩ := Option.bind_eq_some_iff.mp hf
        refine GX36_24 b8 dX36_find_100 rfl ?_
        refine w_iload_n dX36_find_103 rfl rfl ?_
        refine w_iconst dX36_find_104 (v := 1) (by decide) ?_
        refine w_iadd dX36_find_105 ?_
        obtain ⟨x9, b10, hf⟩ := Option.bind_eq_some_iff.mp hf
        refine x_rI b10 dX36_find_106 ?_
        refine w_aload_n dX36_find_107 rfl rfl ?_
        obtain ⟨a11, b12, hf⟩ := Option.bind_eq_some_iff.mp hf
        refine GX36_24 b12 dX36_find_108 rfl ?_
        refine w_iload_n dX36_find_111 rfl rfl ?_
        obtain ⟨x13, b14, hf⟩ := Option.bind_eq_some_iff.mp hf
        refine x_rI b14 dX36_find_112 ?_
        refine w_isub dX36_find_113 ?_
        refine w_istore dX36_find_114 (by decide) (ls' := [some (.ref l0), some (.int l1), some (.int l2), some (.int l3), some (.int (x9 - x13)), none, none, none]) rfl ?_
        refine w_iconst dX36_find_116 (v := 0) (by decide) ?_
        refine w_istore dX36_find_117 (by decide) (ls' := [some (.ref l0), some (.int l1), some (.int l2), some (.int l3), some (.int (x9 - x13)), some (.int (0 : Int32)), none, none]) rfl ?_
        exact (pX36_find_b119 hd ih N _ _ _ _ _ _ _ _ hf).to ⟨rfl, rfl, rfl, rfl, rfl, rfl, trivial⟩
def fX36_find_b269 (N : Nat) (k208 : Nat → Int32 → eH → Option (Unit × eH)) (l0 : Nat) (l2 : Int32) (h : eH) : Option (Unit × eH) :=
  k208 l0 (l2 + (1 : Int32)) h
theorem pX36_find_b269 {w : eW} {d : Nat} (hd : 1 ≤ d + 1) {N : Nat} {k208 : Nat → Int32 → eH → Option (Unit × eH)} (hk208 : ∀ l0 l2 h q, k208 l0 l2 h = some q → wp w (d + 1) YX36_find 208 [some (.ref l0), none, some (.int l2), none, none, none, none, none] [] h (e_is (e_rn c_V q))) {l0 : Nat} {l2 : Int32} {h : eH} {q} (hf : fX36_find_b269 N k208 l0 l2 h = some q) : wp w (d + 1) YX36_find 269 [some (.ref l0), none, some (.int l2), none, none, none, none, none] [] h (e_is (e_rn c_V q)) := by
  unfold fX36_find_b269 at hf
  refine w_iinc dX36_find_269 (v := (l2 + (1 : Int32))) rfl rfl (by decide) (ls' := [some (.ref l0), none, some (.int (l2 + (1 : Int32))), none, none, none, none, none]) rfl ?_
  refine w_goto 208 dX36_find_272 (by decide) ?_
  exact (hk208 _ _ _ _ hf).to ⟨rfl, rfl, trivial⟩
def fX36_find_b208 (N : Nat) : Nat → Nat → Int32 → eH → Option (Unit × eH)
  | 0, _, _, _ => none
  | n + 1, l0, l2, h =>
    (g_I 35 h l0 23).bind fun x1 =>
    if x1 ≤ l2 then
      some ((), h)
    else
      (g_A 35 h l0 25).bind fun a4 =>
      (r_I 100 h a4 l2).bind fun x6 =>
      if ¬ (x6 - x6 / (2 : Int32) * (2 : Int32)) = (1 : Int32) then
        fX36_find_b269 N (fX36_find_b208 N n) l0 l2 h
      else
        (g_I 35 h l0 1).bind fun x9 =>
        if l2 < x9 then
          fX36_find_b269 N (fX36_find_b208 N n) l0 l2 h
        else
          (g_I 35 h l0 23).bind fun x12 =>
          (g_I 35 h l0 2).bind fun x14 =>
          if (x12 - l2) < x14 then
            fX36_find_b269 N (fX36_find_b208 N n) l0 l2 h
          else
            (g_A 35 h l0 27).bind fun a17 =>
            (g_I 35 h l0 26).bind fun x19 =>
            (q_V 100 h a17 x19 (.int l2)).bind fun h21 =>
            (g_I 35 h21 l0 26).bind fun x23 =>
            (p_V 35 h21 l0 26 (.int (x23 + (1 : Int32)))).bind fun h25 =>
            fX36_find_b269 N (fX36_find_b208 N n) l0 l2 h25
theorem pX36_find_b208 {w : eW} {d : Nat} (hd : 1 ≤ d + 1) {N : Nat} : ∀ (n : Nat) l0 l2 h q, fX36_find_b208 N n l0 l2 h = some q → wp w (d + 1) YX36_find 208 [some (.ref l0), none, some (.int l2), none, none, none, none, none] [] h (e_is (e_rn c_V q)) := by
  intro n
  induction n with
  | zero => intro l0 l2 h q hf; simp [fX36_find_b208] at hf
  | succ n ih =>
    intro l0 l2 h q hf
    rw [fX36_find_b208] at hf
    refine w_iload_n dX36_find_208 rfl rfl ?_
    refine w_aload_n dX36_find_209 rfl rfl ?_
    obtain ⟨x1, b2, hf⟩ := Option.bind_eq_some_iff.mp hf
    refine GX36_139 b2 dX36_find_210 rfl ?_
    refine w_icmp_ge 275 dX36_find_213 (by decide) (fun c3 => ?_) (fun c3 => ?_)
    · replace hf := (if_pos (show x1 ≤ l2 from c3)).symm.trans hf
      cases hf
      exact w_vret dX36_find_275 rfl rfl
    · replace hf := (if_neg (show ¬ (x1 ≤ l2) from c3)).symm.trans hf
      refine w_aload_n dX36_find_216 rfl rfl ?_
      obtain ⟨a4, b5, hf⟩ := Option.bind_eq_some_iff.mp hf
      refine GX36_65 b5 dX36_find_217 rfl ?_
      refine w_iload_n dX36_find_220 rfl rfl ?_
      obtain ⟨x6, b7, hf⟩ := Option.bind_eq_some_iff.mp hf
      refine x_rI b7 dX36_find_221 ?_
      refine w_iconst dX36_find_222 (v := 2) (by decide) ?_
      refine w_irem dX36_find_223 (by decide) ?_
      refine w_iconst dX36_find_224 (v := 1) (by decide) ?_
      refine w_icmp_ne 269 dX36_find_225 (by decide) (fun c8 => ?_) (fun c8 => ?_)
      · replace hf := (if_pos (show ¬ (x6 - x6 / (2 : Int32) * (2 : Int32)) = (1 : Int32) from c8)).symm.trans hf
        exact (pX36_find_b269 hd ih hf).to ⟨rfl, rfl, trivial⟩
      · replace hf := (if_neg (show ¬ (¬ (x6 - x6 / (2 : Int32) * (2 : Int32)) = (1 : Int32)) from (fun z => z c8))).symm.trans hf
        refine w_iload_n dX36_find_228 rfl rfl ?_
        refine w_aload_n dX36_find_229 rfl rfl ?_
        obtain ⟨x9, b10, hf⟩ := Option.bind_eq_some_iff.mp hf
        refine GX36_13 b10 dX36_find_230 rfl ?_
        refine w_icmp_lt 269 dX36_find_233 (by decide) (fun c11 => ?_) (fun c11 => ?_)
        · replace hf := (if_pos (show l2 < x9 from c11)).symm.trans hf
          exact (pX36_find_b269 hd ih hf).to ⟨rfl, rfl, trivial⟩
        · replace hf := (if_neg (show ¬ (l2 < x9) from c11)).symm.trans hf
          refine w_aload_n dX36_find_236 rfl rfl ?_
          obtain ⟨x12, b13, hf⟩ := Option.bind_eq_some_iff.mp hf
          refine GX36_139 b13 dX36_find_237 rfl ?_
          refine w_iload_n dX36_find_240 rfl rfl ?_
          refine w_isub dX36_find_241 ?_
          refine w_aload_n dX36_find_242 rfl rfl ?_
          obtain ⟨x14, b15, hf⟩ := Option.bind_eq_some_iff.mp hf
          refine GX36_17 b15 dX36_find_243 rfl ?_
          refine w_icmp_lt 269 dX36_find_246 (by decide) (fun c16 => ?_) (fun c16 => ?_)
          · replace hf := (if_pos (show (x12 - l2) < x14 from c16)).symm.trans hf
            exact (pX36_find_b269 hd ih hf).to ⟨rfl, rfl, trivial⟩
          · replace hf := (if_neg (show ¬ ((x12 - l2) < x14) from c16)).symm.trans hf
            refine w_aload_n dX36_find_249 rfl rfl ?_
            obtain ⟨a17, b18, hf⟩ := Option.bind_eq_some_iff.mp hf
            refine GX36_68 b18 dX36_find_250 rfl ?_
            refine w_aload_n dX36_find_253 rfl rfl ?_
            obtain ⟨x19, b20, hf⟩ := Option.bind_eq_some_iff.mp hf
            refine GX36_146 b20 dX36_find_254 rfl ?_
            refine w_iload_n dX36_find_257 rfl rfl ?_
            obtain ⟨h21, b22, hf⟩ := Option.bind_eq_some_iff.mp hf
            refine x_qI b22 dX36_find_258 ?_
            refine w_aload_n dX36_find_259 rfl rfl ?_
            refine w_dup dX36_find_260 rfl ?_
            obtain ⟨x23, b24, hf⟩ := Option.bind_eq_some_iff.mp hf
            refine GX36_146 b24 dX36_find_261 rfl ?_
            refine w_iconst dX36_find_264 (v := 1) (by decide) ?_
            refine w_iadd dX36_find_265 ?_
            obtain ⟨h25, b26, hf⟩ := Option.bind_eq_some_iff.mp hf
            refine SX36_146 b26 dX36_find_266 rfl ?_
            exact (pX36_find_b269 hd ih hf).to ⟨rfl, rfl, trivial⟩
def fX36_find_b201 (N : Nat) (l0 : Nat) (h : eH) : Option (Unit × eH) :=
  (p_V 35 h l0 26 (.int (0 : Int32))).bind fun h1 =>
  fX36_find_b208 N N l0 (1 : Int32) h1
theorem pX36_find_b201 {w : eW} {d : Nat} (hd : 1 ≤ d + 1) {N : Nat} {l0 : Nat} {h : eH} {q} (hf : fX36_find_b201 N l0 h = some q) : wp w (d + 1) YX36_find 201 [some (.ref l0), none, none, none, none, none, none, none] [] h (e_is (e_rn c_V q)) := by
  unfold fX36_find_b201 at hf
  refine w_aload_n dX36_find_201 rfl rfl ?_
  refine w_iconst dX36_find_202 (v := 0) (by decide) ?_
  obtain ⟨h1, b2, hf⟩ := Option.bind_eq_some_iff.mp hf
  refine SX36_146 b2 dX36_find_203 rfl ?_
  refine w_iconst dX36_find_206 (v := 1) (by decide) ?_
  refine w_istore_n dX36_find_207 rfl (by decide) (ls' := [some (.ref l0), none, some (.int (1 : Int32)), none, none, none, none, none]) rfl ?_
  exact (pX36_find_b208 hd N _ _ _ _ hf).to ⟨rfl, rfl, trivial⟩
def fX36_find_b68 (N : Nat) : Nat → Nat → Int32 → Int32 → eH → Option (Unit × eH)
  | 0, _, _, _, _ => none
  | n + 1, l0, l1, l2, h =>
    (g_I 35 h l0 5).bind fun x1 =>
    if x1 ≤ l2 then
      fX36_find_b201 N l0 h
    else
      if 0 ≤ l1 then
        fX36_find_b201 N l0 h
      else
        fX36_find_b82 N (fX36_find_b68 N n) N l0 l1 l2 (0 : Int32) h
theorem pX36_find_b68 {w : eW} {d : Nat} (hd : 1 ≤ d + 1) {N : Nat} : ∀ (n : Nat) l0 l1 l2 h q, fX36_find_b68 N n l0 l1 l2 h = some q → wp w (d + 1) YX36_find 68 [some (.ref l0), some (.int l1), some (.int l2), none, none, none, none, none] [] h (e_is (e_rn c_V q)) := by
  intro n
  induction n with
  | zero => intro l0 l1 l2 h q hf; simp [fX36_find_b68] at hf
  | succ n ih =>
    intro l0 l1 l2 h q hf
    rw [fX36_find_b68] at hf
    refine w_iload_n dX36_find_68 rfl rfl ?_
    refine w_aload_n dX36_find_69 rfl rfl ?_
    obtain ⟨x1, b2, hf⟩ := Option.bind_eq_some_iff.mp hf
    refine GX36_102 b2 dX36_find_70 rfl ?_
    refine w_icmp_ge 201 dX36_find_73 (by decide) (fun c3 => ?_) (fun c3 => ?_)
    · replace hf := (if_pos (show x1 ≤ l2 from c3)).symm.trans hf
      exact (pX36_find_b201 hd hf).to ⟨rfl, trivial⟩
    · replace hf := (if_neg (show ¬ (x1 ≤ l2) from c3)).symm.trans hf
      refine w_iload_n dX36_find_76 rfl rfl ?_
      refine w_if_ge 201 dX36_find_77 (by decide) (fun c4 => ?_) (fun c4 => ?_)
      · replace hf := (if_pos (show 0 ≤ l1 from c4)).symm.trans hf
        exact (pX36_find_b201 hd hf).to ⟨rfl, trivial⟩
      · replace hf := (if_neg (show ¬ (0 ≤ l1) from c4)).symm.trans hf
        refine w_iconst dX36_find_80 (v := 0) (by decide) ?_
        refine w_istore_n dX36_find_81 rfl (by decide) (ls' := [some (.ref l0), some (.int l1), some (.int l2), some (.int (0 : Int32)), none, none, none, none]) rfl ?_
        exact (pX36_find_b82 hd ih N _ _ _ _ _ _ hf).to ⟨rfl, rfl, rfl, rfl, trivial⟩
def fX36_find_b15 (N : Nat) : Nat → Nat → Int32 → Int32 → eH → Option (Unit × eH)
  | 0, _, _, _, _ => none
  | n + 1, l0, l1, l2, h =>
    (g_I 35 h l0 23).bind fun x1 =>
    if x1 ≤ l2 then
      fX36_find_b68 N N l0 l1 (0 : Int32) h
    else
      (g_A 35 h l0 25).bind fun a4 =>
      if l1 < 0 then
        fX36_find_b59 N (fX36_find_b15 N n) l0 l1 l2 a4 l2 (0 : Int32) h
      else
        (g_A 35 h l0 15).bind fun a7 =>
        (g_A 35 h l0 13).bind fun a9 =>
        (r_I 100 h a9 l1).bind fun x11 =>
        (r_I 103 h a7 ((x11 + l2) - (1 : Int32))).bind fun x13 =>
        if x13 = 0 then
          fX36_find_b59 N (fX36_find_b15 N n) l0 l1 l2 a4 l2 (0 : Int32) h
        else
          fX36_find_b59 N (fX36_find_b15 N n) l0 l1 l2 a4 l2 (1 : Int32) h
theorem pX36_find_b15 {w : eW} {d : Nat} (hd : 1 ≤ d + 1) {N : Nat} : ∀ (n : Nat) l0 l1 l2 h q, fX36_find_b15 N n l0 l1 l2 h = some q → wp w (d + 1) YX36_find 15 [some (.ref l0), some (.int l1), some (.int l2), none, none, none, none, none] [] h (e_is (e_rn c_V q)) := by
  intro n
  induction n with
  | zero => intro l0 l1 l2 h q hf; simp [fX36_find_b15] at hf
  | succ n ih =>
    intro l0 l1 l2 h q hf
    rw [fX36_find_b15] at hf
    refine w_iload_n dX36_find_15 rfl rfl ?_
    refine w_aload_n dX36_find_16 rfl rfl ?_
    obtain ⟨x1, b2, hf⟩ := Option.bind_eq_some_iff.mp hf
    refine GX36_139 b2 dX36_find_17 rfl ?_
    refine w_icmp_ge 66 dX36_find_20 (by decide) (fun c3 => ?_) (fun c3 => ?_)
    · replace hf := (if_pos (show x1 ≤ l2 from c3)).symm.trans hf
      refine w_iconst dX36_find_66 (v := 0) (by decide) ?_
      refine w_istore_n dX36_find_67 rfl (by decide) (ls' := [some (.ref l0), some (.int l1), some (.int (0 : Int32)), none, none, none, none, none]) rfl ?_
      exact (pX36_find_b68 hd N _ _ _ _ _ hf).to ⟨rfl, rfl, rfl, trivial⟩
    · replace hf := (if_neg (show ¬ (x1 ≤ l2) from c3)).symm.trans hf
      refine w_aload_n dX36_find_23 rfl rfl ?_
      obtain ⟨a4, b5, hf⟩ := Option.bind_eq_some_iff.mp hf
      refine GX36_65 b5 dX36_find_24 rfl ?_
      refine w_iload_n dX36_find_27 rfl rfl ?_
      refine w_iload_n dX36_find_28 rfl rfl ?_
      refine w_if_lt 58 dX36_find_29 (by decide) (fun c6 => ?_) (fun c6 => ?_)
      · replace hf := (if_pos (show l1 < 0 from c6)).symm.trans hf
        refine w_iconst dX36_find_58 (v := 0) (by decide) ?_
        exact (pX36_find_b59 hd ih hf).to ⟨rfl, rfl, rfl, trivial⟩
      · replace hf := (if_neg (show ¬ (l1 < 0) from c6)).symm.trans hf
        refine w_aload_n dX36_find_32 rfl rfl ?_
        obtain ⟨a7, b8, hf⟩ := Option.bind_eq_some_iff.mp hf
        refine GX36_49 b8 dX36_find_33 rfl ?_
        refine w_aload_n dX36_find_36 rfl rfl ?_
        obtain ⟨a9, b10, hf⟩ := Option.bind_eq_some_iff.mp hf
        refine GX36_43 b10 dX36_find_37 rfl ?_
        refine w_iload_n dX36_find_40 rfl rfl ?_
        obtain ⟨x11, b12, hf⟩ := Option.bind_eq_some_iff.mp hf
        refine x_rI b12 dX36_find_41 ?_
        refine w_iload_n dX36_find_42 rfl rfl ?_
        refine w_iadd dX36_find_43 ?_
        refine w_iconst dX36_find_44 (v := 1) (by decide) ?_
        refine w_isub dX36_find_45 ?_
        obtain ⟨x13, b14, hf⟩ := Option.bind_eq_some_iff.mp hf
        refine x_rZ b14 dX36_find_46 ?_
        refine w_if_eq 54 dX36_find_47 (by decide) (fun c15 => ?_) (fun c15 => ?_)
        · replace hf := (if_pos (show x13 = 0 from c15)).symm.trans hf
          refine w_iconst dX36_find_54 (v := 0) (by decide) ?_
          refine w_goto 59 dX36_find_55 (by decide) ?_
          exact (pX36_find_b59 hd ih hf).to ⟨rfl, rfl, rfl, trivial⟩
        · replace hf := (if_neg (show ¬ (x13 = 0) from c15)).symm.trans hf
          refine w_iconst dX36_find_50 (v := 1) (by decide) ?_
          refine w_goto 59 dX36_find_51 (by decide) ?_
          exact (pX36_find_b59 hd ih hf).to ⟨rfl, rfl, rfl, trivial⟩
def fX36_find (N : Nat) (this : Nat) (h : eH) : Option (Unit × eH) :=
  (g_A 35 h this 24).bind fun a1 =>
  (g_I 35 h this 23).bind fun x3 =>
  (k_ok 35 h this).bind fun _ =>
  (fX36_toldAt N this a1 x3 h).bind fun q6 =>
  fX36_find_b15 N N this q6.1 (1 : Int32) q6.2
theorem pX36_find {w : eW} {d : Nat} (hd : 1 ≤ d) {N : Nat} {this : Nat} {h : eH} {q} (hf : fX36_find N this h = some q) : wm w d YX36_find [.ref this] h (e_is (e_rn c_V q)) := by
  obtain ⟨d, rfl⟩ : ∃ e, d = e + 1 := ⟨d - 1, by omega⟩
  show wp w (d + 1) YX36_find 0 [some (.ref this), none, none, none, none, none, none, none] [] h _
  unfold fX36_find at hf
  refine w_aload_n dX36_find_0 rfl rfl ?_
  refine w_aload_n dX36_find_1 rfl rfl ?_
  obtain ⟨a1, b2, hf⟩ := Option.bind_eq_some_iff.mp hf
  refine GX36_62 b2 dX36_find_2 rfl ?_
  refine w_aload_n dX36_find_5 rfl rfl ?_
  obtain ⟨x3, b4, hf⟩ := Option.bind_eq_some_iff.mp hf
  refine GX36_139 b4 dX36_find_6 rfl ?_
  obtain ⟨_, b5, hf⟩ := Option.bind_eq_some_iff.mp hf
  refine x_cnI hf (e_stV (Yc := YX36_toldAt) (ci := 35) (av := [.ref a1, .int x3]) (st := []) dX36_find_9 q5051 mX36_toldAt rfl (k_ok_some b5).1 (k_ok_some b5).2) mX36_toldAt.2.2.1 mX36_toldAt.2.2.2.2.1 (Nat.le_of_ble_eq_true rfl) (Nat.le_of_ble_eq_true rfl) (fun q hq => pX36_toldAt (by omega) hq) (fun q6 hf => ?_)
  refine w_istore_n dX36_find_12 rfl (by decide) (ls' := [some (.ref this), some (.int q6.1), none, none, none, none, none, none]) rfl ?_
  refine w_iconst dX36_find_13 (v := 1) (by decide) ?_
  refine w_istore_n dX36_find_14 rfl (by decide) (ls' := [some (.ref this), some (.int q6.1), some (.int (1 : Int32)), none, none, none, none, none]) rfl ?_
  exact (pX36_find_b15 hd N _ _ _ _ _ hf).to ⟨rfl, rfl, rfl, trivial⟩
abbrev cX36_take : ByteArray := prog_40_method_21_code
def yX36_take : MethodName := ⟨RX36, "take", "([II)Z"⟩
def YX36_take : eY := (yX36_take, cX36_take, 5, (Option.some FieldType.boolean), [])
theorem mX36_take : e_mv YX36_take RX36 2 := ⟨q5703, q5704, q5705, by decide, by decide +kernel, (e_sig (by decide +kernel))⟩
theorem dX36_take_0 : decode cX36_take 0 = .ok (.iconst 1, 1) := dc_4 (by decide +kernel)
theorem dX36_take_1 : decode cX36_take 1 = .ok (.istore_n 3, 1) := dc_62 (by decide +kernel)
theorem dX36_take_2 : decode cX36_take 2 = .ok (.iconst 0, 1) := dc_3 (by decide +kernel)
theorem dX36_take_3 : decode cX36_take 3 = .ok (.istore 4, 2) := dc_54 (a := 4) (by decide +kernel)
theorem dX36_take_5 : decode cX36_take 5 = .ok (.iload 4, 2) := dc_21 (a := 4) (by decide +kernel)
theorem dX36_take_7 : decode cX36_take 7 = .ok (.iload_n 2, 1) := dc_28 (by decide +kernel)
theorem dX36_take_8 : decode cX36_take 8 = .ok (.if_icmp .ge 45, 3) := dc_162 (a := 0) (b := 45) (v := 45) (by decide +kernel)
theorem dX36_take_11 : decode cX36_take 11 = .ok (.aload_n 0, 1) := dc_42 (by decide +kernel)
theorem dX36_take_12 : decode cX36_take 12 = .ok (.getfield 62, 3) := dc_180 (a := 0) (b := 62) (n := 62) (by decide +kernel)
theorem dX36_take_15 : decode cX36_take 15 = .ok (.iload 4, 2) := dc_21 (a := 4) (by decide +kernel)
theorem dX36_take_17 : decode cX36_take 17 = .ok (.aload_n 0, 1) := dc_42 (by decide +kernel)
theorem dX36_take_18 : decode cX36_take 18 = .ok (.getfield 7, 3) := dc_180 (a := 0) (b := 7) (n := 7) (by decide +kernel)
theorem dX36_take_21 : decode cX36_take 21 = .ok (.aload_n 1, 1) := dc_43 (by decide +kernel)
theorem dX36_take_22 : decode cX36_take 22 = .ok (.iload 4, 2) := dc_21 (a := 4) (by decide +kernel)
theorem dX36_take_24 : decode cX36_take 24 = .ok (.iaload, 1) := dc_46 (by decide +kernel)
theorem dX36_take_25 : decode cX36_take 25 = .ok (.iaload, 1) := dc_46 (by decide +kernel)
theorem dX36_take_26 : decode cX36_take 26 = .ok (.iastore, 1) := dc_79 (by decide +kernel)
theorem dX36_take_27 : decode cX36_take 27 = .ok (.iload_n 3, 1) := dc_29 (by decide +kernel)
theorem dX36_take_28 : decode cX36_take 28 = .ok (.ifCond .eq 17, 3) := dc_153 (a := 0) (b := 17) (v := 17) (by decide +kernel)
theorem dX36_take_31 : decode cX36_take 31 = .ok (.aload_n 0, 1) := dc_42 (by decide +kernel)
theorem dX36_take_32 : decode cX36_take 32 = .ok (.getfield 62, 3) := dc_180 (a := 0) (b := 62) (n := 62) (by decide +kernel)
theorem dX36_take_35 : decode cX36_take 35 = .ok (.iload 4, 2) := dc_21 (a := 4) (by decide +kernel)
theorem dX36_take_37 : decode cX36_take 37 = .ok (.iaload, 1) := dc_46 (by decide +kernel)
theorem dX36_take_38 : decode cX36_take 38 = .ok (.ifCond .le 7, 3) := dc_158 (a := 0) (b := 7) (v := 7) (by decide +kernel)
theorem dX36_take_41 : decode cX36_take 41 = .ok (.iconst 1, 1) := dc_4 (by decide +kernel)
theorem dX36_take_42 : decode cX36_take 42 = .ok (.goto 4, 3) := dc_167 (a := 0) (b := 4) (v := 4) (by decide +kernel)
theorem dX36_take_45 : decode cX36_take 45 = .ok (.iconst 0, 1) := dc_3 (by decide +kernel)
theorem dX36_take_46 : decode cX36_take 46 = .ok (.istore_n 3, 1) := dc_62 (by decide +kernel)
theorem dX36_take_47 : decode cX36_take 47 = .ok (.iinc 4 1, 3) := dc_132 (a := 4) (b := 1) (v := 1) (by decide +kernel)
theorem dX36_take_50 : decode cX36_take 50 = .ok (.goto (-45), 3) := dc_167 (a := 255) (b := 211) (v := -45) (by decide +kernel)
theorem dX36_take_53 : decode cX36_take 53 = .ok (.aload_n 0, 1) := dc_42 (by decide +kernel)
theorem dX36_take_54 : decode cX36_take 54 = .ok (.iload_n 2, 1) := dc_28 (by decide +kernel)
theorem dX36_take_55 : decode cX36_take 55 = .ok (.putfield 139, 3) := dc_181 (a := 0) (b := 139) (n := 139) (by decide +kernel)
theorem dX36_take_58 : decode cX36_take 58 = .ok (.iload_n 3, 1) := dc_29 (by decide +kernel)
theorem dX36_take_59 : decode cX36_take 59 = .ok (.ifCond .eq 7, 3) := dc_153 (a := 0) (b := 7) (v := 7) (by decide +kernel)
theorem dX36_take_62 : decode cX36_take 62 = .ok (.aload_n 0, 1) := dc_42 (by decide +kernel)
theorem dX36_take_63 : decode cX36_take 63 = .ok (.invokevirtual 149, 3) := dc_182 (a := 0) (b := 149) (n := 149) (by decide +kernel)
theorem dX36_take_66 : decode cX36_take 66 = .ok (.iload_n 3, 1) := dc_29 (by decide +kernel)
theorem dX36_take_67 : decode cX36_take 67 = .ok (.ireturn, 1) := dc_172 (by decide +kernel)
theorem SX36_139 {w : eW} {d : Nat} {Y : eY} {pc : Nat} {ls : eL} {st : List Value} {h : eH} {Q : eO → eH → Prop} {a : Nat} {h' : eH} {x : Int32} (hf : p_V 35 h a 23 (.int x) = some h') (hd : decode Y.2.1 pc = .ok (.putfield 139, 3)) (hY : Y.1.cls = RX36) (kk : wp w d Y (pc + 3) ls st h' Q) : wp w d Y pc ls (.int x :: .ref a :: st) h Q := x_pI (ci := 35) (k := 23) hf hd rfl (by decide) (by rw [hY]; exact q4156) rfl rfl kk
def fX36_take_b46 (N : Nat) (k5 : Nat → Nat → Int32 → Int32 → Int32 → eH → Option (Int32 × eH)) (l0 : Nat) (l1 : Nat) (l2 : Int32) (l4 : Int32) (s0 : Int32) (h : eH) : Option (Int32 × eH) :=
  k5 l0 l1 l2 s0 (l4 + (1 : Int32)) h
theorem pX36_take_b46 {w : eW} {d : Nat} (hd : 2 ≤ d + 1) {N : Nat} {k5 : Nat → Nat → Int32 → Int32 → Int32 → eH → Option (Int32 × eH)} (hk5 : ∀ l0 l1 l2 l3 l4 h q, k5 l0 l1 l2 l3 l4 h = some q → wp w (d + 1) YX36_take 5 [some (.ref l0), some (.ref l1), some (.int l2), some (.int l3), some (.int l4)] [] h (e_is (e_rn c_I q))) {l0 : Nat} {l1 : Nat} {l2 : Int32} {l4 : Int32} {s0 : Int32} {h : eH} {q} (hf : fX36_take_b46 N k5 l0 l1 l2 l4 s0 h = some q) : wp w (d + 1) YX36_take 46 [some (.ref l0), some (.ref l1), some (.int l2), none, some (.int l4)] [.int s0] h (e_is (e_rn c_I q)) := by
  unfold fX36_take_b46 at hf
  refine w_istore_n dX36_take_46 rfl (by decide) (ls' := [some (.ref l0), some (.ref l1), some (.int l2), some (.int s0), some (.int l4)]) rfl ?_
  refine w_iinc dX36_take_47 (v := (l4 + (1 : Int32))) rfl rfl (by decide) (ls' := [some (.ref l0), some (.ref l1), some (.int l2), some (.int s0), some (.int (l4 + (1 : Int32)))]) rfl ?_
  refine w_goto 5 dX36_take_50 (by decide) ?_
  exact (hk5 _ _ _ _ _ _ _ hf).to ⟨rfl, rfl, rfl, rfl, rfl, trivial⟩
def fX36_take_b45 (N : Nat) (k5 : Nat → Nat → Int32 → Int32 → Int32 → eH → Option (Int32 × eH)) (l0 : Nat) (l1 : Nat) (l2 : Int32) (l4 : Int32) (h : eH) : Option (Int32 × eH) :=
  fX36_take_b46 N k5 l0 l1 l2 l4 (0 : Int32) h
theorem pX36_take_b45 {w : eW} {d : Nat} (hd : 2 ≤ d + 1) {N : Nat} {k5 : Nat → Nat → Int32 → Int32 → Int32 → eH → Option (Int32 × eH)} (hk5 : ∀ l0 l1 l2 l3 l4 h q, k5 l0 l1 l2 l3 l4 h = some q → wp w (d + 1) YX36_take 5 [some (.ref l0), some (.ref l1), some (.int l2), some (.int l3), some (.int l4)] [] h (e_is (e_rn c_I q))) {l0 : Nat} {l1 : Nat} {l2 : Int32} {l4 : Int32} {h : eH} {q} (hf : fX36_take_b45 N k5 l0 l1 l2 l4 h = some q) : wp w (d + 1) YX36_take 45 [some (.ref l0), some (.ref l1), some (.int l2), none, some (.int l4)] [] h (e_is (e_rn c_I q)) := by
  unfold fX36_take_b45 at hf
  refine w_iconst dX36_take_45 (v := 0) (by decide) ?_
  exact (pX36_take_b46 hd hk5 hf).to ⟨rfl, rfl, rfl, rfl, trivial⟩
def fX36_take_b66 (N : Nat) (l3 : Int32) (h : eH) : Option (Int32 × eH) :=
  z_r l3 (l3, h)
theorem pX36_take_b66 {w : eW} {d : Nat} (hd : 2 ≤ d + 1) {N : Nat} {l3 : Int32} {h : eH} {q} (hf : fX36_take_b66 N l3 h = some q) : wp w (d + 1) YX36_take 66 [none, none, none, some (.int l3), none] [] h (e_is (e_rn c_I q)) := by
  unfold fX36_take_b66 at hf
  refine w_iload_n dX36_take_66 rfl rfl ?_
  obtain ⟨b1, rfl⟩ := z_r_some hf
  exact w_iret dX36_take_67 rfl b1 rfl
def fX36_take_b5 (N : Nat) : Nat → Nat → Nat → Int32 → Int32 → Int32 → eH → Option (Int32 × eH)
  | 0, _, _, _, _, _, _ => none
  | n + 1, l0, l1, l2, l3, l4, h =>
    if l2 ≤ l4 then
      (p_V 35 h l0 23 (.int l2)).bind fun h2 =>
      if l3 = 0 then
        fX36_take_b66 N l3 h2
      else
        (k_ok 35 h2 l0).bind fun _ =>
        (fX36_find N l0 h2).bind fun q6 =>
        fX36_take_b66 N l3 q6.2
    else
      (g_A 35 h l0 24).bind fun a7 =>
      (g_A 35 h l0 0).bind fun a9 =>
      (r_I 100 h l1 l4).bind fun x11 =>
      (r_I 100 h a9 x11).bind fun x13 =>
      (q_V 100 h a7 l4 (.int x13)).bind fun h15 =>
      if l3 = 0 then
        fX36_take_b45 N (fX36_take_b5 N n) l0 l1 l2 l4 h15
      else
        (g_A 35 h15 l0 24).bind fun a18 =>
        (r_I 100 h15 a18 l4).bind fun x20 =>
        if x20 ≤ 0 then
          fX36_take_b45 N (fX36_take_b5 N n) l0 l1 l2 l4 h15
        else
          fX36_take_b46 N (fX36_take_b5 N n) l0 l1 l2 l4 (1 : Int32) h15
theorem pX36_take_b5 {w : eW} {d : Nat} (hd : 2 ≤ d + 1) {N : Nat} : ∀ (n : Nat) l0 l1 l2 l3 l4 h q, fX36_take_b5 N n l0 l1 l2 l3 l4 h = some q → wp w (d + 1) YX36_take 5 [some (.ref l0), some (.ref l1), some (.int l2), some (.int l3), some (.int l4)] [] h (e_is (e_rn c_I q)) := by
  intro n
  induction n with
  | zero => intro l0 l1 l2 l3 l4 h q hf; simp [fX36_take_b5] at hf
  | succ n ih =>
    intro l0 l1 l2 l3 l4 h q hf
    rw [fX36_take_b5] at hf
    refine w_iload dX36_take_5 rfl ?_
    refine w_iload_n dX36_take_7 rfl rfl ?_
    refine w_icmp_ge 53 dX36_take_8 (by decide) (fun c1 => ?_) (fun c1 => ?_)
    · replace hf := (if_pos (show l2 ≤ l4 from c1)).symm.trans hf
      refine w_aload_n dX36_take_53 rfl rfl ?_
      refine w_iload_n dX36_take_54 rfl rfl ?_
      obtain ⟨h2, b3, hf⟩ := Option.bind_eq_some_iff.mp hf
      refine SX36_139 b3 dX36_take_55 rfl ?_
      refine w_iload_n dX36_take_58 rfl rfl ?_
      refine w_if_eq 66 dX36_take_59 (by decide) (fun c4 => ?_) (fun c4 => ?_)
      · replace hf := (if_pos (show l3 = 0 from c4)).symm.trans hf
        exact (pX36_take_b66 hd hf).to ⟨rfl, trivial⟩
      · replace hf := (if_neg (show ¬ (l3 = 0) from c4)).symm.trans hf
        refine w_aload_n dX36_take_62 rfl rfl ?_
        obtain ⟨_, b5, hf⟩ := Option.bind_eq_some_iff.mp hf
        refine x_cnV hf (e_stV (Yc := YX36_find) (ci := 35) (av := []) (st := []) dX36_take_63 q5706 mX36_find rfl (k_ok_some b5).1 (k_ok_some b5).2) mX36_find.2.2.1 mX36_find.2.2.2.2.1 (Nat.le_of_ble_eq_true rfl) (Nat.le_of_ble_eq_true rfl) (fun q hq => pX36_find (by omega) hq) (fun q6 hf => ?_)
        exact (pX36_take_b66 hd hf).to ⟨rfl, trivial⟩
    · replace hf := (if_neg (show ¬ (l2 ≤ l4) from c1)).symm.trans hf
      refine w_aload_n dX36_take_11 rfl rfl ?_
      obtain ⟨a7, b8, hf⟩ := Option.bind_eq_some_iff.mp hf
      refine GX36_62 b8 dX36_take_12 rfl ?_
      refine w_iload dX36_take_15 rfl ?_
      refine w_aload_n dX36_take_17 rfl rfl ?_
      obtain ⟨a9, b10, hf⟩ := Option.bind_eq_some_iff.mp hf
      refine GX36_7 b10 dX36_take_18 rfl ?_
      refine w_aload_n dX36_take_21 rfl rfl ?_
      refine w_iload dX36_take_22 rfl ?_
      obtain ⟨x11, b12, hf⟩ := Option.bind_eq_some_iff.mp hf
      refine x_rI b12 dX36_take_24 ?_
      obtain ⟨x13, b14, hf⟩ := Option.bind_eq_some_iff.mp hf
      refine x_rI b14 dX36_take_25 ?_
      obtain ⟨h15, b16, hf⟩ := Option.bind_eq_some_iff.mp hf
      refine x_qI b16 dX36_take_26 ?_
      refine w_iload_n dX36_take_27 rfl rfl ?_
      refine w_if_eq 45 dX36_take_28 (by decide) (fun c17 => ?_) (fun c17 => ?_)
      · replace hf := (if_pos (show l3 = 0 from c17)).symm.trans hf
        exact (pX36_take_b45 hd ih hf).to ⟨rfl, rfl, rfl, rfl, trivial⟩
      · replace hf := (if_neg (show ¬ (l3 = 0) from c17)).symm.trans hf
        refine w_aload_n dX36_take_31 rfl rfl ?_
        obtain ⟨a18, b19, hf⟩ := Option.bind_eq_some_iff.mp hf
        refine GX36_62 b19 dX36_take_32 rfl ?_
        refine w_iload dX36_take_35 rfl ?_
        obtain ⟨x20, b21, hf⟩ := Option.bind_eq_some_iff.mp hf
        refine x_rI b21 dX36_take_37 ?_
        refine w_if_le 45 dX36_take_38 (by decide) (fun c22 => ?_) (fun c22 => ?_)
        · replace hf := (if_pos (show x20 ≤ 0 from c22)).symm.trans hf
          exact (pX36_take_b45 hd ih hf).to ⟨rfl, rfl, rfl, rfl, trivial⟩
        · replace hf := (if_neg (show ¬ (x20 ≤ 0) from c22)).symm.trans hf
          refine w_iconst dX36_take_41 (v := 1) (by decide) ?_
          refine w_goto 46 dX36_take_42 (by decide) ?_
          exact (pX36_take_b46 hd ih hf).to ⟨rfl, rfl, rfl, rfl, trivial⟩
def fX36_take (N : Nat) (this : Nat) (p0 : Nat) (p1 : Int32) (h : eH) : Option (Int32 × eH) :=
  fX36_take_b5 N N this p0 p1 (1 : Int32) (0 : Int32) h
theorem pX36_take {w : eW} {d : Nat} (hd : 2 ≤ d) {N : Nat} {this : Nat} {p0 : Nat} {p1 : Int32} {h : eH} {q} (hf : fX36_take N this p0 p1 h = some q) : wm w d YX36_take [.ref this, .ref p0, .int p1] h (e_is (e_rn c_I q)) := by
  obtain ⟨d, rfl⟩ : ∃ e, d = e + 1 := ⟨d - 1, by omega⟩
  show wp w (d + 1) YX36_take 0 [some (.ref this), some (.ref p0), some (.int p1), none, none] [] h _
  unfold fX36_take at hf
  refine w_iconst dX36_take_0 (v := 1) (by decide) ?_
  refine w_istore_n dX36_take_1 rfl (by decide) (ls' := [some (.ref this), some (.ref p0), some (.int p1), some (.int (1 : Int32)), none]) rfl ?_
  refine w_iconst dX36_take_2 (v := 0) (by decide) ?_
  refine w_istore dX36_take_3 (by decide) (ls' := [some (.ref this), some (.ref p0), some (.int p1), some (.int (1 : Int32)), some (.int (0 : Int32))]) rfl ?_
  exact (pX36_take_b5 hd N _ _ _ _ _ _ _ hf).to ⟨rfl, rfl, rfl, rfl, rfl, trivial⟩
abbrev cX35_isPart : ByteArray := prog_37_method_117_code
def yX35_isPart : MethodName := ⟨RX35, "isPart", "(LTypeHouseModel$Metrics;I)Z"⟩
def YX35_isPart : eY := (yX35_isPart, cX35_isPart, 5, (Option.some FieldType.boolean), [])
theorem mX35_isPart : e_mv YX35_isPart RX35 2 := ⟨q5720, qs361, q5721, by decide, by decide +kernel, (e_sig (by decide +kernel))⟩
theorem dX35_isPart_0 : decode cX35_isPart 0 = .ok (.iload_n 2, 1) := dc_28 (by decide +kernel)
theorem dX35_isPart_1 : decode cX35_isPart 1 = .ok (.aload_n 1, 1) := dc_43 (by decide +kernel)
theorem dX35_isPart_2 : decode cX35_isPart 2 = .ok (.getfield 825, 3) := dc_180 (a := 3) (b := 57) (n := 825) (by decide +kernel)
theorem dX35_isPart_5 : decode cX35_isPart 5 = .ok (.iadd, 1) := dc_96 (by decide +kernel)
theorem dX35_isPart_6 : decode cX35_isPart 6 = .ok (.aload_n 0, 1) := dc_42 (by decide +kernel)
theorem dX35_isPart_7 : decode cX35_isPart 7 = .ok (.getfield 828, 3) := dc_180 (a := 3) (b := 60) (n := 828) (by decide +kernel)
theorem dX35_isPart_10 : decode cX35_isPart 10 = .ok (.if_icmp .gt 7, 3) := dc_163 (a := 0) (b := 7) (v := 7) (by decide +kernel)
theorem dX35_isPart_13 : decode cX35_isPart 13 = .ok (.iconst 1, 1) := dc_4 (by decide +kernel)
theorem dX35_isPart_14 : decode cX35_isPart 14 = .ok (.goto 4, 3) := dc_167 (a := 0) (b := 4) (v := 4) (by decide +kernel)
theorem dX35_isPart_17 : decode cX35_isPart 17 = .ok (.iconst 0, 1) := dc_3 (by decide +kernel)
theorem dX35_isPart_18 : decode cX35_isPart 18 = .ok (.istore_n 3, 1) := dc_62 (by decide +kernel)
theorem dX35_isPart_19 : decode cX35_isPart 19 = .ok (.iconst 0, 1) := dc_3 (by decide +kernel)
theorem dX35_isPart_20 : decode cX35_isPart 20 = .ok (.istore 4, 2) := dc_54 (a := 4) (by decide +kernel)
theorem dX35_isPart_22 : decode cX35_isPart 22 = .ok (.iload 4, 2) := dc_21 (a := 4) (by decide +kernel)
theorem dX35_isPart_24 : decode cX35_isPart 24 = .ok (.aload_n 1, 1) := dc_43 (by decide +kernel)
theorem dX35_isPart_25 : decode cX35_isPart 25 = .ok (.getfield 825, 3) := dc_180 (a := 3) (b := 57) (n := 825) (by decide +kernel)
theorem dX35_isPart_28 : decode cX35_isPart 28 = .ok (.if_icmp .ge 70, 3) := dc_162 (a := 0) (b := 70) (v := 70) (by decide +kernel)
theorem dX35_isPart_31 : decode cX35_isPart 31 = .ok (.iload_n 3, 1) := dc_29 (by decide +kernel)
theorem dX35_isPart_32 : decode cX35_isPart 32 = .ok (.ifCond .eq 66, 3) := dc_153 (a := 0) (b := 66) (v := 66) (by decide +kernel)
theorem dX35_isPart_35 : decode cX35_isPart 35 = .ok (.aload_n 1, 1) := dc_43 (by decide +kernel)
theorem dX35_isPart_36 : decode cX35_isPart 36 = .ok (.getfield 831, 3) := dc_180 (a := 3) (b := 63) (n := 831) (by decide +kernel)
theorem dX35_isPart_39 : decode cX35_isPart 39 = .ok (.iload 4, 2) := dc_21 (a := 4) (by decide +kernel)
theorem dX35_isPart_41 : decode cX35_isPart 41 = .ok (.iaload, 1) := dc_46 (by decide +kernel)
theorem dX35_isPart_42 : decode cX35_isPart 42 = .ok (.aload_n 0, 1) := dc_42 (by decide +kernel)
theorem dX35_isPart_43 : decode cX35_isPart 43 = .ok (.getfield 142, 3) := dc_180 (a := 0) (b := 142) (n := 142) (by decide +kernel)
theorem dX35_isPart_46 : decode cX35_isPart 46 = .ok (.iload_n 2, 1) := dc_28 (by decide +kernel)
theorem dX35_isPart_47 : decode cX35_isPart 47 = .ok (.iload 4, 2) := dc_21 (a := 4) (by decide +kernel)
theorem dX35_isPart_49 : decode cX35_isPart 49 = .ok (.iadd, 1) := dc_96 (by decide +kernel)
theorem dX35_isPart_50 : decode cX35_isPart 50 = .ok (.iaload, 1) := dc_46 (by decide +kernel)
theorem dX35_isPart_51 : decode cX35_isPart 51 = .ok (.if_icmp .ne 39, 3) := dc_160 (a := 0) (b := 39) (v := 39) (by decide +kernel)
theorem dX35_isPart_54 : decode cX35_isPart 54 = .ok (.aload_n 1, 1) := dc_43 (by decide +kernel)
theorem dX35_isPart_55 : decode cX35_isPart 55 = .ok (.getfield 831, 3) := dc_180 (a := 3) (b := 63) (n := 831) (by decide +kernel)
theorem dX35_isPart_58 : decode cX35_isPart 58 = .ok (.iload 4, 2) := dc_21 (a := 4) (by decide +kernel)
theorem dX35_isPart_60 : decode cX35_isPart 60 = .ok (.iaload, 1) := dc_46 (by decide +kernel)
theorem dX35_isPart_61 : decode cX35_isPart 61 = .ok (.sipush 256, 3) := dc_17 (a := 1) (b := 0) (v := 256) (by decide +kernel)
theorem dX35_isPart_64 : decode cX35_isPart 64 = .ok (.if_icmp .lt 22, 3) := dc_161 (a := 0) (b := 22) (v := 22) (by decide +kernel)
theorem dX35_isPart_67 : decode cX35_isPart 67 = .ok (.aload_n 1, 1) := dc_43 (by decide +kernel)
theorem dX35_isPart_68 : decode cX35_isPart 68 = .ok (.getfield 834, 3) := dc_180 (a := 3) (b := 66) (n := 834) (by decide +kernel)
theorem dX35_isPart_71 : decode cX35_isPart 71 = .ok (.iload 4, 2) := dc_21 (a := 4) (by decide +kernel)
theorem dX35_isPart_73 : decode cX35_isPart 73 = .ok (.iaload, 1) := dc_46 (by decide +kernel)
theorem dX35_isPart_74 : decode cX35_isPart 74 = .ok (.aload_n 0, 1) := dc_42 (by decide +kernel)
theorem dX35_isPart_75 : decode cX35_isPart 75 = .ok (.getfield 145, 3) := dc_180 (a := 0) (b := 145) (n := 145) (by decide +kernel)
theorem dX35_isPart_78 : decode cX35_isPart 78 = .ok (.iload_n 2, 1) := dc_28 (by decide +kernel)
theorem dX35_isPart_79 : decode cX35_isPart 79 = .ok (.iload 4, 2) := dc_21 (a := 4) (by decide +kernel)
theorem dX35_isPart_81 : decode cX35_isPart 81 = .ok (.iadd, 1) := dc_96 (by decide +kernel)
theorem dX35_isPart_82 : decode cX35_isPart 82 = .ok (.iaload, 1) := dc_46 (by decide +kernel)
theorem dX35_isPart_83 : decode cX35_isPart 83 = .ok (.if_icmp .ne 7, 3) := dc_160 (a := 0) (b := 7) (v := 7) (by decide +kernel)
theorem dX35_isPart_86 : decode cX35_isPart 86 = .ok (.iconst 1, 1) := dc_4 (by decide +kernel)
theorem dX35_isPart_87 : decode cX35_isPart 87 = .ok (.goto 4, 3) := dc_167 (a := 0) (b := 4) (v := 4) (by decide +kernel)
theorem dX35_isPart_90 : decode cX35_isPart 90 = .ok (.iconst 0, 1) := dc_3 (by decide +kernel)
theorem dX35_isPart_91 : decode cX35_isPart 91 = .ok (.istore_n 3, 1) := dc_62 (by decide +kernel)
theorem dX35_isPart_92 : decode cX35_isPart 92 = .ok (.iinc 4 1, 3) := dc_132 (a := 4) (b := 1) (v := 1) (by decide +kernel)
theorem dX35_isPart_95 : decode cX35_isPart 95 = .ok (.goto (-73), 3) := dc_167 (a := 255) (b := 183) (v := -73) (by decide +kernel)
theorem dX35_isPart_98 : decode cX35_isPart 98 = .ok (.iload_n 3, 1) := dc_29 (by decide +kernel)
theorem dX35_isPart_99 : decode cX35_isPart 99 = .ok (.ireturn, 1) := dc_172 (by decide +kernel)
theorem GX35_142 {w : eW} {d : Nat} {Y : eY} {pc : Nat} {ls : eL} {st : List Value} {h : eH} {Q : eO → eH → Prop} {a : Nat} {x : Nat} (hf : g_A 34 h a 60 = some x) (hd : decode Y.2.1 pc = .ok (.getfield 142, 3)) (hY : Y.1.cls = RX35) (kk : wp w d Y (pc + 3) ls (.ref x :: st) h Q) : wp w d Y pc ls (.ref a :: st) h Q := x_gA (ci := 34) (k := 60) hf hd rfl (by decide) (by rw [hY]; exact q4562) kk
theorem GX35_145 {w : eW} {d : Nat} {Y : eY} {pc : Nat} {ls : eL} {st : List Value} {h : eH} {Q : eO → eH → Prop} {a : Nat} {x : Nat} (hf : g_A 34 h a 61 = some x) (hd : decode Y.2.1 pc = .ok (.getfield 145, 3)) (hY : Y.1.cls = RX35) (kk : wp w d Y (pc + 3) ls (.ref x :: st) h Q) : wp w d Y pc ls (.ref a :: st) h Q := x_gA (ci := 34) (k := 61) hf hd rfl (by decide) (by rw [hY]; exact q4563) kk
theorem GX35_825 {w : eW} {d : Nat} {Y : eY} {pc : Nat} {ls : eL} {st : List Value} {h : eH} {Q : eO → eH → Prop} {a : Nat} {x : Int32} (hf : g_I 42 h a 3 = some x) (hd : decode Y.2.1 pc = .ok (.getfield 825, 3)) (hY : Y.1.cls = RX35) (kk : wp w d Y (pc + 3) ls (.int x :: st) h Q) : wp w d Y pc ls (.ref a :: st) h Q := x_gIN (ci := 42) (k := 3) hf hd rfl (by decide) (by rw [hY]; exact q4982) kk
theorem GX35_828 {w : eW} {d : Nat} {Y : eY} {pc : Nat} {ls : eL} {st : List Value} {h : eH} {Q : eO → eH → Prop} {a : Nat} {x : Int32} (hf : g_I 34 h a 62 = some x) (hd : decode Y.2.1 pc = .ok (.getfield 828, 3)) (hY : Y.1.cls = RX35) (kk : wp w d Y (pc + 3) ls (.int x :: st) h Q) : wp w d Y pc ls (.ref a :: st) h Q := x_gI (ci := 34) (k := 62) hf hd rfl (by decide) (by rw [hY]; exact q4564) kk
theorem GX35_831 {w : eW} {d : Nat} {Y : eY} {pc : Nat} {ls : eL} {st : List Value} {h : eH} {Q : eO → eH → Prop} {a : Nat} {x : Nat} (hf : g_A 42 h a 1 = some x) (hd : decode Y.2.1 pc = .ok (.getfield 831, 3)) (hY : Y.1.cls = RX35) (kk : wp w d Y (pc + 3) ls (.ref x :: st) h Q) : wp w d Y pc ls (.ref a :: st) h Q := x_gAN (ci := 42) (k := 1) hf hd rfl (by decide) (by rw [hY]; exact q4978) kk
theorem GX35_834 {w : eW} {d : Nat} {Y : eY} {pc : Nat} {ls : eL} {st : List Value} {h : eH} {Q : eO → eH → Prop} {a : Nat} {x : Nat} (hf : g_A 42 h a 2 = some x) (hd : decode Y.2.1 pc = .ok (.getfield 834, 3)) (hY : Y.1.cls = RX35) (kk : wp w d Y (pc + 3) ls (.ref x :: st) h Q) : wp w d Y pc ls (.ref a :: st) h Q := x_gAN (ci := 42) (k := 2) hf hd rfl (by decide) (by rw [hY]; exact q4980) kk
def fX35_isPart_b91 (N : Nat) (k22 : Nat → Nat → Int32 → Int32 → Int32 → eH → Option (Int32 × eH)) (l0 : Nat) (l1 : Nat) (l2 : Int32) (l4 : Int32) (s0 : Int32) (h : eH) : Option (Int32 × eH) :=
  k22 l0 l1 l2 s0 (l4 + (1 : Int32)) h
theorem pX35_isPart_b91 {w : eW} {d : Nat} (hd : 0 ≤ d) {N : Nat} {k22 : Nat → Nat → Int32 → Int32 → Int32 → eH → Option (Int32 × eH)} (hk22 : ∀ l0 l1 l2 l3 l4 h q, k22 l0 l1 l2 l3 l4 h = some q → wp w d YX35_isPart 22 [some (.ref l0), some (.ref l1), some (.int l2), some (.int l3), some (.int l4)] [] h (e_is (e_rn c_I q))) {l0 : Nat} {l1 : Nat} {l2 : Int32} {l4 : Int32} {s0 : Int32} {h : eH} {q} (hf : fX35_isPart_b91 N k22 l0 l1 l2 l4 s0 h = some q) : wp w d YX35_isPart 91 [some (.ref l0), some (.ref l1), some (.int l2), none, some (.int l4)] [.int s0] h (e_is (e_rn c_I q)) := by
  unfold fX35_isPart_b91 at hf
  refine w_istore_n dX35_isPart_91 rfl (by decide) (ls' := [some (.ref l0), some (.ref l1), some (.int l2), some (.int s0), some (.int l4)]) rfl ?_
  refine w_iinc dX35_isPart_92 (v := (l4 + (1 : Int32))) rfl rfl (by decide) (ls' := [some (.ref l0), some (.ref l1), some (.int l2), some (.int s0), some (.int (l4 + (1 : Int32)))]) rfl ?_
  refine w_goto 22 dX35_isPart_95 (by decide) ?_
  exact (hk22 _ _ _ _ _ _ _ hf).to ⟨rfl, rfl, rfl, rfl, rfl, trivial⟩
def fX35_isPart_b86 (N : Nat) (k22 : Nat → Nat → Int32 → Int32 → Int32 → eH → Option (Int32 × eH)) (l0 : Nat) (l1 : Nat) (l2 : Int32) (l4 : Int32) (h : eH) : Option (Int32 × eH) :=
  fX35_isPart_b91 N k22 l0 l1 l2 l4 (1 : Int32) h
theorem pX35_isPart_b86 {w : eW} {d : Nat} (hd : 0 ≤ d) {N : Nat} {k22 : Nat → Nat → Int32 → Int32 → Int32 → eH → Option (Int32 × eH)} (hk22 : ∀ l0 l1 l2 l3 l4 h q, k22 l0 l1 l2 l3 l4 h = some q → wp w d YX35_isPart 22 [some (.ref l0), some (.ref l1), some (.int l2), some (.int l3), some (.int l4)] [] h (e_is (e_rn c_I q))) {l0 : Nat} {l1 : Nat} {l2 : Int32} {l4 : Int32} {h : eH} {q} (hf : fX35_isPart_b86 N k22 l0 l1 l2 l4 h = some q) : wp w d YX35_isPart 86 [some (.ref l0), some (.ref l1), some (.int l2), none, some (.int l4)] [] h (e_is (e_rn c_I q)) := by
  unfold fX35_isPart_b86 at hf
  refine w_iconst dX35_isPart_86 (v := 1) (by decide) ?_
  refine w_goto 91 dX35_isPart_87 (by decide) ?_
  exact (pX35_isPart_b91 hd hk22 hf).to ⟨rfl, rfl, rfl, rfl, trivial⟩
def fX35_isPart_b90 (N : Nat) (k22 : Nat → Nat → Int32 → Int32 → Int32 → eH → Option (Int32 × eH)) (l0 : Nat) (l1 : Nat) (l2 : Int32) (l4 : Int32) (h : eH) : Option (Int32 × eH) :=
  fX35_isPart_b91 N k22 l0 l1 l2 l4 (0 : Int32) h
theorem pX35_isPart_b90 {w : eW} {d : Nat} (hd : 0 ≤ d) {N : Nat} {k22 : Nat → Nat → Int32 → Int32 → Int32 → eH → Option (Int32 × eH)} (hk22 : ∀ l0 l1 l2 l3 l4 h q, k22 l0 l1 l2 l3 l4 h = some q → wp w d YX35_isPart 22 [some (.ref l0), some (.ref l1), some (.int l2), some (.int l3), some (.int l4)] [] h (e_is (e_rn c_I q))) {l0 : Nat} {l1 : Nat} {l2 : Int32} {l4 : Int32} {h : eH} {q} (hf : fX35_isPart_b90 N k22 l0 l1 l2 l4 h = some q) : wp w d YX35_isPart 90 [some (.ref l0), some (.ref l1), some (.int l2), none, some (.int l4)] [] h (e_is (e_rn c_I q)) := by
  unfold fX35_isPart_b90 at hf
  refine w_iconst dX35_isPart_90 (v := 0) (by decide) ?_
  exact (pX35_isPart_b91 hd hk22 hf).to ⟨rfl, rfl, rfl, rfl, trivial⟩
def fX35_isPart_b98 (N : Nat) (l3 : Int32) (h : eH) : Option (Int32 × eH) :=
  z_r l3 (l3, h)
theorem pX35_isPart_b98 {w : eW} {d : Nat} (hd : 0 ≤ d) {N : Nat} {l3 : Int32} {h : eH} {q} (hf : fX35_isPart_b98 N l3 h = some q) : wp w d YX35_isPart 98 [none, none, none, some (.int l3), none] [] h (e_is (e_rn c_I q)) := by
  unfold fX35_isPart_b98 at hf
  refine w_iload_n dX35_isPart_98 rfl rfl ?_
  obtain ⟨b1, rfl⟩ := z_r_some hf
  exact w_iret dX35_isPart_99 rfl b1 rfl
def fX35_isPart_b22 (N : Nat) : Nat → Nat → Nat → Int32 → Int32 → Int32 → eH → Option (Int32 × eH)
  | 0, _, _, _, _, _, _ => none
  | n + 1, l0, l1, l2, l3, l4, h =>
    (g_I 42 h l1 3).bind fun x1 =>
    if x1 ≤ l4 then
      fX35_isPart_b98 N l3 h
    else
      if l3 = 0 then
        fX35_isPart_b98 N l3 h
      else
        (g_A 42 h l1 1).bind fun a5 =>
        (r_I 100 h a5 l4).bind fun x7 =>
        (g_A 34 h l0 60).bind fun a9 =>
        (r_I 100 h a9 (l2 + l4)).bind fun x11 =>
        if ¬ x7 = x11 then
          fX35_isPart_b90 N (fX35_isPart_b22 N n) l0 l1 l2 l4 h
        else
          (g_A 42 h l1 1).bind fun a14 =>
          (r_I 100 h a14 l4).bind fun x16 =>
          if x16 < (256 : Int32) then
            fX35_isPart_b86 N (fX35_isPart_b22 N n) l0 l1 l2 l4 h
          else
            (g_A 42 h l1 2).bind fun a19 =>
            (r_I 100 h a19 l4).bind fun x21 =>
            (g_A 34 h l0 61).bind fun a23 =>
            (r_I 100 h a23 (l2 + l4)).bind fun x25 =>
            if ¬ x21 = x25 then
              fX35_isPart_b90 N (fX35_isPart_b22 N n) l0 l1 l2 l4 h
            else
              fX35_isPart_b86 N (fX35_isPart_b22 N n) l0 l1 l2 l4 h
theorem pX35_isPart_b22 {w : eW} {d : Nat} (hd : 0 ≤ d) {N : Nat} : ∀ (n : Nat) l0 l1 l2 l3 l4 h q, fX35_isPart_b22 N n l0 l1 l2 l3 l4 h = some q → wp w d YX35_isPart 22 [some (.ref l0), some (.ref l1), some (.int l2), some (.int l3), some (.int l4)] [] h (e_is (e_rn c_I q)) := by
  intro n
  induction n with
  | zero => intro l0 l1 l2 l3 l4 h q hf; simp [fX35_isPart_b22] at hf
  | succ n ih =>
    intro l0 l1 l2 l3 l4 h q hf
    rw [fX35_isPart_b22] at hf
    refine w_iload dX35_isPart_22 rfl ?_
    refine w_aload_n dX35_isPart_24 rfl rfl ?_
    obtain ⟨x1, b2, hf⟩ := Option.bind_eq_some_iff.mp hf
    refine GX35_825 b2 dX35_isPart_25 rfl ?_
    refine w_icmp_ge 98 dX35_isPart_28 (by decide) (fun c3 => ?_) (fun c3 => ?_)
    · replace hf := (if_pos (show x1 ≤ l4 from c3)).symm.trans hf
      exact (pX35_isPart_b98 hd hf).to ⟨rfl, trivial⟩
    · replace hf := (if_neg (show ¬ (x1 ≤ l4) from c3)).symm.trans hf
      refine w_iload_n dX35_isPart_31 rfl rfl ?_
      refine w_if_eq 98 dX35_isPart_32 (by decide) (fun c4 => ?_) (fun c4 => ?_)
      · replace hf := (if_pos (show l3 = 0 from c4)).symm.trans hf
        exact (pX35_isPart_b98 hd hf).to ⟨rfl, trivial⟩
      · replace hf := (if_neg (show ¬ (l3 = 0) from c4)).symm.trans hf
        refine w_aload_n dX35_isPart_35 rfl rfl ?_
        obtain ⟨a5, b6, hf⟩ := Option.bind_eq_some_iff.mp hf
        refine GX35_831 b6 dX35_isPart_36 rfl ?_
        refine w_iload dX35_isPart_39 rfl ?_
        obtain ⟨x7, b8, hf⟩ := Option.bind_eq_some_iff.mp hf
        refine x_rI b8 dX35_isPart_41 ?_
        refine w_aload_n dX35_isPart_42 rfl rfl ?_
        obtain ⟨a9, b10, hf⟩ := Option.bind_eq_some_iff.mp hf
        refine GX35_142 b10 dX35_isPart_43 rfl ?_
        refine w_iload_n dX35_isPart_46 rfl rfl ?_
        refine w_iload dX35_isPart_47 rfl ?_
        refine w_iadd dX35_isPart_49 ?_
        obtain ⟨x11, b12, hf⟩ := Option.bind_eq_some_iff.mp hf
        refine x_rI b12 dX35_isPart_50 ?_
        refine w_icmp_ne 90 dX35_isPart_51 (by decide) (fun c13 => ?_) (fun c13 => ?_)
        · replace hf := (if_pos (show ¬ x7 = x11 from c13)).symm.trans hf
          exact (pX35_isPart_b90 hd ih hf).to ⟨rfl, rfl, rfl, rfl, trivial⟩
        · replace hf := (if_neg (show ¬ (¬ x7 = x11) from (fun z => z c13))).symm.trans hf
          refine w_aload_n dX35_isPart_54 rfl rfl ?_
          obtain ⟨a14, b15, hf⟩ := Option.bind_eq_some_iff.mp hf
          refine GX35_831 b15 dX35_isPart_55 rfl ?_
          refine w_iload dX35_isPart_58 rfl ?_
          obtain ⟨x16, b17, hf⟩ := Option.bind_eq_some_iff.mp hf
          refine x_rI b17 dX35_isPart_60 ?_
          refine w_sipush dX35_isPart_61 (v := 256) (by decide) ?_
          refine w_icmp_lt 86 dX35_isPart_64 (by decide) (fun c18 => ?_) (fun c18 => ?_)
          · replace hf := (if_pos (show x16 < (256 : Int32) from c18)).symm.trans hf
            exact (pX35_isPart_b86 hd ih hf).to ⟨rfl, rfl, rfl, rfl, trivial⟩
          · replace hf := (if_neg (show ¬ (x16 < (256 : Int32)) from c18)).symm.trans hf
            refine w_aload_n dX35_isPart_67 rfl rfl ?_
            obtain ⟨a19, b20, hf⟩ := Option.bind_eq_some_iff.mp hf
            refine GX35_834 b20 dX35_isPart_68 rfl ?_
            refine w_iload dX35_isPart_71 rfl ?_
            obtain ⟨x21, b22, hf⟩ := Option.bind_eq_some_iff.mp hf
            refine x_rI b22 dX35_isPart_73 ?_
            refine w_aload_n dX35_isPart_74 rfl rfl ?_
            obtain ⟨a23, b24, hf⟩ := Option.bind_eq_some_iff.mp hf
            refine GX35_145 b24 dX35_isPart_75 rfl ?_
            refine w_iload_n dX35_isPart_78 rfl rfl ?_
            refine w_iload dX35_isPart_79 rfl ?_
            refine w_iadd dX35_isPart_81 ?_
            obtain ⟨x25, b26, hf⟩ := Option.bind_eq_some_iff.mp hf
            refine x_rI b26 dX35_isPart_82 ?_
            refine w_icmp_ne 90 dX35_isPart_83 (by decide) (fun c27 => ?_) (fun c27 => ?_)
            · replace hf := (if_pos (show ¬ x21 = x25 from c27)).symm.trans hf
              exact (pX35_isPart_b90 hd ih hf).to ⟨rfl, rfl, rfl, rfl, trivial⟩
            · replace hf := (if_neg (show ¬ (¬ x21 = x25) from (fun z => z c27))).symm.trans hf
              exact (pX35_isPart_b86 hd ih hf).to ⟨rfl, rfl, rfl, rfl, trivial⟩
def fX35_isPart_b18 (N : Nat) (l0 : Nat) (l1 : Nat) (l2 : Int32) (s0 : Int32) (h : eH) : Option (Int32 × eH) :=
  fX35_isPart_b22 N N l0 l1 l2 s0 (0 : Int32) h
theorem pX35_isPart_b18 {w : eW} {d : Nat} (hd : 0 ≤ d) {N : Nat} {l0 : Nat} {l1 : Nat} {l2 : Int32} {s0 : Int32} {h : eH} {q} (hf : fX35_isPart_b18 N l0 l1 l2 s0 h = some q) : wp w d YX35_isPart 18 [some (.ref l0), some (.ref l1), some (.int l2), none, none] [.int s0] h (e_is (e_rn c_I q)) := by
  unfold fX35_isPart_b18 at hf
  refine w_istore_n dX35_isPart_18 rfl (by decide) (ls' := [some (.ref l0), some (.ref l1), some (.int l2), some (.int s0), none]) rfl ?_
  refine w_iconst dX35_isPart_19 (v := 0) (by decide) ?_
  refine w_istore dX35_isPart_20 (by decide) (ls' := [some (.ref l0), some (.ref l1), some (.int l2), some (.int s0), some (.int (0 : Int32))]) rfl ?_
  exact (pX35_isPart_b22 hd N _ _ _ _ _ _ _ hf).to ⟨rfl, rfl, rfl, rfl, rfl, trivial⟩
def fX35_isPart (N : Nat) (this : Nat) (p0 : Nat) (p1 : Int32) (h : eH) : Option (Int32 × eH) :=
  (g_I 42 h p0 3).bind fun x1 =>
  (g_I 34 h this 62).bind fun x3 =>
  if x3 < (p1 + x1) then
    fX35_isPart_b18 N this p0 p1 (0 : Int32) h
  else
    fX35_isPart_b18 N this p0 p1 (1 : Int32) h
theorem pX35_isPart {w : eW} {d : Nat} (hd : 0 ≤ d) {N : Nat} {this : Nat} {p0 : Nat} {p1 : Int32} {h : eH} {q} (hf : fX35_isPart N this p0 p1 h = some q) : wm w d YX35_isPart [.ref this, .ref p0, .int p1] h (e_is (e_rn c_I q)) := by
  show wp w d YX35_isPart 0 [some (.ref this), some (.ref p0), some (.int p1), none, none] [] h _
  unfold fX35_isPart at hf
  refine w_iload_n dX35_isPart_0 rfl rfl ?_
  refine w_aload_n dX35_isPart_1 rfl rfl ?_
  obtain ⟨x1, b2, hf⟩ := Option.bind_eq_some_iff.mp hf
  refine GX35_825 b2 dX35_isPart_2 rfl ?_
  refine w_iadd dX35_isPart_5 ?_
  refine w_aload_n dX35_isPart_6 rfl rfl ?_
  obtain ⟨x3, b4, hf⟩ := Option.bind_eq_some_iff.mp hf
  refine GX35_828 b4 dX35_isPart_7 rfl ?_
  refine w_icmp_gt 17 dX35_isPart_10 (by decide) (fun c5 => ?_) (fun c5 => ?_)
  · replace hf := (if_pos (show x3 < (p1 + x1) from c5)).symm.trans hf
    refine w_iconst dX35_isPart_17 (v := 0) (by decide) ?_
    exact (pX35_isPart_b18 hd hf).to ⟨rfl, rfl, rfl, trivial⟩
  · replace hf := (if_neg (show ¬ (x3 < (p1 + x1)) from c5)).symm.trans hf
    refine w_iconst dX35_isPart_13 (v := 1) (by decide) ?_
    refine w_goto 18 dX35_isPart_14 (by decide) ?_
    exact (pX35_isPart_b18 hd hf).to ⟨rfl, rfl, rfl, trivial⟩
abbrev cX35_findSofts : ByteArray := prog_37_method_118_code
def yX35_findSofts : MethodName := ⟨RX35, "findSofts", "(I)V"⟩
def YX35_findSofts : eY := (yX35_findSofts, cX35_findSofts, 11, none, [])
theorem mX35_findSofts : e_mv YX35_findSofts RX35 1 := ⟨q5716, qs360, q5717, by decide, by decide +kernel, (e_sig (by decide +kernel))⟩
theorem dX35_findSofts_0 : decode cX35_findSofts 0 = .ok (.aload_n 0, 1) := dc_42 (by decide +kernel)
theorem dX35_findSofts_1 : decode cX35_findSofts 1 = .ok (.aload_n 0, 1) := dc_42 (by decide +kernel)
theorem dX35_findSofts_2 : decode cX35_findSofts 2 = .ok (.getfield 837, 3) := dc_180 (a := 3) (b := 69) (n := 837) (by decide +kernel)
theorem dX35_findSofts_5 : decode cX35_findSofts 5 = .ok (.invokevirtual 817, 3) := dc_182 (a := 3) (b := 49) (n := 817) (by decide +kernel)
theorem dX35_findSofts_8 : decode cX35_findSofts 8 = .ok (.astore_n 2, 1) := dc_77 (by decide +kernel)
theorem dX35_findSofts_9 : decode cX35_findSofts 9 = .ok (.aload_n 0, 1) := dc_42 (by decide +kernel)
theorem dX35_findSofts_10 : decode cX35_findSofts 10 = .ok (.iconst 0, 1) := dc_3 (by decide +kernel)
theorem dX35_findSofts_11 : decode cX35_findSofts 11 = .ok (.putfield 840, 3) := dc_181 (a := 3) (b := 72) (n := 840) (by decide +kernel)
theorem dX35_findSofts_14 : decode cX35_findSofts 14 = .ok (.iconst 0, 1) := dc_3 (by decide +kernel)
theorem dX35_findSofts_15 : decode cX35_findSofts 15 = .ok (.istore_n 3, 1) := dc_62 (by decide +kernel)
theorem dX35_findSofts_16 : decode cX35_findSofts 16 = .ok (.iload_n 3, 1) := dc_29 (by decide +kernel)
theorem dX35_findSofts_17 : decode cX35_findSofts 17 = .ok (.aload_n 0, 1) := dc_42 (by decide +kernel)
theorem dX35_findSofts_18 : decode cX35_findSofts 18 = .ok (.getfield 28, 3) := dc_180 (a := 0) (b := 28) (n := 28) (by decide +kernel)
theorem dX35_findSofts_21 : decode cX35_findSofts 21 = .ok (.getfield 843, 3) := dc_180 (a := 3) (b := 75) (n := 843) (by decide +kernel)
theorem dX35_findSofts_24 : decode cX35_findSofts 24 = .ok (.if_icmp .ge 230, 3) := dc_162 (a := 0) (b := 230) (v := 230) (by decide +kernel)
theorem dX35_findSofts_27 : decode cX35_findSofts 27 = .ok (.aload_n 0, 1) := dc_42 (by decide +kernel)
theorem dX35_findSofts_28 : decode cX35_findSofts 28 = .ok (.getfield 28, 3) := dc_180 (a := 0) (b := 28) (n := 28) (by decide +kernel)
theorem dX35_findSofts_31 : decode cX35_findSofts 31 = .ok (.getfield 846, 3) := dc_180 (a := 3) (b := 78) (n := 846) (by decide +kernel)
theorem dX35_findSofts_34 : decode cX35_findSofts 34 = .ok (.iload_n 3, 1) := dc_29 (by decide +kernel)
theorem dX35_findSofts_35 : decode cX35_findSofts 35 = .ok (.iaload, 1) := dc_46 (by decide +kernel)
theorem dX35_findSofts_36 : decode cX35_findSofts 36 = .ok (.istore 4, 2) := dc_54 (a := 4) (by decide +kernel)
theorem dX35_findSofts_38 : decode cX35_findSofts 38 = .ok (.aload_n 2, 1) := dc_44 (by decide +kernel)
theorem dX35_findSofts_39 : decode cX35_findSofts 39 = .ok (.aload_n 0, 1) := dc_42 (by decide +kernel)
theorem dX35_findSofts_40 : decode cX35_findSofts 40 = .ok (.getfield 139, 3) := dc_180 (a := 0) (b := 139) (n := 139) (by decide +kernel)
theorem dX35_findSofts_43 : decode cX35_findSofts 43 = .ok (.iconst 0, 1) := dc_3 (by decide +kernel)
theorem dX35_findSofts_44 : decode cX35_findSofts 44 = .ok (.iload 4, 2) := dc_21 (a := 4) (by decide +kernel)
theorem dX35_findSofts_46 : decode cX35_findSofts 46 = .ok (.aload_n 0, 1) := dc_42 (by decide +kernel)
theorem dX35_findSofts_47 : decode cX35_findSofts 47 = .ok (.getfield 124, 3) := dc_180 (a := 0) (b := 124) (n := 124) (by decide +kernel)
theorem dX35_findSofts_50 : decode cX35_findSofts 50 = .ok (.aload_n 0, 1) := dc_42 (by decide +kernel)
theorem dX35_findSofts_51 : decode cX35_findSofts 51 = .ok (.getfield 837, 3) := dc_180 (a := 3) (b := 69) (n := 837) (by decide +kernel)
theorem dX35_findSofts_54 : decode cX35_findSofts 54 = .ok (.iaload, 1) := dc_46 (by decide +kernel)
theorem dX35_findSofts_55 : decode cX35_findSofts 55 = .ok (.invokevirtual 849, 3) := dc_182 (a := 3) (b := 81) (n := 849) (by decide +kernel)
theorem dX35_findSofts_58 : decode cX35_findSofts 58 = .ok (.istore 5, 2) := dc_54 (a := 5) (by decide +kernel)
theorem dX35_findSofts_60 : decode cX35_findSofts 60 = .ok (.aload_n 2, 1) := dc_44 (by decide +kernel)
theorem dX35_findSofts_61 : decode cX35_findSofts 61 = .ok (.getfield 825, 3) := dc_180 (a := 3) (b := 57) (n := 825) (by decide +kernel)
theorem dX35_findSofts_64 : decode cX35_findSofts 64 = .ok (.istore 6, 2) := dc_54 (a := 6) (by decide +kernel)
theorem dX35_findSofts_66 : decode cX35_findSofts 66 = .ok (.iload 5, 2) := dc_21 (a := 5) (by decide +kernel)
theorem dX35_findSofts_68 : decode cX35_findSofts 68 = .ok (.ifCond .eq 180, 3) := dc_153 (a := 0) (b := 180) (v := 180) (by decide +kernel)
theorem dX35_findSofts_71 : decode cX35_findSofts 71 = .ok (.aload_n 0, 1) := dc_42 (by decide +kernel)
theorem dX35_findSofts_72 : decode cX35_findSofts 72 = .ok (.aload_n 2, 1) := dc_44 (by decide +kernel)
theorem dX35_findSofts_73 : decode cX35_findSofts 73 = .ok (.iconst 0, 1) := dc_3 (by decide +kernel)
theorem dX35_findSofts_74 : decode cX35_findSofts 74 = .ok (.invokevirtual 853, 3) := dc_182 (a := 3) (b := 85) (n := 853) (by decide +kernel)
theorem dX35_findSofts_77 : decode cX35_findSofts 77 = .ok (.ifCond .eq 171, 3) := dc_153 (a := 0) (b := 171) (v := 171) (by decide +kernel)
theorem dX35_findSofts_80 : decode cX35_findSofts 80 = .ok (.aload_n 2, 1) := dc_44 (by decide +kernel)
theorem dX35_findSofts_81 : decode cX35_findSofts 81 = .ok (.aload_n 0, 1) := dc_42 (by decide +kernel)
theorem dX35_findSofts_82 : decode cX35_findSofts 82 = .ok (.getfield 139, 3) := dc_180 (a := 0) (b := 139) (n := 139) (by decide +kernel)
theorem dX35_findSofts_85 : decode cX35_findSofts 85 = .ok (.iload 4, 2) := dc_21 (a := 4) (by decide +kernel)
theorem dX35_findSofts_87 : decode cX35_findSofts 87 = .ok (.iload_n 1, 1) := dc_27 (by decide +kernel)
theorem dX35_findSofts_88 : decode cX35_findSofts 88 = .ok (.aload_n 0, 1) := dc_42 (by decide +kernel)
theorem dX35_findSofts_89 : decode cX35_findSofts 89 = .ok (.getfield 124, 3) := dc_180 (a := 0) (b := 124) (n := 124) (by decide +kernel)
theorem dX35_findSofts_92 : decode cX35_findSofts 92 = .ok (.aload_n 0, 1) := dc_42 (by decide +kernel)
theorem dX35_findSofts_93 : decode cX35_findSofts 93 = .ok (.getfield 837, 3) := dc_180 (a := 3) (b := 69) (n := 837) (by decide +kernel)
theorem dX35_findSofts_96 : decode cX35_findSofts 96 = .ok (.iaload, 1) := dc_46 (by decide +kernel)
theorem dX35_findSofts_97 : decode cX35_findSofts 97 = .ok (.invokevirtual 849, 3) := dc_182 (a := 3) (b := 81) (n := 849) (by decide +kernel)
theorem dX35_findSofts_100 : decode cX35_findSofts 100 = .ok (.ifCond .eq 148, 3) := dc_153 (a := 0) (b := 148) (v := 148) (by decide +kernel)
theorem dX35_findSofts_103 : decode cX35_findSofts 103 = .ok (.aload_n 0, 1) := dc_42 (by decide +kernel)
theorem dX35_findSofts_104 : decode cX35_findSofts 104 = .ok (.getfield 828, 3) := dc_180 (a := 3) (b := 60) (n := 828) (by decide +kernel)
theorem dX35_findSofts_107 : decode cX35_findSofts 107 = .ok (.iload 6, 2) := dc_21 (a := 6) (by decide +kernel)
theorem dX35_findSofts_109 : decode cX35_findSofts 109 = .ok (.isub, 1) := dc_100 (by decide +kernel)
theorem dX35_findSofts_110 : decode cX35_findSofts 110 = .ok (.aload_n 2, 1) := dc_44 (by decide +kernel)
theorem dX35_findSofts_111 : decode cX35_findSofts 111 = .ok (.getfield 825, 3) := dc_180 (a := 3) (b := 57) (n := 825) (by decide +kernel)
theorem dX35_findSofts_114 : decode cX35_findSofts 114 = .ok (.isub, 1) := dc_100 (by decide +kernel)
theorem dX35_findSofts_115 : decode cX35_findSofts 115 = .ok (.istore 7, 2) := dc_54 (a := 7) (by decide +kernel)
theorem dX35_findSofts_117 : decode cX35_findSofts 117 = .ok (.iload 7, 2) := dc_21 (a := 7) (by decide +kernel)
theorem dX35_findSofts_119 : decode cX35_findSofts 119 = .ok (.iconst 1, 1) := dc_4 (by decide +kernel)
theorem dX35_findSofts_120 : decode cX35_findSofts 120 = .ok (.if_icmp .ne 20, 3) := dc_160 (a := 0) (b := 20) (v := 20) (by decide +kernel)
theorem dX35_findSofts_123 : decode cX35_findSofts 123 = .ok (.aload_n 0, 1) := dc_42 (by decide +kernel)
theorem dX35_findSofts_124 : decode cX35_findSofts 124 = .ok (.getfield 142, 3) := dc_180 (a := 0) (b := 142) (n := 142) (by decide +kernel)
theorem dX35_findSofts_127 : decode cX35_findSofts 127 = .ok (.iload 6, 2) := dc_21 (a := 6) (by decide +kernel)
theorem dX35_findSofts_129 : decode cX35_findSofts 129 = .ok (.iaload, 1) := dc_46 (by decide +kernel)
theorem dX35_findSofts_130 : decode cX35_findSofts 130 = .ok (.sipush 255, 3) := dc_17 (a := 0) (b := 255) (v := 255) (by decide +kernel)
theorem dX35_findSofts_133 : decode cX35_findSofts 133 = .ok (.if_icmp .le 7, 3) := dc_164 (a := 0) (b := 7) (v := 7) (by decide +kernel)
theorem dX35_findSofts_136 : decode cX35_findSofts 136 = .ok (.iconst 1, 1) := dc_4 (by decide +kernel)
theorem dX35_findSofts_137 : decode cX35_findSofts 137 = .ok (.goto 4, 3) := dc_167 (a := 0) (b := 4) (v := 4) (by decide +kernel)
theorem dX35_findSofts_140 : decode cX35_findSofts 140 = .ok (.iconst 0, 1) := dc_3 (by decide +kernel)
theorem dX35_findSofts_141 : decode cX35_findSofts 141 = .ok (.istore 8, 2) := dc_54 (a := 8) (by decide +kernel)
theorem dX35_findSofts_143 : decode cX35_findSofts 143 = .ok (.iconst 0, 1) := dc_3 (by decide +kernel)
theorem dX35_findSofts_144 : decode cX35_findSofts 144 = .ok (.istore 9, 2) := dc_54 (a := 9) (by decide +kernel)
theorem dX35_findSofts_146 : decode cX35_findSofts 146 = .ok (.iconst 0, 1) := dc_3 (by decide +kernel)
theorem dX35_findSofts_147 : decode cX35_findSofts 147 = .ok (.istore 10, 2) := dc_54 (a := 10) (by decide +kernel)
theorem dX35_findSofts_149 : decode cX35_findSofts 149 = .ok (.iload 10, 2) := dc_21 (a := 10) (by decide +kernel)
theorem dX35_findSofts_151 : decode cX35_findSofts 151 = .ok (.aload_n 0, 1) := dc_42 (by decide +kernel)
theorem dX35_findSofts_152 : decode cX35_findSofts 152 = .ok (.getfield 840, 3) := dc_180 (a := 3) (b := 72) (n := 840) (by decide +kernel)
theorem dX35_findSofts_155 : decode cX35_findSofts 155 = .ok (.if_icmp .ge 33, 3) := dc_162 (a := 0) (b := 33) (v := 33) (by decide +kernel)
theorem dX35_findSofts_158 : decode cX35_findSofts 158 = .ok (.iload 9, 2) := dc_21 (a := 9) (by decide +kernel)
theorem dX35_findSofts_160 : decode cX35_findSofts 160 = .ok (.ifCond .ne 15, 3) := dc_154 (a := 0) (b := 15) (v := 15) (by decide +kernel)
theorem dX35_findSofts_163 : decode cX35_findSofts 163 = .ok (.aload_n 0, 1) := dc_42 (by decide +kernel)
theorem dX35_findSofts_164 : decode cX35_findSofts 164 = .ok (.getfield 240, 3) := dc_180 (a := 0) (b := 240) (n := 240) (by decide +kernel)
theorem dX35_findSofts_167 : decode cX35_findSofts 167 = .ok (.iload 10, 2) := dc_21 (a := 10) (by decide +kernel)
theorem dX35_findSofts_169 : decode cX35_findSofts 169 = .ok (.iaload, 1) := dc_46 (by decide +kernel)
theorem dX35_findSofts_170 : decode cX35_findSofts 170 = .ok (.iload 6, 2) := dc_21 (a := 6) (by decide +kernel)
theorem dX35_findSofts_172 : decode cX35_findSofts 172 = .ok (.if_icmp .ne 7, 3) := dc_160 (a := 0) (b := 7) (v := 7) (by decide +kernel)
theorem dX35_findSofts_175 : decode cX35_findSofts 175 = .ok (.iconst 1, 1) := dc_4 (by decide +kernel)
theorem dX35_findSofts_176 : decode cX35_findSofts 176 = .ok (.goto 4, 3) := dc_167 (a := 0) (b := 4) (v := 4) (by decide +kernel)
theorem dX35_findSofts_179 : decode cX35_findSofts 179 = .ok (.iconst 0, 1) := dc_3 (by decide +kernel)
theorem dX35_findSofts_180 : decode cX35_findSofts 180 = .ok (.istore 9, 2) := dc_54 (a := 9) (by decide +kernel)
theorem dX35_findSofts_182 : decode cX35_findSofts 182 = .ok (.iinc 10 1, 3) := dc_132 (a := 10) (b := 1) (v := 1) (by decide +kernel)
theorem dX35_findSofts_185 : decode cX35_findSofts 185 = .ok (.goto (-36), 3) := dc_167 (a := 255) (b := 220) (v := -36) (by decide +kernel)
theorem dX35_findSofts_188 : decode cX35_findSofts 188 = .ok (.iload 7, 2) := dc_21 (a := 7) (by decide +kernel)
theorem dX35_findSofts_190 : decode cX35_findSofts 190 = .ok (.ifCond .eq 8, 3) := dc_153 (a := 0) (b := 8) (v := 8) (by decide +kernel)
theorem dX35_findSofts_193 : decode cX35_findSofts 193 = .ok (.iload 8, 2) := dc_21 (a := 8) (by decide +kernel)
theorem dX35_findSofts_195 : decode cX35_findSofts 195 = .ok (.ifCond .eq 53, 3) := dc_153 (a := 0) (b := 53) (v := 53) (by decide +kernel)
theorem dX35_findSofts_198 : decode cX35_findSofts 198 = .ok (.aload_n 0, 1) := dc_42 (by decide +kernel)
theorem dX35_findSofts_199 : decode cX35_findSofts 199 = .ok (.aload_n 2, 1) := dc_44 (by decide +kernel)
theorem dX35_findSofts_200 : decode cX35_findSofts 200 = .ok (.iload 6, 2) := dc_21 (a := 6) (by decide +kernel)
theorem dX35_findSofts_202 : decode cX35_findSofts 202 = .ok (.iload 7, 2) := dc_21 (a := 7) (by decide +kernel)
theorem dX35_findSofts_204 : decode cX35_findSofts 204 = .ok (.iadd, 1) := dc_96 (by decide +kernel)
theorem dX35_findSofts_205 : decode cX35_findSofts 205 = .ok (.invokevirtual 853, 3) := dc_182 (a := 3) (b := 85) (n := 853) (by decide +kernel)
theorem dX35_findSofts_208 : decode cX35_findSofts 208 = .ok (.ifCond .eq 40, 3) := dc_153 (a := 0) (b := 40) (v := 40) (by decide +kernel)
theorem dX35_findSofts_211 : decode cX35_findSofts 211 = .ok (.iload 9, 2) := dc_21 (a := 9) (by decide +kernel)
theorem dX35_findSofts_213 : decode cX35_findSofts 213 = .ok (.ifCond .ne 35, 3) := dc_154 (a := 0) (b := 35) (v := 35) (by decide +kernel)
theorem dX35_findSofts_216 : decode cX35_findSofts 216 = .ok (.aload_n 0, 1) := dc_42 (by decide +kernel)
theorem dX35_findSofts_217 : decode cX35_findSofts 217 = .ok (.getfield 240, 3) := dc_180 (a := 0) (b := 240) (n := 240) (by decide +kernel)
theorem dX35_findSofts_220 : decode cX35_findSofts 220 = .ok (.aload_n 0, 1) := dc_42 (by decide +kernel)
theorem dX35_findSofts_221 : decode cX35_findSofts 221 = .ok (.getfield 840, 3) := dc_180 (a := 3) (b := 72) (n := 840) (by decide +kernel)
theorem dX35_findSofts_224 : decode cX35_findSofts 224 = .ok (.iload 6, 2) := dc_21 (a := 6) (by decide +kernel)
theorem dX35_findSofts_226 : decode cX35_findSofts 226 = .ok (.iastore, 1) := dc_79 (by decide +kernel)
theorem dX35_findSofts_227 : decode cX35_findSofts 227 = .ok (.aload_n 0, 1) := dc_42 (by decide +kernel)
theorem dX35_findSofts_228 : decode cX35_findSofts 228 = .ok (.getfield 243, 3) := dc_180 (a := 0) (b := 243) (n := 243) (by decide +kernel)
theorem dX35_findSofts_231 : decode cX35_findSofts 231 = .ok (.aload_n 0, 1) := dc_42 (by decide +kernel)
theorem dX35_findSofts_232 : decode cX35_findSofts 232 = .ok (.getfield 840, 3) := dc_180 (a := 3) (b := 72) (n := 840) (by decide +kernel)
theorem dX35_findSofts_235 : decode cX35_findSofts 235 = .ok (.iload 7, 2) := dc_21 (a := 7) (by decide +kernel)
theorem dX35_findSofts_237 : decode cX35_findSofts 237 = .ok (.iastore, 1) := dc_79 (by decide +kernel)
theorem dX35_findSofts_238 : decode cX35_findSofts 238 = .ok (.aload_n 0, 1) := dc_42 (by decide +kernel)
theorem dX35_findSofts_239 : decode cX35_findSofts 239 = .ok (.dup, 1) := dc_89 (by decide +kernel)
theorem dX35_findSofts_240 : decode cX35_findSofts 240 = .ok (.getfield 840, 3) := dc_180 (a := 3) (b := 72) (n := 840) (by decide +kernel)
theorem dX35_findSofts_243 : decode cX35_findSofts 243 = .ok (.iconst 1, 1) := dc_4 (by decide +kernel)
theorem dX35_findSofts_244 : decode cX35_findSofts 244 = .ok (.iadd, 1) := dc_96 (by decide +kernel)
theorem dX35_findSofts_245 : decode cX35_findSofts 245 = .ok (.putfield 840, 3) := dc_181 (a := 3) (b := 72) (n := 840) (by decide +kernel)
theorem dX35_findSofts_248 : decode cX35_findSofts 248 = .ok (.iinc 3 1, 3) := dc_132 (a := 3) (b := 1) (v := 1) (by decide +kernel)
theorem dX35_findSofts_251 : decode cX35_findSofts 251 = .ok (.goto (-235), 3) := dc_167 (a := 255) (b := 21) (v := -235) (by decide +kernel)
theorem dX35_findSofts_254 : decode cX35_findSofts 254 = .ok (.return_, 1) := dc_177 (by decide +kernel)
theorem GX35_124 {w : eW} {d : Nat} {Y : eY} {pc : Nat} {ls : eL} {st : List Value} {h : eH} {Q : eO → eH → Prop} {a : Nat} {x : Nat} (hf : g_A 34 h a 50 = some x) (hd : decode Y.2.1 pc = .ok (.getfield 124, 3)) (hY : Y.1.cls = RX35) (kk : wp w d Y (pc + 3) ls (.ref x :: st) h Q) : wp w d Y pc ls (.ref a :: st) h Q := x_gA (ci := 34) (k := 50) hf hd rfl (by decide) (by rw [hY]; exact q4552) kk
theorem GX35_139 {w : eW} {d : Nat} {Y : eY} {pc : Nat} {ls : eL} {st : List Value} {h : eH} {Q : eO → eH → Prop} {a : Nat} {x : Nat} (hf : g_A 34 h a 59 = some x) (hd : decode Y.2.1 pc = .ok (.getfield 139, 3)) (hY : Y.1.cls = RX35) (kk : wp w d Y (pc + 3) ls (.ref x :: st) h Q) : wp w d Y pc ls (.ref a :: st) h Q := x_gA (ci := 34) (k := 59) hf hd rfl (by decide) (by rw [hY]; exact q4561) kk
theorem GX35_240 {w : eW} {d : Nat} {Y : eY} {pc : Nat} {ls : eL} {st : List Value} {h : eH} {Q : eO → eH → Prop} {a : Nat} {x : Nat} (hf : g_A 34 h a 125 = some x) (hd : decode Y.2.1 pc = .ok (.getfield 240, 3)) (hY : Y.1.cls = RX35) (kk : wp w d Y (pc + 3) ls (.ref x :: st) h Q) : wp w d Y pc ls (.ref a :: st) h Q := x_gA (ci := 34) (k := 125) hf hd rfl (by decide) (by rw [hY]; exact q4626) kk
theorem GX35_243 {w : eW} {d : Nat} {Y : eY} {pc : Nat} {ls : eL} {st : List Value} {h : eH} {Q : eO → eH → Prop} {a : Nat} {x : Nat} (hf : g_A 34 h a 126 = some x) (hd : decode Y.2.1 pc = .ok (.getfield 243, 3)) (hY : Y.1.cls = RX35) (kk : wp w d Y (pc + 3) ls (.ref x :: st) h Q) : wp w d Y pc ls (.ref a :: st) h Q := x_gA (ci := 34) (k := 126) hf hd rfl (by decide) (by rw [hY]; exact q4627) kk
theorem GX35_28 {w : eW} {d : Nat} {Y : eY} {pc : Nat} {ls : eL} {st : List Value} {h : eH} {Q : eO → eH → Prop} {a : Nat} {x : Nat} (hf : g_A 34 h a 5 = some x) (hd : decode Y.2.1 pc = .ok (.getfield 28, 3)) (hY : Y.1.cls = RX35) (kk : wp w d Y (pc + 3) ls (.ref x :: st) h Q) : wp w d Y pc ls (.ref a :: st) h Q := x_gA (ci := 34) (k := 5) hf hd rfl (by decide) (by rw [hY]; exact q4507) kk
theorem GX35_837 {w : eW} {d : Nat} {Y : eY} {pc : Nat} {ls : eL} {st : List Value} {h : eH} {Q : eO → eH → Prop} {a : Nat} {x : Int32} (hf : g_I 34 h a 57 = some x) (hd : decode Y.2.1 pc = .ok (.getfield 837, 3)) (hY : Y.1.cls = RX35) (kk : wp w d Y (pc + 3) ls (.int x :: st) h Q) : wp w d Y pc ls (.ref a :: st) h Q := x_gI (ci := 34) (k := 57) hf hd rfl (by decide) (by rw [hY]; exact q4559) kk
theorem GX35_840 {w : eW} {d : Nat} {Y : eY} {pc : Nat} {ls : eL} {st : List Value} {h : eH} {Q : eO → eH → Prop} {a : Nat} {x : Int32} (hf : g_I 34 h a 124 = some x) (hd : decode Y.2.1 pc = .ok (.getfield 840, 3)) (hY : Y.1.cls = RX35) (kk : wp w d Y (pc + 3) ls (.int x :: st) h Q) : wp w d Y pc ls (.ref a :: st) h Q := x_gI (ci := 34) (k := 124) hf hd rfl (by decide) (by rw [hY]; exact q4625) kk
theorem GX35_843 {w : eW} {d : Nat} {Y : eY} {pc : Nat} {ls : eL} {st : List Value} {h : eH} {Q : eO → eH → Prop} {a : Nat} {x : Int32} (hf : g_I 35 h a 26 = some x) (hd : decode Y.2.1 pc = .ok (.getfield 843, 3)) (hY : Y.1.cls = RX35) (kk : wp w d Y (pc + 3) ls (.int x :: st) h Q) : wp w d Y pc ls (.ref a :: st) h Q := x_gIN (ci := 35) (k := 26) hf hd rfl (by decide) (by rw [hY]; exact q4160) kk
theorem GX35_846 {w : eW} {d : Nat} {Y : eY} {pc : Nat} {ls : eL} {st : List Value} {h : eH} {Q : eO → eH → Prop} {a : Nat} {x : Nat} (hf : g_A 35 h a 27 = some x) (hd : decode Y.2.1 pc = .ok (.getfield 846, 3)) (hY : Y.1.cls = RX35) (kk : wp w d Y (pc + 3) ls (.ref x :: st) h Q) : wp w d Y pc ls (.ref a :: st) h Q := x_gAN (ci := 35) (k := 27) hf hd rfl (by decide) (by rw [hY]; exact q4162) kk
theorem SX35_840 {w : eW} {d : Nat} {Y : eY} {pc : Nat} {ls : eL} {st : List Value} {h : eH} {Q : eO → eH → Prop} {a : Nat} {h' : eH} {x : Int32} (hf : p_V 34 h a 124 (.int x) = some h') (hd : decode Y.2.1 pc = .ok (.putfield 840, 3)) (hY : Y.1.cls = RX35) (kk : wp w d Y (pc + 3) ls st h' Q) : wp w d Y pc ls (.int x :: .ref a :: st) h Q := x_pI (ci := 34) (k := 124) hf hd rfl (by decide) (by rw [hY]; exact q4625) rfl rfl kk
def fX35_findSofts_b180 (N : Nat) (k149 : Nat → Int32 → Nat → Int32 → Int32 → Int32 → Int32 → Int32 → Int32 → eH → Option (Unit × eH)) (l0 : Nat) (l1 : Int32) (l2 : Nat) (l3 : Int32) (l6 : Int32) (l7 : Int32) (l8 : Int32) (l10 : Int32) (s0 : Int32) (h : eH) : Option (Unit × eH) :=
  k149 l0 l1 l2 l3 l6 l7 l8 s0 (l10 + (1 : Int32)) h
theorem pX35_findSofts_b180 {w : eW} {d : Nat} (hd : 9 ≤ d + 1) {N : Nat} {k149 : Nat → Int32 → Nat → Int32 → Int32 → Int32 → Int32 → Int32 → Int32 → eH → Option (Unit × eH)} (hk149 : ∀ l0 l1 l2 l3 l6 l7 l8 l9 l10 h q, k149 l0 l1 l2 l3 l6 l7 l8 l9 l10 h = some q → wp w (d + 1) YX35_findSofts 149 [some (.ref l0), some (.int l1), some (.ref l2), some (.int l3), none, none, some (.int l6), some (.int l7), some (.int l8), some (.int l9), some (.int l10)] [] h (e_is (e_rn c_V q))) {l0 : Nat} {l1 : Int32} {l2 : Nat} {l3 : Int32} {l6 : Int32} {l7 : Int32} {l8 : Int32} {l10 : Int32} {s0 : Int32} {h : eH} {q} (hf : fX35_findSofts_b180 N k149 l0 l1 l2 l3 l6 l7 l8 l10 s0 h = some q) : wp w (d + 1) YX35_findSofts 180 [some (.ref l0), some (.int l1), some (.ref l2), some (.int l3), none, none, some (.int l6), some (.int l7), some (.int l8), none, some (.int l10)] [.int s0] h (e_is (e_rn c_V q)) := by
  unfold fX35_findSofts_b180 at hf
  refine w_istore dX35_findSofts_180 (by decide) (ls' := [some (.ref l0), some (.int l1), some (.ref l2), some (.int l3), none, none, some (.int l6), some (.int l7), some (.int l8), some (.int s0), some (.int l10)]) rfl ?_
  refine w_iinc dX35_findSofts_182 (v := (l10 + (1 : Int32))) rfl rfl (by decide) (ls' := [some (.ref l0), some (.int l1), some (.ref l2), some (.int l3), none, none, some (.int l6), some (.int l7), some (.int l8), some (.int s0), some (.int (l10 + (1 : Int32)))]) rfl ?_
  refine w_goto 149 dX35_findSofts_185 (by decide) ?_
  exact (hk149 _ _ _ _ _ _ _ _ _ _ _ hf).to ⟨rfl, rfl, rfl, rfl, rfl, rfl, rfl, rfl, rfl, trivial⟩
def fX35_findSofts_b175 (N : Nat) (k149 : Nat → Int32 → Nat → Int32 → Int32 → Int32 → Int32 → Int32 → Int32 → eH → Option (Unit × eH)) (l0 : Nat) (l1 : Int32) (l2 : Nat) (l3 : Int32) (l6 : Int32) (l7 : Int32) (l8 : Int32) (l10 : Int32) (h : eH) : Option (Unit × eH) :=
  fX35_findSofts_b180 N k149 l0 l1 l2 l3 l6 l7 l8 l10 (1 : Int32) h
theorem pX35_findSofts_b175 {w : eW} {d : Nat} (hd : 9 ≤ d + 1) {N : Nat} {k149 : Nat → Int32 → Nat → Int32 → Int32 → Int32 → Int32 → Int32 → Int32 → eH → Option (Unit × eH)} (hk149 : ∀ l0 l1 l2 l3 l6 l7 l8 l9 l10 h q, k149 l0 l1 l2 l3 l6 l7 l8 l9 l10 h = some q → wp w (d + 1) YX35_findSofts 149 [some (.ref l0), some (.int l1), some (.ref l2), some (.int l3), none, none, some (.int l6), some (.int l7), some (.int l8), some (.int l9), some (.int l10)] [] h (e_is (e_rn c_V q))) {l0 : Nat} {l1 : Int32} {l2 : Nat} {l3 : Int32} {l6 : Int32} {l7 : Int32} {l8 : Int32} {l10 : Int32} {h : eH} {q} (hf : fX35_findSofts_b175 N k149 l0 l1 l2 l3 l6 l7 l8 l10 h = some q) : wp w (d + 1) YX35_findSofts 175 [some (.ref l0), some (.int l1), some (.ref l2), some (.int l3), none, none, some (.int l6), some (.int l7), some (.int l8), none, some (.int l10)] [] h (e_is (e_rn c_V q)) := by
  unfold fX35_findSofts_b175 at hf
  refine w_iconst dX35_findSofts_175 (v := 1) (by decide) ?_
  refine w_goto 180 dX35_findSofts_176 (by decide) ?_
  exact (pX35_findSofts_b180 hd hk149 hf).to ⟨rfl, rfl, rfl, rfl, rfl, rfl, rfl, rfl, trivial⟩
def fX35_findSofts_b248 (N : Nat) (k16 : Nat → Int32 → Nat → Int32 → eH → Option (Unit × eH)) (l0 : Nat) (l1 : Int32) (l2 : Nat) (l3 : Int32) (h : eH) : Option (Unit × eH) :=
  k16 l0 l1 l2 (l3 + (1 : Int32)) h
theorem pX35_findSofts_b248 {w : eW} {d : Nat} (hd : 9 ≤ d + 1) {N : Nat} {k16 : Nat → Int32 → Nat → Int32 → eH → Option (Unit × eH)} (hk16 : ∀ l0 l1 l2 l3 h q, k16 l0 l1 l2 l3 h = some q → wp w (d + 1) YX35_findSofts 16 [some (.ref l0), some (.int l1), some (.ref l2), some (.int l3), none, none, none, none, none, none, none] [] h (e_is (e_rn c_V q))) {l0 : Nat} {l1 : Int32} {l2 : Nat} {l3 : Int32} {h : eH} {q} (hf : fX35_findSofts_b248 N k16 l0 l1 l2 l3 h = some q) : wp w (d + 1) YX35_findSofts 248 [some (.ref l0), some (.int l1), some (.ref l2), some (.int l3), none, none, none, none, none, none, none] [] h (e_is (e_rn c_V q)) := by
  unfold fX35_findSofts_b248 at hf
  refine w_iinc dX35_findSofts_248 (v := (l3 + (1 : Int32))) rfl rfl (by decide) (ls' := [some (.ref l0), some (.int l1), some (.ref l2), some (.int (l3 + (1 : Int32))), none, none, none, none, none, none, none]) rfl ?_
  refine w_goto 16 dX35_findSofts_251 (by decide) ?_
  exact (hk16 _ _ _ _ _ _ hf).to ⟨rfl, rfl, rfl, rfl, trivial⟩
def fX35_findSofts_b198 (N : Nat) (k16 : Nat → Int32 → Nat → Int32 → eH → Option (Unit × eH)) (l0 : Nat) (l1 : Int32) (l2 : Nat) (l3 : Int32) (l6 : Int32) (l7 : Int32) (l9 : Int32) (h : eH) : Option (Unit × eH) :=
  (k_ok 34 h l0).bind fun _ =>
  (fX35_isPart N l0 l2 (l6 + l7) h).bind fun q2 =>
  if q2.1 = 0 then
    fX35_findSofts_b248 N k16 l0 l1 l2 l3 q2.2
  else
    if ¬ l9 = 0 then
      fX35_findSofts_b248 N k16 l0 l1 l2 l3 q2.2
    else
      (g_A 34 q2.2 l0 125).bind fun a5 =>
      (g_I 34 q2.2 l0 124).bind fun x7 =>
      (q_V 100 q2.2 a5 x7 (.int l6)).bind fun h9 =>
      (g_A 34 h9 l0 126).bind fun a11 =>
      (g_I 34 h9 l0 124).bind fun x13 =>
      (q_V 100 h9 a11 x13 (.int l7)).bind fun h15 =>
      (g_I 34 h15 l0 124).bind fun x17 =>
      (p_V 34 h15 l0 124 (.int (x17 + (1 : Int32)))).bind fun h19 =>
      fX35_findSofts_b248 N k16 l0 l1 l2 l3 h19
theorem pX35_findSofts_b198 {w : eW} {d : Nat} (hd : 9 ≤ d + 1) {N : Nat} {k16 : Nat → Int32 → Nat → Int32 → eH → Option (Unit × eH)} (hk16 : ∀ l0 l1 l2 l3 h q, k16 l0 l1 l2 l3 h = some q → wp w (d + 1) YX35_findSofts 16 [some (.ref l0), some (.int l1), some (.ref l2), some (.int l3), none, none, none, none, none, none, none] [] h (e_is (e_rn c_V q))) {l0 : Nat} {l1 : Int32} {l2 : Nat} {l3 : Int32} {l6 : Int32} {l7 : Int32} {l9 : Int32} {h : eH} {q} (hf : fX35_findSofts_b198 N k16 l0 l1 l2 l3 l6 l7 l9 h = some q) : wp w (d + 1) YX35_findSofts 198 [some (.ref l0), some (.int l1), some (.ref l2), some (.int l3), none, none, some (.int l6), some (.int l7), none, some (.int l9), none] [] h (e_is (e_rn c_V q)) := by
  unfold fX35_findSofts_b198 at hf
  refine w_aload_n dX35_findSofts_198 rfl rfl ?_
  refine w_aload_n dX35_findSofts_199 rfl rfl ?_
  refine w_iload dX35_findSofts_200 rfl ?_
  refine w_iload dX35_findSofts_202 rfl ?_
  refine w_iadd dX35_findSofts_204 ?_
  obtain ⟨_, b1, hf⟩ := Option.bind_eq_some_iff.mp hf
  refine x_cnI hf (e_stV (Yc := YX35_isPart) (ci := 34) (av := [.ref l2, .int (l6 + l7)]) (st := []) dX35_findSofts_205 q5718 mX35_isPart rfl (k_ok_some b1).1 (k_ok_some b1).2) mX35_isPart.2.2.1 mX35_isPart.2.2.2.2.1 (Nat.le_of_ble_eq_true rfl) (Nat.le_of_ble_eq_true rfl) (fun q hq => pX35_isPart (by omega) hq) (fun q2 hf => ?_)
  refine w_if_eq 248 dX35_findSofts_208 (by decide) (fun c3 => ?_) (fun c3 => ?_)
  · replace hf := (if_pos (show q2.1 = 0 from c3)).symm.trans hf
    exact (pX35_findSofts_b248 hd hk16 hf).to ⟨rfl, rfl, rfl, rfl, trivial⟩
  · replace hf := (if_neg (show ¬ (q2.1 = 0) from c3)).symm.trans hf
    refine w_iload dX35_findSofts_211 rfl ?_
    refine w_if_ne 248 dX35_findSofts_213 (by decide) (fun c4 => ?_) (fun c4 => ?_)
    · replace hf := (if_pos (show ¬ l9 = 0 from c4)).symm.trans hf
      exact (pX35_findSofts_b248 hd hk16 hf).to ⟨rfl, rfl, rfl, rfl, trivial⟩
    · replace hf := (if_neg (show ¬ (¬ l9 = 0) from (fun z => z c4))).symm.trans hf
      refine w_aload_n dX35_findSofts_216 rfl rfl ?_
      obtain ⟨a5, b6, hf⟩ := Option.bind_eq_some_iff.mp hf
      refine GX35_240 b6 dX35_findSofts_217 rfl ?_
      refine w_aload_n dX35_findSofts_220 rfl rfl ?_
      obtain ⟨x7, b8, hf⟩ := Option.bind_eq_some_iff.mp hf
      refine GX35_840 b8 dX35_findSofts_221 rfl ?_
      refine w_iload dX35_findSofts_224 rfl ?_
      obtain ⟨h9, b10, hf⟩ := Option.bind_eq_some_iff.mp hf
      refine x_qI b10 dX35_findSofts_226 ?_
      refine w_aload_n dX35_findSofts_227 rfl rfl ?_
      obtain ⟨a11, b12, hf⟩ := Option.bind_eq_some_iff.mp hf
      refine GX35_243 b12 dX35_findSofts_228 rfl ?_
      refine w_aload_n dX35_findSofts_231 rfl rfl ?_
      obtain ⟨x13, b14, hf⟩ := Option.bind_eq_some_iff.mp hf
      refine GX35_840 b14 dX35_findSofts_232 rfl ?_
      refine w_iload dX35_findSofts_235 rfl ?_
      obtain ⟨h15, b16, hf⟩ := Option.bind_eq_some_iff.mp hf
      refine x_qI b16 dX35_findSofts_237 ?_
      refine w_aload_n dX35_findSofts_238 rfl rfl ?_
      refine w_dup dX35_findSofts_239 rfl ?_
      obtain ⟨x17, b18, hf⟩ := Option.bind_eq_some_iff.mp hf
      refine GX35_840 b18 dX35_findSofts_240 rfl ?_
      refine w_iconst dX35_findSofts_243 (v := 1) (by decide) ?_
      refine w_iadd dX35_findSofts_244 ?_
      obtain ⟨h19, b20, hf⟩ := Option.bind_eq_some_iff.mp hf
      refine SX35_840 b20 dX35_findSofts_245 rfl ?_
      exact (pX35_findSofts_b248 hd hk16 hf).to ⟨rfl, rfl, rfl, rfl, trivial⟩
def fX35_findSofts_b149 (N : Nat) (k16 : Nat → Int32 → Nat → Int32 → eH → Option (Unit × eH)) : Nat → Nat → Int32 → Nat → Int32 → Int32 → Int32 → Int32 → Int32 → Int32 → eH → Option (Unit × eH)
  | 0, _, _, _, _, _, _, _, _, _, _ => none
  | n + 1, l0, l1, l2, l3, l6, l7, l8, l9, l10, h =>
    (g_I 34 h l0 124).bind fun x1 =>
    if x1 ≤ l10 then
      if l7 = 0 then
        fX35_findSofts_b198 N k16 l0 l1 l2 l3 l6 l7 l9 h
      else
        if l8 = 0 then
          fX35_findSofts_b248 N k16 l0 l1 l2 l3 h
        else
          fX35_findSofts_b198 N k16 l0 l1 l2 l3 l6 l7 l9 h
    else
      if ¬ l9 = 0 then
        fX35_findSofts_b175 N (fX35_findSofts_b149 N k16 n) l0 l1 l2 l3 l6 l7 l8 l10 h
      else
        (g_A 34 h l0 125).bind fun a7 =>
        (r_I 100 h a7 l10).bind fun x9 =>
        if ¬ x9 = l6 then
          fX35_findSofts_b180 N (fX35_findSofts_b149 N k16 n) l0 l1 l2 l3 l6 l7 l8 l10 (0 : Int32) h
        else
          fX35_findSofts_b175 N (fX35_findSofts_b149 N k16 n) l0 l1 l2 l3 l6 l7 l8 l10 h
theorem pX35_findSofts_b149 {w : eW} {d : Nat} (hd : 9 ≤ d + 1) {N : Nat} {k16 : Nat → Int32 → Nat → Int32 → eH → Option (Unit × eH)} (hk16 : ∀ l0 l1 l2 l3 h q, k16 l0 l1 l2 l3 h = some q → wp w (d + 1) YX35_findSofts 16 [some (.ref l0), some (.int l1), some (.ref l2), some (.int l3), none, none, none, none, none, none, none] [] h (e_is (e_rn c_V q))) : ∀ (n : Nat) l0 l1 l2 l3 l6 l7 l8 l9 l10 h q, fX35_findSofts_b149 N k16 n l0 l1 l2 l3 l6 l7 l8 l9 l10 h = some q → wp w (d + 1) YX35_findSofts 149 [some (.ref l0), some (.int l1), some (.ref l2), some (.int l3), none, none, some (.int l6), some (.int l7), some (.int l8), some (.int l9), some (.int l10)] [] h (e_is (e_rn c_V q)) := by
  intro n
  induction n with
  | zero => intro l0 l1 l2 l3 l6 l7 l8 l9 l10 h q hf; simp [fX35_findSofts_b149] at hf
  | succ n ih =>
    intro l0 l1 l2 l3 l6 l7 l8 l9 l10 h q hf
    rw [fX35_findSofts_b149] at hf
    refine w_iload dX35_findSofts_149 rfl ?_
    refine w_aload_n dX35_findSofts_151 rfl rfl ?_
    obtain ⟨x1, b2, hf⟩ := Option.bind_eq_some_iff.mp hf
    refine GX35_840 b2 dX35_findSofts_152 rfl ?_
    refine w_icmp_ge 188 dX35_findSofts_155 (by decide) (fun c3 => ?_) (fun c3 => ?_)
    · replace hf := (if_pos (show x1 ≤ l10 from c3)).symm.trans hf
      refine w_iload dX35_findSofts_188 rfl ?_
      refine w_if_eq 198 dX35_findSofts_190 (by decide) (fun c4 => ?_) (fun c4 => ?_)
      · replace hf := (if_pos (show l7 = 0 from c4)).symm.trans hf
        exact (pX35_findSofts_b198 hd hk16 hf).to ⟨rfl, rfl, rfl, rfl, rfl, rfl, rfl, trivial⟩
      · replace hf := (if_neg (show ¬ (l7 = 0) from c4)).symm.trans hf
        refine w_iload dX35_findSofts_193 rfl ?_
        refine w_if_eq 248 dX35_findSofts_195 (by decide) (fun c5 => ?_) (fun c5 => ?_)
        · replace hf := (if_pos (show l8 = 0 from c5)).symm.trans hf
          exact (pX35_findSofts_b248 hd hk16 hf).to ⟨rfl, rfl, rfl, rfl, trivial⟩
        · replace hf := (if_neg (show ¬ (l8 = 0) from c5)).symm.trans hf
          exact (pX35_findSofts_b198 hd hk16 hf).to ⟨rfl, rfl, rfl, rfl, rfl, rfl, rfl, trivial⟩
    · replace hf := (if_neg (show ¬ (x1 ≤ l10) from c3)).symm.trans hf
      refine w_iload dX35_findSofts_158 rfl ?_
      refine w_if_ne 175 dX35_findSofts_160 (by decide) (fun c6 => ?_) (fun c6 => ?_)
      · replace hf := (if_pos (show ¬ l9 = 0 from c6)).symm.trans hf
        exact (pX35_findSofts_b175 hd ih hf).to ⟨rfl, rfl, rfl, rfl, rfl, rfl, rfl, rfl, trivial⟩
      · replace hf := (if_neg (show ¬ (¬ l9 = 0) from (fun z => z c6))).symm.trans hf
        refine w_aload_n dX35_findSofts_163 rfl rfl ?_
        obtain ⟨a7, b8, hf⟩ := Option.bind_eq_some_iff.mp hf
        refine GX35_240 b8 dX35_findSofts_164 rfl ?_
        refine w_iload dX35_findSofts_167 rfl ?_
        obtain ⟨x9, b10, hf⟩ := Option.bind_eq_some_iff.mp hf
        refine x_rI b10 dX35_findSofts_169 ?_
        refine w_iload dX35_findSofts_170 rfl ?_
        refine w_icmp_ne 179 dX35_findSofts_172 (by decide) (fun c11 => ?_) (fun c11 => ?_)
        · replace hf := (if_pos (show ¬ x9 = l6 from c11)).symm.trans hf
          refine w_iconst dX35_findSofts_179 (v := 0) (by decide) ?_
          exact (pX35_findSofts_b180 hd ih hf).to ⟨rfl, rfl, rfl, rfl, rfl, rfl, rfl, rfl, trivial⟩
        · replace hf := (if_neg (show ¬ (¬ x9 = l6) from (fun z => z c11))).symm.trans hf
          exact (pX35_findSofts_b175 hd ih hf).to ⟨rfl, rfl, rfl, rfl, rfl, rfl, rfl, rfl, trivial⟩
def fX35_findSofts_b141 (N : Nat) (k16 : Nat → Int32 → Nat → Int32 → eH → Option (Unit × eH)) (l0 : Nat) (l1 : Int32) (l2 : Nat) (l3 : Int32) (l6 : Int32) (l7 : Int32) (s0 : Int32) (h : eH) : Option (Unit × eH) :=
  fX35_findSofts_b149 N k16 N l0 l1 l2 l3 l6 l7 s0 (0 : Int32) (0 : Int32) h
theorem pX35_findSofts_b141 {w : eW} {d : Nat} (hd : 9 ≤ d + 1) {N : Nat} {k16 : Nat → Int32 → Nat → Int32 → eH → Option (Unit × eH)} (hk16 : ∀ l0 l1 l2 l3 h q, k16 l0 l1 l2 l3 h = some q → wp w (d + 1) YX35_findSofts 16 [some (.ref l0), some (.int l1), some (.ref l2), some (.int l3), none, none, none, none, none, none, none] [] h (e_is (e_rn c_V q))) {l0 : Nat} {l1 : Int32} {l2 : Nat} {l3 : Int32} {l6 : Int32} {l7 : Int32} {s0 : Int32} {h : eH} {q} (hf : fX35_findSofts_b141 N k16 l0 l1 l2 l3 l6 l7 s0 h = some q) : wp w (d + 1) YX35_findSofts 141 [some (.ref l0), some (.int l1), some (.ref l2), some (.int l3), none, none, some (.int l6), some (.int l7), none, none, none] [.int s0] h (e_is (e_rn c_V q)) := by
  unfold fX35_findSofts_b141 at hf
  refine w_istore dX35_findSofts_141 (by decide) (ls' := [some (.ref l0), some (.int l1), some (.ref l2), some (.int l3), none, none, some (.int l6), some (.int l7), some (.int s0), none, none]) rfl ?_
  refine w_iconst dX35_findSofts_143 (v := 0) (by decide) ?_
  refine w_istore dX35_findSofts_144 (by decide) (ls' := [some (.ref l0), some (.int l1), some (.ref l2), some (.int l3), none, none, some (.int l6), some (.int l7), some (.int s0), some (.int (0 : Int32)), none]) rfl ?_
  refine w_iconst dX35_findSofts_146 (v := 0) (by decide) ?_
  refine w_istore dX35_findSofts_147 (by decide) (ls' := [some (.ref l0), some (.int l1), some (.ref l2), some (.int l3), none, none, some (.int l6), some (.int l7), some (.int s0), some (.int (0 : Int32)), some (.int (0 : Int32))]) rfl ?_
  exact (pX35_findSofts_b149 hd hk16 N _ _ _ _ _ _ _ _ _ _ _ hf).to ⟨rfl, rfl, rfl, rfl, rfl, rfl, rfl, rfl, rfl, trivial⟩
def fX35_findSofts_b140 (N : Nat) (k16 : Nat → Int32 → Nat → Int32 → eH → Option (Unit × eH)) (l0 : Nat) (l1 : Int32) (l2 : Nat) (l3 : Int32) (l6 : Int32) (l7 : Int32) (h : eH) : Option (Unit × eH) :=
  fX35_findSofts_b141 N k16 l0 l1 l2 l3 l6 l7 (0 : Int32) h
theorem pX35_findSofts_b140 {w : eW} {d : Nat} (hd : 9 ≤ d + 1) {N : Nat} {k16 : Nat → Int32 → Nat → Int32 → eH → Option (Unit × eH)} (hk16 : ∀ l0 l1 l2 l3 h q, k16 l0 l1 l2 l3 h = some q → wp w (d + 1) YX35_findSofts 16 [some (.ref l0), some (.int l1), some (.ref l2), some (.int l3), none, none, none, none, none, none, none] [] h (e_is (e_rn c_V q))) {l0 : Nat} {l1 : Int32} {l2 : Nat} {l3 : Int32} {l6 : Int32} {l7 : Int32} {h : eH} {q} (hf : fX35_findSofts_b140 N k16 l0 l1 l2 l3 l6 l7 h = some q) : wp w (d + 1) YX35_findSofts 140 [some (.ref l0), some (.int l1), some (.ref l2), some (.int l3), none, none, some (.int l6), some (.int l7), none, none, none] [] h (e_is (e_rn c_V q)) := by
  unfold fX35_findSofts_b140 at hf
  refine w_iconst dX35_findSofts_140 (v := 0) (by decide) ?_
  exact (pX35_findSofts_b141 hd hk16 hf).to ⟨rfl, rfl, rfl, rfl, rfl, rfl, trivial⟩
def fX35_findSofts_b16 (N : Nat) : Nat → Nat → Int32 → Nat → Int32 → eH → Option (Unit × eH)
  | 0, _, _, _, _, _ => none
  | n + 1, l0, l1, l2, l3, h =>
    (g_A 34 h l0 5).bind fun a1 =>
    (g_I 35 h a1 26).bind fun x3 =>
    if x3 ≤ l3 then
      some ((), h)
    else
      (g_A 34 h l0 5).bind fun a6 =>
      (g_A 35 h a6 27).bind fun a8 =>
      (r_I 100 h a8 l3).bind fun x10 =>
      (g_A 34 h l0 59).bind fun a12 =>
      (g_A 34 h l0 50).bind fun a14 =>
      (g_I 34 h l0 57).bind fun x16 =>
      (r_I 100 h a14 x16).bind fun x18 =>
      (k_ok 42 h l2).bind fun _ =>
      (fX40_set N l2 a12 (0 : Int32) x10 x18 h).bind fun q21 =>
      (g_I 42 q21.2 l2 3).bind fun x22 =>
      if q21.1 = 0 then
        fX35_findSofts_b248 N (fX35_findSofts_b16 N n) l0 l1 l2 l3 q21.2
      else
        (k_ok 34 q21.2 l0).bind fun _ =>
        (fX35_isPart N l0 l2 (0 : Int32) q21.2).bind fun q26 =>
        if q26.1 = 0 then
          fX35_findSofts_b248 N (fX35_findSofts_b16 N n) l0 l1 l2 l3 q26.2
        else
          (g_A 34 q26.2 l0 59).bind fun a28 =>
          (g_A 34 q26.2 l0 50).bind fun a30 =>
          (g_I 34 q26.2 l0 57).bind fun x32 =>
          (r_I 100 q26.2 a30 x32).bind fun x34 =>
          (k_ok 42 q26.2 l2).bind fun _ =>
          (fX40_set N l2 a28 x10 l1 x34 q26.2).bind fun q37 =>
          if q37.1 = 0 then
            fX35_findSofts_b248 N (fX35_findSofts_b16 N n) l0 l1 l2 l3 q37.2
          else
            (g_I 34 q37.2 l0 62).bind fun x39 =>
            (g_I 42 q37.2 l2 3).bind fun x41 =>
            if ¬ ((x39 - x22) - x41) = (1 : Int32) then
              fX35_findSofts_b140 N (fX35_findSofts_b16 N n) l0 l1 l2 l3 x22 ((x39 - x22) - x41) q37.2
            else
              (g_A 34 q37.2 l0 60).bind fun a44 =>
              (r_I 100 q37.2 a44 x22).bind fun x46 =>
              if x46 ≤ (255 : Int32) then
                fX35_findSofts_b140 N (fX35_findSofts_b16 N n) l0 l1 l2 l3 x22 ((x39 - x22) - x41) q37.2
              else
                fX35_findSofts_b141 N (fX35_findSofts_b16 N n) l0 l1 l2 l3 x22 ((x39 - x22) - x41) (1 : Int32) q37.2
theorem pX35_findSofts_b16 {w : eW} {d : Nat} (hd : 9 ≤ d + 1) {N : Nat} : ∀ (n : Nat) l0 l1 l2 l3 h q, fX35_findSofts_b16 N n l0 l1 l2 l3 h = some q → wp w (d + 1) YX35_findSofts 16 [some (.ref l0), some (.int l1), some (.ref l2), some (.int l3), none, none, none, none, none, none, none] [] h (e_is (e_rn c_V q)) := by
  intro n
  induction n with
  | zero => intro l0 l1 l2 l3 h q hf; simp [fX35_findSofts_b16] at hf
  | succ n ih =>
    intro l0 l1 l2 l3 h q hf
    rw [fX35_findSofts_b16] at hf
    refine w_iload_n dX35_findSofts_16 rfl rfl ?_
    refine w_aload_n dX35_findSofts_17 rfl rfl ?_
    obtain ⟨a1, b2, hf⟩ := Option.bind_eq_some_iff.mp hf
    refine GX35_28 b2 dX35_findSofts_18 rfl ?_
    obtain ⟨x3, b4, hf⟩ := Option.bind_eq_some_iff.mp hf
    refine GX35_843 b4 dX35_findSofts_21 rfl ?_
    refine w_icmp_ge 254 dX35_findSofts_24 (by decide) (fun c5 => ?_) (fun c5 => ?_)
    · replace hf := (if_pos (show x3 ≤ l3 from c5)).symm.trans hf
      cases hf
      exact w_vret dX35_findSofts_254 rfl rfl
    · replace hf := (if_neg (show ¬ (x3 ≤ l3) from c5)).symm.trans hf
      refine w_aload_n dX35_findSofts_27 rfl rfl ?_
      obtain ⟨a6, b7, hf⟩ := Option.bind_eq_some_iff.mp hf
      refine GX35_28 b7 dX35_findSofts_28 rfl ?_
      obtain ⟨a8, b9, hf⟩ := Option.bind_eq_some_iff.mp hf
      refine GX35_846 b9 dX35_findSofts_31 rfl ?_
      refine w_iload_n dX35_findSofts_34 rfl rfl ?_
      obtain ⟨x10, b11, hf⟩ := Option.bind_eq_some_iff.mp hf
      refine x_rI b11 dX35_findSofts_35 ?_
      refine w_istore dX35_findSofts_36 (by decide) (ls' := [some (.ref l0), some (.int l1), some (.ref l2), some (.int l3), some (.int x10), none, none, none, none, none, none]) rfl ?_
      refine w_aload_n dX35_findSofts_38 rfl rfl ?_
      refine w_aload_n dX35_findSofts_39 rfl rfl ?_
      obtain ⟨a12, b13, hf⟩ := Option.bind_eq_some_iff.mp hf
      refine GX35_139 b13 dX35_findSofts_40 rfl ?_
      refine w_iconst dX35_findSofts_43 (v := 0) (by decide) ?_
      refine w_iload dX35_findSofts_44 rfl ?_
      refine w_aload_n dX35_findSofts_46 rfl rfl ?_
      obtain ⟨a14, b15, hf⟩ := Option.bind_eq_some_iff.mp hf
      refine GX35_124 b15 dX35_findSofts_47 rfl ?_
      refine w_aload_n dX35_findSofts_50 rfl rfl ?_
      obtain ⟨x16, b17, hf⟩ := Option.bind_eq_some_iff.mp hf
      refine GX35_837 b17 dX35_findSofts_51 rfl ?_
      obtain ⟨x18, b19, hf⟩ := Option.bind_eq_some_iff.mp hf
      refine x_rI b19 dX35_findSofts_54 ?_
      obtain ⟨_, b20, hf⟩ := Option.bind_eq_some_iff.mp hf
      refine x_cnI hf (e_stV (Yc := YX40_set) (ci := 42) (av := [.ref a12, .int (0 : Int32), .int x10, .int x18]) (st := []) dX35_findSofts_55 q5679 mX40_set rfl (k_ok_some b20).1 (k_ok_some b20).2) mX40_set.2.2.1 mX40_set.2.2.2.2.1 (Nat.le_of_ble_eq_true rfl) (Nat.le_of_ble_eq_true rfl) (fun q hq => pX40_set (by omega) hq) (fun q21 hf => ?_)
      refine w_istore dX35_findSofts_58 (by decide) (ls' := [some (.ref l0), some (.int l1), some (.ref l2), some (.int l3), some (.int x10), some (.int q21.1), none, none, none, none, none]) rfl ?_
      refine w_aload_n dX35_findSofts_60 rfl rfl ?_
      obtain ⟨x22, b23, hf⟩ := Option.bind_eq_some_iff.mp hf
      refine GX35_825 b23 dX35_findSofts_61 rfl ?_
      refine w_istore dX35_findSofts_64 (by decide) (ls' := [some (.ref l0), some (.int l1), some (.ref l2), some (.int l3), some (.int x10), some (.int q21.1), some (.int x22), none, none, none, none]) rfl ?_
      refine w_iload dX35_findSofts_66 rfl ?_
      refine w_if_eq 248 dX35_findSofts_68 (by decide) (fun c24 => ?_) (fun c24 => ?_)
      · replace hf := (if_pos (show q21.1 = 0 from c24)).symm.trans hf
        exact (pX35_findSofts_b248 hd ih hf).to ⟨rfl, rfl, rfl, rfl, trivial⟩
      · replace hf := (if_neg (show ¬ (q21.1 = 0) from c24)).symm.trans hf
        refine w_aload_n dX35_findSofts_71 rfl rfl ?_
        refine w_aload_n dX35_findSofts_72 rfl rfl ?_
        refine w_iconst dX35_findSofts_73 (v := 0) (by decide) ?_
        obtain ⟨_, b25, hf⟩ := Option.bind_eq_some_iff.mp hf
        refine x_cnI hf (e_stV (Yc := YX35_isPart) (ci := 34) (av := [.ref l2, .int (0 : Int32)]) (st := []) dX35_findSofts_74 q5718 mX35_isPart rfl (k_ok_some b25).1 (k_ok_some b25).2) mX35_isPart.2.2.1 mX35_isPart.2.2.2.2.1 (Nat.le_of_ble_eq_true rfl) (Nat.le_of_ble_eq_true rfl) (fun q hq => pX35_isPart (by omega) hq) (fun q26 hf => ?_)
        refine w_if_eq 248 dX35_findSofts_77 (by decide) (fun c27 => ?_) (fun c27 => ?_)
        · replace hf := (if_pos (show q26.1 = 0 from c27)).symm.trans hf
          exact (pX35_findSofts_b248 hd ih hf).to ⟨rfl, rfl, rfl, rfl, trivial⟩
        · replace hf := (if_neg (show ¬ (q26.1 = 0) from c27)).symm.trans hf
          refine w_aload_n dX35_findSofts_80 rfl rfl ?_
          refine w_aload_n dX35_findSofts_81 rfl rfl ?_
          obtain ⟨a28, b29, hf⟩ := Option.bind_eq_some_iff.mp hf
          refine GX35_139 b29 dX35_findSofts_82 rfl ?_
          refine w_iload dX35_findSofts_85 rfl ?_
          refine w_iload_n dX35_findSofts_87 rfl rfl ?_
          refine w_aload_n dX35_findSofts_88 rfl rfl ?_
          obtain ⟨a30, b31, hf⟩ := Option.bind_eq_some_iff.mp hf
          refine GX35_124 b31 dX35_findSofts_89 rfl ?_
          refine w_aload_n dX35_findSofts_92 rfl rfl ?_
          obtain ⟨x32, b33, hf⟩ := Option.bind_eq_some_iff.mp hf
          refine GX35_837 b33 dX35_findSofts_93 rfl ?_
          obtain ⟨x34, b35, hf⟩ := Option.bind_eq_some_iff.mp hf
          refine x_rI b35 dX35_findSofts_96 ?_
          obtain ⟨_, b36, hf⟩ := Option.bind_eq_some_iff.mp hf
          refine x_cnI hf (e_stV (Yc := YX40_set) (ci := 42) (av := [.ref a28, .int x10, .int l1, .int x34]) (st := []) dX35_findSofts_97 q5679 mX40_set rfl (k_ok_some b36).1 (k_ok_some b36).2) mX40_set.2.2.1 mX40_set.2.2.2.2.1 (Nat.le_of_ble_eq_true rfl) (Nat.le_of_ble_eq_true rfl) (fun q hq => pX40_set (by omega) hq) (fun q37 hf => ?_)
          refine w_if_eq 248 dX35_findSofts_100 (by decide) (fun c38 => ?_) (fun c38 => ?_)
          · replace hf := (if_pos (show q37.1 = 0 from c38)).symm.trans hf
            exact (pX35_findSofts_b248 hd ih hf).to ⟨rfl, rfl, rfl, rfl, trivial⟩
          · replace hf := (if_neg (show ¬ (q37.1 = 0) from c38)).symm.trans hf
            refine w_aload_n dX35_findSofts_103 rfl rfl ?_
            obtain ⟨x39, b40, hf⟩ := Option.bind_eq_some_iff.mp hf
            refine GX35_828 b40 dX35_findSofts_104 rfl ?_
            refine w_iload dX35_findSofts_107 rfl ?_
            refine w_isub dX35_findSofts_109 ?_
            refine w_aload_n dX35_findSofts_110 rfl rfl ?_
            obtain ⟨x41, b42, hf⟩ := Option.bind_eq_some_iff.mp hf
            refine GX35_825 b42 dX35_findSofts_111 rfl ?_
            refine w_isub dX35_findSofts_114 ?_
            refine w_istore dX35_findSofts_115 (by decide) (ls' := [some (.ref l0), some (.int l1), some (.ref l2), some (.int l3), some (.int x10), some (.int q21.1), some (.int x22), some (.int ((x39 - x22) - x41)), none, none, none]) rfl ?_
            refine w_iload dX35_findSofts_117 rfl ?_
            refine w_iconst dX35_findSofts_119 (v := 1) (by decide) ?_
            refine w_icmp_ne 140 dX35_findSofts_120 (by decide) (fun c43 => ?_) (fun c43 => ?_)
            · replace hf := (if_pos (show ¬ ((x39 - x22) - x41) = (1 : Int32) from c43)).symm.trans hf
              exact (pX35_findSofts_b140 hd ih hf).to ⟨rfl, rfl, rfl, rfl, rfl, rfl, trivial⟩
            · replace hf := (if_neg (show ¬ (¬ ((x39 - x22) - x41) = (1 : Int32)) from (fun z => z c43))).symm.trans hf
              refine w_aload_n dX35_findSofts_123 rfl rfl ?_
              obtain ⟨a44, b45, hf⟩ := Option.bind_eq_some_iff.mp hf
              refine GX35_142 b45 dX35_findSofts_124 rfl ?_
              refine w_iload dX35_findSofts_127 rfl ?_
              obtain ⟨x46, b47, hf⟩ := Option.bind_eq_some_iff.mp hf
              refine x_rI b47 dX35_findSofts_129 ?_
              refine w_sipush dX35_findSofts_130 (v := 255) (by decide) ?_
              refine w_icmp_le 140 dX35_findSofts_133 (by decide) (fun c48 => ?_) (fun c48 => ?_)
              · replace hf := (if_pos (show x46 ≤ (255 : Int32) from c48)).symm.trans hf
                exact (pX35_findSofts_b140 hd ih hf).to ⟨rfl, rfl, rfl, rfl, rfl, rfl, trivial⟩
              · replace hf := (if_neg (show ¬ (x46 ≤ (255 : Int32)) from c48)).symm.trans hf
                refine w_iconst dX35_findSofts_136 (v := 1) (by decide) ?_
                refine w_goto 141 dX35_findSofts_137 (by decide) ?_
                exact (pX35_findSofts_b141 hd ih hf).to ⟨rfl, rfl, rfl, rfl, rfl, rfl, trivial⟩
def fX35_findSofts (N : Nat) (this : Nat) (p0 : Int32) (h : eH) : Option (Unit × eH) :=
  (g_I 34 h this 57).bind fun x1 =>
  (k_ok 34 h this).bind fun _ =>
  (fX35_metrics this x1 h).bind fun q4 =>
  (p_V 34 q4.2 this 124 (.int (0 : Int32))).bind fun h5 =>
  fX35_findSofts_b16 N N this p0 q4.1 (0 : Int32) h5
theorem pX35_findSofts {w : eW} {d : Nat} (hd : 9 ≤ d) {N : Nat} {this : Nat} {p0 : Int32} {h : eH} {q} (hf : fX35_findSofts N this p0 h = some q) : wm w d YX35_findSofts [.ref this, .int p0] h (e_is (e_rn c_V q)) := by
  obtain ⟨d, rfl⟩ : ∃ e, d = e + 1 := ⟨d - 1, by omega⟩
  show wp w (d + 1) YX35_findSofts 0 [some (.ref this), some (.int p0), none, none, none, none, none, none, none, none, none] [] h _
  unfold fX35_findSofts at hf
  refine w_aload_n dX35_findSofts_0 rfl rfl ?_
  refine w_aload_n dX35_findSofts_1 rfl rfl ?_
  obtain ⟨x1, b2, hf⟩ := Option.bind_eq_some_iff.mp hf
  refine GX35_837 b2 dX35_findSofts_2 rfl ?_
  obtain ⟨_, b3, hf⟩ := Option.bind_eq_some_iff.mp hf
  refine x_cnA hf (e_stV (Yc := YX35_metrics) (ci := 34) (av := [.int x1]) (st := []) dX35_findSofts_5 q5667 mX35_metrics rfl (k_ok_some b3).1 (k_ok_some b3).2) mX35_metrics.2.2.1 mX35_metrics.2.2.2.2.1 (Nat.le_of_ble_eq_true rfl) (Nat.le_of_ble_eq_true rfl) (fun q hq => pX35_metrics (by omega) hq) (fun q4 hf => ?_)
  refine w_astore_n dX35_findSofts_8 rfl (by decide) (ls' := [some (.ref this), some (.int p0), some (.ref q4.1), none, none, none, none, none, none, none, none]) rfl ?_
  refine w_aload_n dX35_findSofts_9 rfl rfl ?_
  refine w_iconst dX35_findSofts_10 (v := 0) (by decide) ?_
  obtain ⟨h5, b6, hf⟩ := Option.bind_eq_some_iff.mp hf
  refine SX35_840 b6 dX35_findSofts_11 rfl ?_
  refine w_iconst dX35_findSofts_14 (v := 0) (by decide) ?_
  refine w_istore_n dX35_findSofts_15 rfl (by decide) (ls' := [some (.ref this), some (.int p0), some (.ref q4.1), some (.int (0 : Int32)), none, none, none, none, none, none, none]) rfl ?_
  exact (pX35_findSofts_b16 hd N _ _ _ _ _ _ hf).to ⟨rfl, rfl, rfl, rfl, trivial⟩
abbrev cX40_of : ByteArray := prog_41_method_28_code
def yX40_of : MethodName := ⟨RX40, "of", "(III)I"⟩
def YX40_of : eY := (yX40_of, cX40_of, 6, (Option.some FieldType.int), [])
theorem mX40_of : e_mv YX40_of RX40 3 := ⟨q5723, q5724, q5725, by decide, by decide +kernel, (e_sig (by decide +kernel))⟩
theorem dX40_of_0 : decode cX40_of 0 = .ok (.iload_n 1, 1) := dc_27 (by decide +kernel)
theorem dX40_of_1 : decode cX40_of 1 = .ok (.aload_n 0, 1) := dc_42 (by decide +kernel)
theorem dX40_of_2 : decode cX40_of 2 = .ok (.getfield 9, 3) := dc_180 (a := 0) (b := 9) (n := 9) (by decide +kernel)
theorem dX40_of_5 : decode cX40_of 5 = .ok (.iconst 2, 1) := dc_5 (by decide +kernel)
theorem dX40_of_6 : decode cX40_of 6 = .ok (.invokestatic 22, 3) := dc_184 (a := 0) (b := 22) (n := 22) (by decide +kernel)
theorem dX40_of_9 : decode cX40_of 9 = .ok (.isub, 1) := dc_100 (by decide +kernel)
theorem dX40_of_10 : decode cX40_of 10 = .ok (.istore 4, 2) := dc_54 (a := 4) (by decide +kernel)
theorem dX40_of_12 : decode cX40_of 12 = .ok (.iload_n 2, 1) := dc_28 (by decide +kernel)
theorem dX40_of_13 : decode cX40_of 13 = .ok (.ifCond .ne 17, 3) := dc_154 (a := 0) (b := 17) (v := 17) (by decide +kernel)
theorem dX40_of_16 : decode cX40_of 16 = .ok (.aload_n 0, 1) := dc_42 (by decide +kernel)
theorem dX40_of_17 : decode cX40_of 17 = .ok (.getfield 9, 3) := dc_180 (a := 0) (b := 9) (n := 9) (by decide +kernel)
theorem dX40_of_20 : decode cX40_of 20 = .ok (.iconst 1, 1) := dc_4 (by decide +kernel)
theorem dX40_of_21 : decode cX40_of 21 = .ok (.iload 4, 2) := dc_21 (a := 4) (by decide +kernel)
theorem dX40_of_23 : decode cX40_of 23 = .ok (.iconst 0, 1) := dc_3 (by decide +kernel)
theorem dX40_of_24 : decode cX40_of 24 = .ok (.invokestatic 32, 3) := dc_184 (a := 0) (b := 32) (n := 32) (by decide +kernel)
theorem dX40_of_27 : decode cX40_of 27 = .ok (.goto 39, 3) := dc_167 (a := 0) (b := 39) (v := 39) (by decide +kernel)
theorem dX40_of_30 : decode cX40_of 30 = .ok (.iload_n 2, 1) := dc_28 (by decide +kernel)
theorem dX40_of_31 : decode cX40_of 31 = .ok (.iconst 1, 1) := dc_4 (by decide +kernel)
theorem dX40_of_32 : decode cX40_of 32 = .ok (.if_icmp .ne 20, 3) := dc_160 (a := 0) (b := 20) (v := 20) (by decide +kernel)
theorem dX40_of_35 : decode cX40_of 35 = .ok (.aload_n 0, 1) := dc_42 (by decide +kernel)
theorem dX40_of_36 : decode cX40_of 36 = .ok (.getfield 9, 3) := dc_180 (a := 0) (b := 9) (n := 9) (by decide +kernel)
theorem dX40_of_39 : decode cX40_of 39 = .ok (.iconst 1, 1) := dc_4 (by decide +kernel)
theorem dX40_of_40 : decode cX40_of 40 = .ok (.iload 4, 2) := dc_21 (a := 4) (by decide +kernel)
theorem dX40_of_42 : decode cX40_of 42 = .ok (.iconst 1, 1) := dc_4 (by decide +kernel)
theorem dX40_of_43 : decode cX40_of 43 = .ok (.invokestatic 32, 3) := dc_184 (a := 0) (b := 32) (n := 32) (by decide +kernel)
theorem dX40_of_46 : decode cX40_of 46 = .ok (.bipush 16, 2) := dc_16 (a := 16) (v := 16) (by decide +kernel)
theorem dX40_of_48 : decode cX40_of 48 = .ok (.idiv, 1) := dc_108 (by decide +kernel)
theorem dX40_of_49 : decode cX40_of 49 = .ok (.goto 17, 3) := dc_167 (a := 0) (b := 17) (v := 17) (by decide +kernel)
theorem dX40_of_52 : decode cX40_of 52 = .ok (.aload_n 0, 1) := dc_42 (by decide +kernel)
theorem dX40_of_53 : decode cX40_of 53 = .ok (.getfield 9, 3) := dc_180 (a := 0) (b := 9) (n := 9) (by decide +kernel)
theorem dX40_of_56 : decode cX40_of 56 = .ok (.iconst 1, 1) := dc_4 (by decide +kernel)
theorem dX40_of_57 : decode cX40_of 57 = .ok (.iload 4, 2) := dc_21 (a := 4) (by decide +kernel)
theorem dX40_of_59 : decode cX40_of 59 = .ok (.iconst 1, 1) := dc_4 (by decide +kernel)
theorem dX40_of_60 : decode cX40_of 60 = .ok (.invokestatic 32, 3) := dc_184 (a := 0) (b := 32) (n := 32) (by decide +kernel)
theorem dX40_of_63 : decode cX40_of 63 = .ok (.bipush 16, 2) := dc_16 (a := 16) (v := 16) (by decide +kernel)
theorem dX40_of_65 : decode cX40_of 65 = .ok (.irem, 1) := dc_112 (by decide +kernel)
theorem dX40_of_66 : decode cX40_of 66 = .ok (.istore 5, 2) := dc_54 (a := 5) (by decide +kernel)
theorem dX40_of_68 : decode cX40_of 68 = .ok (.aload_n 0, 1) := dc_42 (by decide +kernel)
theorem dX40_of_69 : decode cX40_of 69 = .ok (.iconst 2, 1) := dc_5 (by decide +kernel)
theorem dX40_of_70 : decode cX40_of 70 = .ok (.iload_n 2, 1) := dc_28 (by decide +kernel)
theorem dX40_of_71 : decode cX40_of 71 = .ok (.iadd, 1) := dc_96 (by decide +kernel)
theorem dX40_of_72 : decode cX40_of 72 = .ok (.iload 5, 2) := dc_21 (a := 5) (by decide +kernel)
theorem dX40_of_74 : decode cX40_of 74 = .ok (.iload_n 3, 1) := dc_29 (by decide +kernel)
theorem dX40_of_75 : decode cX40_of 75 = .ok (.invokevirtual 94, 3) := dc_182 (a := 0) (b := 94) (n := 94) (by decide +kernel)
theorem dX40_of_78 : decode cX40_of 78 = .ok (.ireturn, 1) := dc_172 (by decide +kernel)
def fX40_of_b66 (N : Nat) (l0 : Nat) (l2 : Int32) (l3 : Int32) (s0 : Int32) (h : eH) : Option (Int32 × eH) :=
  (k_ok 42 h l0).bind fun _ =>
  (fX40_scaled N l0 ((2 : Int32) + l2) s0 l3 h).bind fun q2 =>
  some (q2.1, q2.2)
theorem pX40_of_b66 {w : eW} {d : Nat} (hd : 5 ≤ d + 1) {N : Nat} {l0 : Nat} {l2 : Int32} {l3 : Int32} {s0 : Int32} {h : eH} {q} (hf : fX40_of_b66 N l0 l2 l3 s0 h = some q) : wp w (d + 1) YX40_of 66 [some (.ref l0), none, some (.int l2), some (.int l3), none, none] [.int s0] h (e_is (e_rn c_I q)) := by
  unfold fX40_of_b66 at hf
  refine w_istore dX40_of_66 (by decide) (ls' := [some (.ref l0), none, some (.int l2), some (.int l3), none, some (.int s0)]) rfl ?_
  refine w_aload_n dX40_of_68 rfl rfl ?_
  refine w_iconst dX40_of_69 (v := 2) (by decide) ?_
  refine w_iload_n dX40_of_70 rfl rfl ?_
  refine w_iadd dX40_of_71 ?_
  refine w_iload dX40_of_72 rfl ?_
  refine w_iload_n dX40_of_74 rfl rfl ?_
  obtain ⟨_, b1, hf⟩ := Option.bind_eq_some_iff.mp hf
  refine x_cnI hf (e_stV (Yc := YX40_scaled) (ci := 42) (av := [.int ((2 : Int32) + l2), .int s0, .int l3]) (st := []) dX40_of_75 q5395 mX40_scaled rfl (k_ok_some b1).1 (k_ok_some b1).2) mX40_scaled.2.2.1 mX40_scaled.2.2.2.2.1 (Nat.le_of_ble_eq_true rfl) (Nat.le_of_ble_eq_true rfl) (fun q hq => pX40_scaled (by omega) hq) (fun q2 hf => ?_)
  cases hf
  exact w_iret dX40_of_78 rfl rfl rfl
def fX40_of (N : Nat) (this : Nat) (p0 : Int32) (p1 : Int32) (p2 : Int32) (h : eH) : Option (Int32 × eH) :=
  (g_A 42 h this 0).bind fun a1 =>
  (fX40_half a1 (2 : Int32) h).bind fun q3 =>
  if ¬ p1 = 0 then
    if ¬ p1 = (1 : Int32) then
      (g_A 42 q3.2 this 0).bind fun a6 =>
      (fX40_at N a6 (1 : Int32) (p0 - q3.1) (1 : Int32) q3.2).bind fun q8 =>
      fX40_of_b66 N this p1 p2 (q8.1 - q8.1 / (16 : Int32) * (16 : Int32)) q8.2
    else
      (g_A 42 q3.2 this 0).bind fun a9 =>
      (fX40_at N a9 (1 : Int32) (p0 - q3.1) (1 : Int32) q3.2).bind fun q11 =>
      fX40_of_b66 N this p1 p2 (q11.1 / (16 : Int32)) q11.2
  else
    (g_A 42 q3.2 this 0).bind fun a12 =>
    (fX40_at N a12 (1 : Int32) (p0 - q3.1) (0 : Int32) q3.2).bind fun q14 =>
    fX40_of_b66 N this p1 p2 q14.1 q14.2
theorem pX40_of {w : eW} {d : Nat} (hd : 5 ≤ d) {N : Nat} {this : Nat} {p0 : Int32} {p1 : Int32} {p2 : Int32} {h : eH} {q} (hf : fX40_of N this p0 p1 p2 h = some q) : wm w d YX40_of [.ref this, .int p0, .int p1, .int p2] h (e_is (e_rn c_I q)) := by
  obtain ⟨d, rfl⟩ : ∃ e, d = e + 1 := ⟨d - 1, by omega⟩
  show wp w (d + 1) YX40_of 0 [some (.ref this), some (.int p0), some (.int p1), some (.int p2), none, none] [] h _
  unfold fX40_of at hf
  refine w_iload_n dX40_of_0 rfl rfl ?_
  refine w_aload_n dX40_of_1 rfl rfl ?_
  obtain ⟨a1, b2, hf⟩ := Option.bind_eq_some_iff.mp hf
  refine GX40_9 b2 dX40_of_2 rfl ?_
  refine w_iconst dX40_of_5 (v := 2) (by decide) ?_
  refine x_cnI hf (e_stS (Yc := YX40_half) (av := [.ref a1, .int (2 : Int32)]) (st := [.int p0]) dX40_of_6 q4916 mX40_half) mX40_half.2.2.1 mX40_half.2.2.2.2.1 (Nat.le_of_ble_eq_true rfl) (Nat.le_of_ble_eq_true rfl) (fun q hq => pX40_half (by omega) hq) (fun q3 hf => ?_)
  refine w_isub dX40_of_9 ?_
  refine w_istore dX40_of_10 (by decide) (ls' := [some (.ref this), some (.int p0), some (.int p1), some (.int p2), some (.int (p0 - q3.1)), none]) rfl ?_
  refine w_iload_n dX40_of_12 rfl rfl ?_
  refine w_if_ne 30 dX40_of_13 (by decide) (fun c4 => ?_) (fun c4 => ?_)
  · replace hf := (if_pos (show ¬ p1 = 0 from c4)).symm.trans hf
    refine w_iload_n dX40_of_30 rfl rfl ?_
    refine w_iconst dX40_of_31 (v := 1) (by decide) ?_
    refine w_icmp_ne 52 dX40_of_32 (by decide) (fun c5 => ?_) (fun c5 => ?_)
    · replace hf := (if_pos (show ¬ p1 = (1 : Int32) from c5)).symm.trans hf
      refine w_aload_n dX40_of_52 rfl rfl ?_
      obtain ⟨a6, b7, hf⟩ := Option.bind_eq_some_iff.mp hf
      refine GX40_9 b7 dX40_of_53 rfl ?_
      refine w_iconst dX40_of_56 (v := 1) (by decide) ?_
      refine w_iload dX40_of_57 rfl ?_
      refine w_iconst dX40_of_59 (v := 1) (by decide) ?_
      refine x_cnI hf (e_stS (Yc := YX40_at) (av := [.ref a6, .int (1 : Int32), .int (p0 - q3.1), .int (1 : Int32)]) (st := []) dX40_of_60 q4928 mX40_at) mX40_at.2.2.1 mX40_at.2.2.2.2.1 (Nat.le_of_ble_eq_true rfl) (Nat.le_of_ble_eq_true rfl) (fun q hq => pX40_at (by omega) hq) (fun q8 hf => ?_)
      refine w_bipush dX40_of_63 (v := 16) (by decide) ?_
      refine w_irem dX40_of_65 (by decide) ?_
      exact (pX40_of_b66 hd hf).to ⟨rfl, rfl, rfl, trivial⟩
    · replace hf := (if_neg (show ¬ (¬ p1 = (1 : Int32)) from (fun z => z c5))).symm.trans hf
      refine w_aload_n dX40_of_35 rfl rfl ?_
      obtain ⟨a9, b10, hf⟩ := Option.bind_eq_some_iff.mp hf
      refine GX40_9 b10 dX40_of_36 rfl ?_
      refine w_iconst dX40_of_39 (v := 1) (by decide) ?_
      refine w_iload dX40_of_40 rfl ?_
      refine w_iconst dX40_of_42 (v := 1) (by decide) ?_
      refine x_cnI hf (e_stS (Yc := YX40_at) (av := [.ref a9, .int (1 : Int32), .int (p0 - q3.1), .int (1 : Int32)]) (st := []) dX40_of_43 q4928 mX40_at) mX40_at.2.2.1 mX40_at.2.2.2.2.1 (Nat.le_of_ble_eq_true rfl) (Nat.le_of_ble_eq_true rfl) (fun q hq => pX40_at (by omega) hq) (fun q11 hf => ?_)
      refine w_bipush dX40_of_46 (v := 16) (by decide) ?_
      refine w_idiv dX40_of_48 (by decide) ?_
      refine w_goto 66 dX40_of_49 (by decide) ?_
      exact (pX40_of_b66 hd hf).to ⟨rfl, rfl, rfl, trivial⟩
  · replace hf := (if_neg (show ¬ (¬ p1 = 0) from (fun z => z c4))).symm.trans hf
    refine w_aload_n dX40_of_16 rfl rfl ?_
    obtain ⟨a12, b13, hf⟩ := Option.bind_eq_some_iff.mp hf
    refine GX40_9 b13 dX40_of_17 rfl ?_
    refine w_iconst dX40_of_20 (v := 1) (by decide) ?_
    refine w_iload dX40_of_21 rfl ?_
    refine w_iconst dX40_of_23 (v := 0) (by decide) ?_
    refine x_cnI hf (e_stS (Yc := YX40_at) (av := [.ref a12, .int (1 : Int32), .int (p0 - q3.1), .int (0 : Int32)]) (st := []) dX40_of_24 q4928 mX40_at) mX40_at.2.2.1 mX40_at.2.2.2.2.1 (Nat.le_of_ble_eq_true rfl) (Nat.le_of_ble_eq_true rfl) (fun q hq => pX40_at (by omega) hq) (fun q14 hf => ?_)
    refine w_goto 66 dX40_of_27 (by decide) ?_
    exact (pX40_of_b66 hd hf).to ⟨rfl, rfl, rfl, trivial⟩
abbrev cX35_leaf : ByteArray := prog_37_method_116_code
def yX35_leaf : MethodName := ⟨RX35, "leaf", "(II)V"⟩
def YX35_leaf : eY := (yX35_leaf, cX35_leaf, 5, none, [])
theorem mX35_leaf : e_mv YX35_leaf RX35 2 := ⟨q5728, qs362, q5729, by decide, by decide +kernel, (e_sig (by decide +kernel))⟩
theorem dX35_leaf_0 : decode cX35_leaf 0 = .ok (.aload_n 0, 1) := dc_42 (by decide +kernel)
theorem dX35_leaf_1 : decode cX35_leaf 1 = .ok (.iload_n 1, 1) := dc_27 (by decide +kernel)
theorem dX35_leaf_2 : decode cX35_leaf 2 = .ok (.invokevirtual 817, 3) := dc_182 (a := 3) (b := 49) (n := 817) (by decide +kernel)
theorem dX35_leaf_5 : decode cX35_leaf 5 = .ok (.astore_n 3, 1) := dc_78 (by decide +kernel)
theorem dX35_leaf_6 : decode cX35_leaf 6 = .ok (.aload_n 0, 1) := dc_42 (by decide +kernel)
theorem dX35_leaf_7 : decode cX35_leaf 7 = .ok (.getfield 124, 3) := dc_180 (a := 0) (b := 124) (n := 124) (by decide +kernel)
theorem dX35_leaf_10 : decode cX35_leaf 10 = .ok (.iload_n 1, 1) := dc_27 (by decide +kernel)
theorem dX35_leaf_11 : decode cX35_leaf 11 = .ok (.iaload, 1) := dc_46 (by decide +kernel)
theorem dX35_leaf_12 : decode cX35_leaf 12 = .ok (.istore 4, 2) := dc_54 (a := 4) (by decide +kernel)
theorem dX35_leaf_14 : decode cX35_leaf 14 = .ok (.aload_n 0, 1) := dc_42 (by decide +kernel)
theorem dX35_leaf_15 : decode cX35_leaf 15 = .ok (.iconst 0, 1) := dc_3 (by decide +kernel)
theorem dX35_leaf_16 : decode cX35_leaf 16 = .ok (.iload_n 1, 1) := dc_27 (by decide +kernel)
theorem dX35_leaf_17 : decode cX35_leaf 17 = .ok (.iload_n 2, 1) := dc_28 (by decide +kernel)
theorem dX35_leaf_18 : decode cX35_leaf 18 = .ok (.aload_n 3, 1) := dc_45 (by decide +kernel)
theorem dX35_leaf_19 : decode cX35_leaf 19 = .ok (.iload_n 2, 1) := dc_28 (by decide +kernel)
theorem dX35_leaf_20 : decode cX35_leaf 20 = .ok (.iconst 0, 1) := dc_3 (by decide +kernel)
theorem dX35_leaf_21 : decode cX35_leaf 21 = .ok (.iload 4, 2) := dc_21 (a := 4) (by decide +kernel)
theorem dX35_leaf_23 : decode cX35_leaf 23 = .ok (.invokevirtual 821, 3) := dc_182 (a := 3) (b := 53) (n := 821) (by decide +kernel)
theorem dX35_leaf_26 : decode cX35_leaf 26 = .ok (.aload_n 3, 1) := dc_45 (by decide +kernel)
theorem dX35_leaf_27 : decode cX35_leaf 27 = .ok (.iload_n 2, 1) := dc_28 (by decide +kernel)
theorem dX35_leaf_28 : decode cX35_leaf 28 = .ok (.iconst 1, 1) := dc_4 (by decide +kernel)
theorem dX35_leaf_29 : decode cX35_leaf 29 = .ok (.iload 4, 2) := dc_21 (a := 4) (by decide +kernel)
theorem dX35_leaf_31 : decode cX35_leaf 31 = .ok (.invokevirtual 821, 3) := dc_182 (a := 3) (b := 53) (n := 821) (by decide +kernel)
theorem dX35_leaf_34 : decode cX35_leaf 34 = .ok (.aload_n 3, 1) := dc_45 (by decide +kernel)
theorem dX35_leaf_35 : decode cX35_leaf 35 = .ok (.iload_n 2, 1) := dc_28 (by decide +kernel)
theorem dX35_leaf_36 : decode cX35_leaf 36 = .ok (.iconst 2, 1) := dc_5 (by decide +kernel)
theorem dX35_leaf_37 : decode cX35_leaf 37 = .ok (.iload 4, 2) := dc_21 (a := 4) (by decide +kernel)
theorem dX35_leaf_39 : decode cX35_leaf 39 = .ok (.invokevirtual 821, 3) := dc_182 (a := 3) (b := 53) (n := 821) (by decide +kernel)
theorem dX35_leaf_42 : decode cX35_leaf 42 = .ok (.invokevirtual 798, 3) := dc_182 (a := 3) (b := 30) (n := 798) (by decide +kernel)
theorem dX35_leaf_45 : decode cX35_leaf 45 = .ok (.return_, 1) := dc_177 (by decide +kernel)
def fX35_leaf (N : Nat) (this : Nat) (p0 : Int32) (p1 : Int32) (h : eH) : Option (Unit × eH) :=
  (k_ok 34 h this).bind fun _ =>
  (fX35_metrics this p0 h).bind fun q2 =>
  (g_A 34 q2.2 this 50).bind fun a3 =>
  (r_I 100 q2.2 a3 p0).bind fun x5 =>
  (k_ok 42 q2.2 q2.1).bind fun _ =>
  (fX40_of N q2.1 p1 (0 : Int32) x5 q2.2).bind fun q8 =>
  (k_ok 42 q8.2 q2.1).bind fun _ =>
  (fX40_of N q2.1 p1 (1 : Int32) x5 q8.2).bind fun q10 =>
  (k_ok 42 q10.2 q2.1).bind fun _ =>
  (fX40_of N q2.1 p1 (2 : Int32) x5 q10.2).bind fun q12 =>
  (k_ok 34 q12.2 this).bind fun _ =>
  (fX35_item N this (0 : Int32) p0 p1 q8.1 q10.1 q12.1 q12.2).bind fun q14 =>
  some ((), q14.2)
theorem pX35_leaf {w : eW} {d : Nat} (hd : 6 ≤ d) {N : Nat} {this : Nat} {p0 : Int32} {p1 : Int32} {h : eH} {q} (hf : fX35_leaf N this p0 p1 h = some q) : wm w d YX35_leaf [.ref this, .int p0, .int p1] h (e_is (e_rn c_V q)) := by
  obtain ⟨d, rfl⟩ : ∃ e, d = e + 1 := ⟨d - 1, by omega⟩
  show wp w (d + 1) YX35_leaf 0 [some (.ref this), some (.int p0), some (.int p1), none, none] [] h _
  unfold fX35_leaf at hf
  refine w_aload_n dX35_leaf_0 rfl rfl ?_
  refine w_iload_n dX35_leaf_1 rfl rfl ?_
  obtain ⟨_, b1, hf⟩ := Option.bind_eq_some_iff.mp hf
  refine x_cnA hf (e_stV (Yc := YX35_metrics) (ci := 34) (av := [.int p0]) (st := []) dX35_leaf_2 q5667 mX35_metrics rfl (k_ok_some b1).1 (k_ok_some b1).2) mX35_metrics.2.2.1 mX35_metrics.2.2.2.2.1 (Nat.le_of_ble_eq_true rfl) (Nat.le_of_ble_eq_true rfl) (fun q hq => pX35_metrics (by omega) hq) (fun q2 hf => ?_)
  refine w_astore_n dX35_leaf_5 rfl (by decide) (ls' := [some (.ref this), some (.int p0), some (.int p1), some (.ref q2.1), none]) rfl ?_
  refine w_aload_n dX35_leaf_6 rfl rfl ?_
  obtain ⟨a3, b4, hf⟩ := Option.bind_eq_some_iff.mp hf
  refine GX35_124 b4 dX35_leaf_7 rfl ?_
  refine w_iload_n dX35_leaf_10 rfl rfl ?_
  obtain ⟨x5, b6, hf⟩ := Option.bind_eq_some_iff.mp hf
  refine x_rI b6 dX35_leaf_11 ?_
  refine w_istore dX35_leaf_12 (by decide) (ls' := [some (.ref this), some (.int p0), some (.int p1), some (.ref q2.1), some (.int x5)]) rfl ?_
  refine w_aload_n dX35_leaf_14 rfl rfl ?_
  refine w_iconst dX35_leaf_15 (v := 0) (by decide) ?_
  refine w_iload_n dX35_leaf_16 rfl rfl ?_
  refine w_iload_n dX35_leaf_17 rfl rfl ?_
  refine w_aload_n dX35_leaf_18 rfl rfl ?_
  refine w_iload_n dX35_leaf_19 rfl rfl ?_
  refine w_iconst dX35_leaf_20 (v := 0) (by decide) ?_
  refine w_iload dX35_leaf_21 rfl ?_
  obtain ⟨_, b7, hf⟩ := Option.bind_eq_some_iff.mp hf
  refine x_cnI hf (e_stV (Yc := YX40_of) (ci := 42) (av := [.int p1, .int (0 : Int32), .int x5]) (st := [.int p1, .int p0, .int (0 : Int32), .ref this]) dX35_leaf_23 q5722 mX40_of rfl (k_ok_some b7).1 (k_ok_some b7).2) mX40_of.2.2.1 mX40_of.2.2.2.2.1 (Nat.le_of_ble_eq_true rfl) (Nat.le_of_ble_eq_true rfl) (fun q hq => pX40_of (by omega) hq) (fun q8 hf => ?_)
  refine w_aload_n dX35_leaf_26 rfl rfl ?_
  refine w_iload_n dX35_leaf_27 rfl rfl ?_
  refine w_iconst dX35_leaf_28 (v := 1) (by decide) ?_
  refine w_iload dX35_leaf_29 rfl ?_
  obtain ⟨_, b9, hf⟩ := Option.bind_eq_some_iff.mp hf
  refine x_cnI hf (e_stV (Yc := YX40_of) (ci := 42) (av := [.int p1, .int (1 : Int32), .int x5]) (st := [.int q8.1, .int p1, .int p0, .int (0 : Int32), .ref this]) dX35_leaf_31 q5722 mX40_of rfl (k_ok_some b9).1 (k_ok_some b9).2) mX40_of.2.2.1 mX40_of.2.2.2.2.1 (Nat.le_of_ble_eq_true rfl) (Nat.le_of_ble_eq_true rfl) (fun q hq => pX40_of (by omega) hq) (fun q10 hf => ?_)
  refine w_aload_n dX35_leaf_34 rfl rfl ?_
  refine w_iload_n dX35_leaf_35 rfl rfl ?_
  refine w_iconst dX35_leaf_36 (v := 2) (by decide) ?_
  refine w_iload dX35_leaf_37 rfl ?_
  obtain ⟨_, b11, hf⟩ := Option.bind_eq_some_iff.mp hf
  refine x_cnI hf (e_stV (Yc := YX40_of) (ci := 42) (av := [.int p1, .int (2 : Int32), .int x5]) (st := [.int q10.1, .int q8.1, .int p1, .int p0, .int (0 : Int32), .ref this]) dX35_leaf_39 q5722 mX40_of rfl (k_ok_some b11).1 (k_ok_some b11).2) mX40_of.2.2.1 mX40_of.2.2.2.2.1 (Nat.le_of_ble_eq_true rfl) (Nat.le_of_ble_eq_true rfl) (fun q hq => pX40_of (by omega) hq) (fun q12 hf => ?_)
  obtain ⟨_, b13, hf⟩ := Option.bind_eq_some_iff.mp hf
  refine x_cnV hf (e_stV (Yc := YX35_item) (ci := 34) (av := [.int (0 : Int32), .int p0, .int p1, .int q8.1, .int q10.1, .int q12.1]) (st := []) dX35_leaf_42 q5643 mX35_item rfl (k_ok_some b13).1 (k_ok_some b13).2) mX35_item.2.2.1 mX35_item.2.2.2.2.1 (Nat.le_of_ble_eq_true rfl) (Nat.le_of_ble_eq_true rfl) (fun q hq => pX35_item (by omega) hq) (fun q14 hf => ?_)
  cases hf
  exact w_vret dX35_leaf_45 rfl rfl
abbrev cX35_endWord : ByteArray := prog_37_method_119_code
def yX35_endWord : MethodName := ⟨RX35, "endWord", "()V"⟩
def YX35_endWord : eY := (yX35_endWord, cX35_endWord, 5, none, [])
theorem mX35_endWord : e_mv YX35_endWord RX35 0 := ⟨q5677, qs353, q5678, by decide, by decide +kernel, (e_sig (by decide +kernel))⟩
theorem dX35_endWord_0 : decode cX35_endWord 0 = .ok (.aload_n 0, 1) := dc_42 (by decide +kernel)
theorem dX35_endWord_1 : decode cX35_endWord 1 = .ok (.getfield 373, 3) := dc_180 (a := 1) (b := 117) (n := 373) (by decide +kernel)
theorem dX35_endWord_4 : decode cX35_endWord 4 = .ok (.istore_n 1, 1) := dc_60 (by decide +kernel)
theorem dX35_endWord_5 : decode cX35_endWord 5 = .ok (.aload_n 0, 1) := dc_42 (by decide +kernel)
theorem dX35_endWord_6 : decode cX35_endWord 6 = .ok (.iconst 0, 1) := dc_3 (by decide +kernel)
theorem dX35_endWord_7 : decode cX35_endWord 7 = .ok (.putfield 373, 3) := dc_181 (a := 1) (b := 117) (n := 373) (by decide +kernel)
theorem dX35_endWord_10 : decode cX35_endWord 10 = .ok (.iload_n 1, 1) := dc_27 (by decide +kernel)
theorem dX35_endWord_11 : decode cX35_endWord 11 = .ok (.ifCond .eq 10, 3) := dc_153 (a := 0) (b := 10) (v := 10) (by decide +kernel)
theorem dX35_endWord_14 : decode cX35_endWord 14 = .ok (.aload_n 0, 1) := dc_42 (by decide +kernel)
theorem dX35_endWord_15 : decode cX35_endWord 15 = .ok (.getfield 321, 3) := dc_180 (a := 1) (b := 65) (n := 321) (by decide +kernel)
theorem dX35_endWord_18 : decode cX35_endWord 18 = .ok (.ifCond .le 4, 3) := dc_158 (a := 0) (b := 4) (v := 4) (by decide +kernel)
theorem dX35_endWord_21 : decode cX35_endWord 21 = .ok (.return_, 1) := dc_177 (by decide +kernel)
theorem dX35_endWord_22 : decode cX35_endWord 22 = .ok (.aload_n 0, 1) := dc_42 (by decide +kernel)
theorem dX35_endWord_23 : decode cX35_endWord 23 = .ok (.aload_n 0, 1) := dc_42 (by decide +kernel)
theorem dX35_endWord_24 : decode cX35_endWord 24 = .ok (.getfield 837, 3) := dc_180 (a := 3) (b := 69) (n := 837) (by decide +kernel)
theorem dX35_endWord_27 : decode cX35_endWord 27 = .ok (.invokevirtual 817, 3) := dc_182 (a := 3) (b := 49) (n := 817) (by decide +kernel)
theorem dX35_endWord_30 : decode cX35_endWord 30 = .ok (.astore_n 2, 1) := dc_77 (by decide +kernel)
theorem dX35_endWord_31 : decode cX35_endWord 31 = .ok (.aload_n 2, 1) := dc_44 (by decide +kernel)
theorem dX35_endWord_32 : decode cX35_endWord 32 = .ok (.aload_n 0, 1) := dc_42 (by decide +kernel)
theorem dX35_endWord_33 : decode cX35_endWord 33 = .ok (.getfield 139, 3) := dc_180 (a := 0) (b := 139) (n := 139) (by decide +kernel)
theorem dX35_endWord_36 : decode cX35_endWord 36 = .ok (.iconst 0, 1) := dc_3 (by decide +kernel)
theorem dX35_endWord_37 : decode cX35_endWord 37 = .ok (.iload_n 1, 1) := dc_27 (by decide +kernel)
theorem dX35_endWord_38 : decode cX35_endWord 38 = .ok (.aload_n 0, 1) := dc_42 (by decide +kernel)
theorem dX35_endWord_39 : decode cX35_endWord 39 = .ok (.getfield 124, 3) := dc_180 (a := 0) (b := 124) (n := 124) (by decide +kernel)
theorem dX35_endWord_42 : decode cX35_endWord 42 = .ok (.aload_n 0, 1) := dc_42 (by decide +kernel)
theorem dX35_endWord_43 : decode cX35_endWord 43 = .ok (.getfield 837, 3) := dc_180 (a := 3) (b := 69) (n := 837) (by decide +kernel)
theorem dX35_endWord_46 : decode cX35_endWord 46 = .ok (.iaload, 1) := dc_46 (by decide +kernel)
theorem dX35_endWord_47 : decode cX35_endWord 47 = .ok (.invokevirtual 849, 3) := dc_182 (a := 3) (b := 81) (n := 849) (by decide +kernel)
theorem dX35_endWord_50 : decode cX35_endWord 50 = .ok (.ifCond .ne 9, 3) := dc_154 (a := 0) (b := 9) (v := 9) (by decide +kernel)
theorem dX35_endWord_53 : decode cX35_endWord 53 = .ok (.aload_n 0, 1) := dc_42 (by decide +kernel)
theorem dX35_endWord_54 : decode cX35_endWord 54 = .ok (.iconst 2, 1) := dc_5 (by decide +kernel)
theorem dX35_endWord_55 : decode cX35_endWord 55 = .ok (.invokevirtual 428, 3) := dc_182 (a := 1) (b := 172) (n := 428) (by decide +kernel)
theorem dX35_endWord_58 : decode cX35_endWord 58 = .ok (.return_, 1) := dc_177 (by decide +kernel)
theorem dX35_endWord_59 : decode cX35_endWord 59 = .ok (.aload_n 0, 1) := dc_42 (by decide +kernel)
theorem dX35_endWord_60 : decode cX35_endWord 60 = .ok (.aload_n 2, 1) := dc_44 (by decide +kernel)
theorem dX35_endWord_61 : decode cX35_endWord 61 = .ok (.getfield 825, 3) := dc_180 (a := 3) (b := 57) (n := 825) (by decide +kernel)
theorem dX35_endWord_64 : decode cX35_endWord 64 = .ok (.putfield 828, 3) := dc_181 (a := 3) (b := 60) (n := 828) (by decide +kernel)
theorem dX35_endWord_67 : decode cX35_endWord 67 = .ok (.iconst 0, 1) := dc_3 (by decide +kernel)
theorem dX35_endWord_68 : decode cX35_endWord 68 = .ok (.istore_n 3, 1) := dc_62 (by decide +kernel)
theorem dX35_endWord_69 : decode cX35_endWord 69 = .ok (.iload_n 3, 1) := dc_29 (by decide +kernel)
theorem dX35_endWord_70 : decode cX35_endWord 70 = .ok (.aload_n 0, 1) := dc_42 (by decide +kernel)
theorem dX35_endWord_71 : decode cX35_endWord 71 = .ok (.getfield 828, 3) := dc_180 (a := 3) (b := 60) (n := 828) (by decide +kernel)
theorem dX35_endWord_74 : decode cX35_endWord 74 = .ok (.if_icmp .ge 33, 3) := dc_162 (a := 0) (b := 33) (v := 33) (by decide +kernel)
theorem dX35_endWord_77 : decode cX35_endWord 77 = .ok (.aload_n 0, 1) := dc_42 (by decide +kernel)
theorem dX35_endWord_78 : decode cX35_endWord 78 = .ok (.getfield 142, 3) := dc_180 (a := 0) (b := 142) (n := 142) (by decide +kernel)
theorem dX35_endWord_81 : decode cX35_endWord 81 = .ok (.iload_n 3, 1) := dc_29 (by decide +kernel)
theorem dX35_endWord_82 : decode cX35_endWord 82 = .ok (.aload_n 2, 1) := dc_44 (by decide +kernel)
theorem dX35_endWord_83 : decode cX35_endWord 83 = .ok (.getfield 831, 3) := dc_180 (a := 3) (b := 63) (n := 831) (by decide +kernel)
theorem dX35_endWord_86 : decode cX35_endWord 86 = .ok (.iload_n 3, 1) := dc_29 (by decide +kernel)
theorem dX35_endWord_87 : decode cX35_endWord 87 = .ok (.iaload, 1) := dc_46 (by decide +kernel)
theorem dX35_endWord_88 : decode cX35_endWord 88 = .ok (.iastore, 1) := dc_79 (by decide +kernel)
theorem dX35_endWord_89 : decode cX35_endWord 89 = .ok (.aload_n 0, 1) := dc_42 (by decide +kernel)
theorem dX35_endWord_90 : decode cX35_endWord 90 = .ok (.getfield 145, 3) := dc_180 (a := 0) (b := 145) (n := 145) (by decide +kernel)
theorem dX35_endWord_93 : decode cX35_endWord 93 = .ok (.iload_n 3, 1) := dc_29 (by decide +kernel)
theorem dX35_endWord_94 : decode cX35_endWord 94 = .ok (.aload_n 2, 1) := dc_44 (by decide +kernel)
theorem dX35_endWord_95 : decode cX35_endWord 95 = .ok (.getfield 834, 3) := dc_180 (a := 3) (b := 66) (n := 834) (by decide +kernel)
theorem dX35_endWord_98 : decode cX35_endWord 98 = .ok (.iload_n 3, 1) := dc_29 (by decide +kernel)
theorem dX35_endWord_99 : decode cX35_endWord 99 = .ok (.iaload, 1) := dc_46 (by decide +kernel)
theorem dX35_endWord_100 : decode cX35_endWord 100 = .ok (.iastore, 1) := dc_79 (by decide +kernel)
theorem dX35_endWord_101 : decode cX35_endWord 101 = .ok (.iinc 3 1, 3) := dc_132 (a := 3) (b := 1) (v := 1) (by decide +kernel)
theorem dX35_endWord_104 : decode cX35_endWord 104 = .ok (.goto (-35), 3) := dc_167 (a := 255) (b := 221) (v := -35) (by decide +kernel)
theorem dX35_endWord_107 : decode cX35_endWord 107 = .ok (.aload_n 0, 1) := dc_42 (by decide +kernel)
theorem dX35_endWord_108 : decode cX35_endWord 108 = .ok (.iconst 0, 1) := dc_3 (by decide +kernel)
theorem dX35_endWord_109 : decode cX35_endWord 109 = .ok (.putfield 840, 3) := dc_181 (a := 3) (b := 72) (n := 840) (by decide +kernel)
theorem dX35_endWord_112 : decode cX35_endWord 112 = .ok (.aload_n 0, 1) := dc_42 (by decide +kernel)
theorem dX35_endWord_113 : decode cX35_endWord 113 = .ok (.invokevirtual 587, 3) := dc_182 (a := 2) (b := 75) (n := 587) (by decide +kernel)
theorem dX35_endWord_116 : decode cX35_endWord 116 = .ok (.iconst 2, 1) := dc_5 (by decide +kernel)
theorem dX35_endWord_117 : decode cX35_endWord 117 = .ok (.if_icmp .ne 38, 3) := dc_160 (a := 0) (b := 38) (v := 38) (by decide +kernel)
theorem dX35_endWord_120 : decode cX35_endWord 120 = .ok (.iload_n 1, 1) := dc_27 (by decide +kernel)
theorem dX35_endWord_121 : decode cX35_endWord 121 = .ok (.bipush 64, 2) := dc_16 (a := 64) (v := 64) (by decide +kernel)
theorem dX35_endWord_123 : decode cX35_endWord 123 = .ok (.if_icmp .ge 32, 3) := dc_162 (a := 0) (b := 32) (v := 32) (by decide +kernel)
theorem dX35_endWord_126 : decode cX35_endWord 126 = .ok (.aload_n 2, 1) := dc_44 (by decide +kernel)
theorem dX35_endWord_127 : decode cX35_endWord 127 = .ok (.bipush 45, 2) := dc_16 (a := 45) (v := 45) (by decide +kernel)
theorem dX35_endWord_129 : decode cX35_endWord 129 = .ok (.invokevirtual 857, 3) := dc_182 (a := 3) (b := 89) (n := 857) (by decide +kernel)
theorem dX35_endWord_132 : decode cX35_endWord 132 = .ok (.ifCond .eq 23, 3) := dc_153 (a := 0) (b := 23) (v := 23) (by decide +kernel)
theorem dX35_endWord_135 : decode cX35_endWord 135 = .ok (.aload_n 0, 1) := dc_42 (by decide +kernel)
theorem dX35_endWord_136 : decode cX35_endWord 136 = .ok (.getfield 28, 3) := dc_180 (a := 0) (b := 28) (n := 28) (by decide +kernel)
theorem dX35_endWord_139 : decode cX35_endWord 139 = .ok (.aload_n 0, 1) := dc_42 (by decide +kernel)
theorem dX35_endWord_140 : decode cX35_endWord 140 = .ok (.getfield 139, 3) := dc_180 (a := 0) (b := 139) (n := 139) (by decide +kernel)
theorem dX35_endWord_143 : decode cX35_endWord 143 = .ok (.iload_n 1, 1) := dc_27 (by decide +kernel)
theorem dX35_endWord_144 : decode cX35_endWord 144 = .ok (.invokevirtual 860, 3) := dc_182 (a := 3) (b := 92) (n := 860) (by decide +kernel)
theorem dX35_endWord_147 : decode cX35_endWord 147 = .ok (.ifCond .eq 8, 3) := dc_153 (a := 0) (b := 8) (v := 8) (by decide +kernel)
theorem dX35_endWord_150 : decode cX35_endWord 150 = .ok (.aload_n 0, 1) := dc_42 (by decide +kernel)
theorem dX35_endWord_151 : decode cX35_endWord 151 = .ok (.iload_n 1, 1) := dc_27 (by decide +kernel)
theorem dX35_endWord_152 : decode cX35_endWord 152 = .ok (.invokevirtual 863, 3) := dc_182 (a := 3) (b := 95) (n := 863) (by decide +kernel)
theorem dX35_endWord_155 : decode cX35_endWord 155 = .ok (.iconst 0, 1) := dc_3 (by decide +kernel)
theorem dX35_endWord_156 : decode cX35_endWord 156 = .ok (.istore_n 3, 1) := dc_62 (by decide +kernel)
theorem dX35_endWord_157 : decode cX35_endWord 157 = .ok (.iload_n 3, 1) := dc_29 (by decide +kernel)
theorem dX35_endWord_158 : decode cX35_endWord 158 = .ok (.aload_n 0, 1) := dc_42 (by decide +kernel)
theorem dX35_endWord_159 : decode cX35_endWord 159 = .ok (.getfield 828, 3) := dc_180 (a := 3) (b := 60) (n := 828) (by decide +kernel)
theorem dX35_endWord_162 : decode cX35_endWord 162 = .ok (.if_icmp .gt 133, 3) := dc_163 (a := 0) (b := 133) (v := 133) (by decide +kernel)
theorem dX35_endWord_165 : decode cX35_endWord 165 = .ok (.iconst 0, 1) := dc_3 (by decide +kernel)
theorem dX35_endWord_166 : decode cX35_endWord 166 = .ok (.istore 4, 2) := dc_54 (a := 4) (by decide +kernel)
theorem dX35_endWord_168 : decode cX35_endWord 168 = .ok (.iload 4, 2) := dc_21 (a := 4) (by decide +kernel)
theorem dX35_endWord_170 : decode cX35_endWord 170 = .ok (.aload_n 0, 1) := dc_42 (by decide +kernel)
theorem dX35_endWord_171 : decode cX35_endWord 171 = .ok (.getfield 840, 3) := dc_180 (a := 3) (b := 72) (n := 840) (by decide +kernel)
theorem dX35_endWord_174 : decode cX35_endWord 174 = .ok (.if_icmp .ge 55, 3) := dc_162 (a := 0) (b := 55) (v := 55) (by decide +kernel)
theorem dX35_endWord_177 : decode cX35_endWord 177 = .ok (.aload_n 0, 1) := dc_42 (by decide +kernel)
theorem dX35_endWord_178 : decode cX35_endWord 178 = .ok (.getfield 240, 3) := dc_180 (a := 0) (b := 240) (n := 240) (by decide +kernel)
theorem dX35_endWord_181 : decode cX35_endWord 181 = .ok (.iload 4, 2) := dc_21 (a := 4) (by decide +kernel)
theorem dX35_endWord_183 : decode cX35_endWord 183 = .ok (.iaload, 1) := dc_46 (by decide +kernel)
theorem dX35_endWord_184 : decode cX35_endWord 184 = .ok (.iload_n 3, 1) := dc_29 (by decide +kernel)
theorem dX35_endWord_185 : decode cX35_endWord 185 = .ok (.if_icmp .ne 38, 3) := dc_160 (a := 0) (b := 38) (v := 38) (by decide +kernel)
theorem dX35_endWord_188 : decode cX35_endWord 188 = .ok (.aload_n 0, 1) := dc_42 (by decide +kernel)
theorem dX35_endWord_189 : decode cX35_endWord 189 = .ok (.bipush 6, 2) := dc_16 (a := 6) (v := 6) (by decide +kernel)
theorem dX35_endWord_191 : decode cX35_endWord 191 = .ok (.aload_n 0, 1) := dc_42 (by decide +kernel)
theorem dX35_endWord_192 : decode cX35_endWord 192 = .ok (.getfield 837, 3) := dc_180 (a := 3) (b := 69) (n := 837) (by decide +kernel)
theorem dX35_endWord_195 : decode cX35_endWord 195 = .ok (.aload_n 0, 1) := dc_42 (by decide +kernel)
theorem dX35_endWord_196 : decode cX35_endWord 196 = .ok (.getfield 243, 3) := dc_180 (a := 0) (b := 243) (n := 243) (by decide +kernel)
theorem dX35_endWord_199 : decode cX35_endWord 199 = .ok (.iload 4, 2) := dc_21 (a := 4) (by decide +kernel)
theorem dX35_endWord_201 : decode cX35_endWord 201 = .ok (.iaload, 1) := dc_46 (by decide +kernel)
theorem dX35_endWord_202 : decode cX35_endWord 202 = .ok (.aload_n 2, 1) := dc_44 (by decide +kernel)
theorem dX35_endWord_203 : decode cX35_endWord 203 = .ok (.bipush 45, 2) := dc_16 (a := 45) (v := 45) (by decide +kernel)
theorem dX35_endWord_205 : decode cX35_endWord 205 = .ok (.iconst 0, 1) := dc_3 (by decide +kernel)
theorem dX35_endWord_206 : decode cX35_endWord 206 = .ok (.aload_n 0, 1) := dc_42 (by decide +kernel)
theorem dX35_endWord_207 : decode cX35_endWord 207 = .ok (.getfield 124, 3) := dc_180 (a := 0) (b := 124) (n := 124) (by decide +kernel)
theorem dX35_endWord_210 : decode cX35_endWord 210 = .ok (.aload_n 0, 1) := dc_42 (by decide +kernel)
theorem dX35_endWord_211 : decode cX35_endWord 211 = .ok (.getfield 837, 3) := dc_180 (a := 3) (b := 69) (n := 837) (by decide +kernel)
theorem dX35_endWord_214 : decode cX35_endWord 214 = .ok (.iaload, 1) := dc_46 (by decide +kernel)
theorem dX35_endWord_215 : decode cX35_endWord 215 = .ok (.invokevirtual 821, 3) := dc_182 (a := 3) (b := 53) (n := 821) (by decide +kernel)
theorem dX35_endWord_218 : decode cX35_endWord 218 = .ok (.iconst 0, 1) := dc_3 (by decide +kernel)
theorem dX35_endWord_219 : decode cX35_endWord 219 = .ok (.iconst 0, 1) := dc_3 (by decide +kernel)
theorem dX35_endWord_220 : decode cX35_endWord 220 = .ok (.invokevirtual 798, 3) := dc_182 (a := 3) (b := 30) (n := 798) (by decide +kernel)
theorem dX35_endWord_223 : decode cX35_endWord 223 = .ok (.iinc 4 1, 3) := dc_132 (a := 4) (b := 1) (v := 1) (by decide +kernel)
theorem dX35_endWord_226 : decode cX35_endWord 226 = .ok (.goto (-58), 3) := dc_167 (a := 255) (b := 198) (v := -58) (by decide +kernel)
theorem dX35_endWord_229 : decode cX35_endWord 229 = .ok (.iload_n 3, 1) := dc_29 (by decide +kernel)
theorem dX35_endWord_230 : decode cX35_endWord 230 = .ok (.aload_n 0, 1) := dc_42 (by decide +kernel)
theorem dX35_endWord_231 : decode cX35_endWord 231 = .ok (.getfield 828, 3) := dc_180 (a := 3) (b := 60) (n := 828) (by decide +kernel)
theorem dX35_endWord_234 : decode cX35_endWord 234 = .ok (.if_icmp .ge 33, 3) := dc_162 (a := 0) (b := 33) (v := 33) (by decide +kernel)
theorem dX35_endWord_237 : decode cX35_endWord 237 = .ok (.aload_n 0, 1) := dc_42 (by decide +kernel)
theorem dX35_endWord_238 : decode cX35_endWord 238 = .ok (.getfield 142, 3) := dc_180 (a := 0) (b := 142) (n := 142) (by decide +kernel)
theorem dX35_endWord_241 : decode cX35_endWord 241 = .ok (.iload_n 3, 1) := dc_29 (by decide +kernel)
theorem dX35_endWord_242 : decode cX35_endWord 242 = .ok (.iaload, 1) := dc_46 (by decide +kernel)
theorem dX35_endWord_243 : decode cX35_endWord 243 = .ok (.sipush 255, 3) := dc_17 (a := 0) (b := 255) (v := 255) (by decide +kernel)
theorem dX35_endWord_246 : decode cX35_endWord 246 = .ok (.if_icmp .le 21, 3) := dc_164 (a := 0) (b := 21) (v := 21) (by decide +kernel)
theorem dX35_endWord_249 : decode cX35_endWord 249 = .ok (.aload_n 0, 1) := dc_42 (by decide +kernel)
theorem dX35_endWord_250 : decode cX35_endWord 250 = .ok (.iconst 3, 1) := dc_6 (by decide +kernel)
theorem dX35_endWord_251 : decode cX35_endWord 251 = .ok (.aload_n 0, 1) := dc_42 (by decide +kernel)
theorem dX35_endWord_252 : decode cX35_endWord 252 = .ok (.getfield 145, 3) := dc_180 (a := 0) (b := 145) (n := 145) (by decide +kernel)
theorem dX35_endWord_255 : decode cX35_endWord 255 = .ok (.iload_n 3, 1) := dc_29 (by decide +kernel)
theorem dX35_endWord_256 : decode cX35_endWord 256 = .ok (.iaload, 1) := dc_46 (by decide +kernel)
theorem dX35_endWord_257 : decode cX35_endWord 257 = .ok (.iconst 0, 1) := dc_3 (by decide +kernel)
theorem dX35_endWord_258 : decode cX35_endWord 258 = .ok (.iconst 0, 1) := dc_3 (by decide +kernel)
theorem dX35_endWord_259 : decode cX35_endWord 259 = .ok (.iconst 0, 1) := dc_3 (by decide +kernel)
theorem dX35_endWord_260 : decode cX35_endWord 260 = .ok (.iconst 0, 1) := dc_3 (by decide +kernel)
theorem dX35_endWord_261 : decode cX35_endWord 261 = .ok (.invokevirtual 798, 3) := dc_182 (a := 3) (b := 30) (n := 798) (by decide +kernel)
theorem dX35_endWord_264 : decode cX35_endWord 264 = .ok (.goto 25, 3) := dc_167 (a := 0) (b := 25) (v := 25) (by decide +kernel)
theorem dX35_endWord_267 : decode cX35_endWord 267 = .ok (.iload_n 3, 1) := dc_29 (by decide +kernel)
theorem dX35_endWord_268 : decode cX35_endWord 268 = .ok (.aload_n 0, 1) := dc_42 (by decide +kernel)
theorem dX35_endWord_269 : decode cX35_endWord 269 = .ok (.getfield 828, 3) := dc_180 (a := 3) (b := 60) (n := 828) (by decide +kernel)
theorem dX35_endWord_272 : decode cX35_endWord 272 = .ok (.if_icmp .ge 17, 3) := dc_162 (a := 0) (b := 17) (v := 17) (by decide +kernel)
theorem dX35_endWord_275 : decode cX35_endWord 275 = .ok (.aload_n 0, 1) := dc_42 (by decide +kernel)
theorem dX35_endWord_276 : decode cX35_endWord 276 = .ok (.aload_n 0, 1) := dc_42 (by decide +kernel)
theorem dX35_endWord_277 : decode cX35_endWord 277 = .ok (.getfield 837, 3) := dc_180 (a := 3) (b := 69) (n := 837) (by decide +kernel)
theorem dX35_endWord_280 : decode cX35_endWord 280 = .ok (.aload_n 0, 1) := dc_42 (by decide +kernel)
theorem dX35_endWord_281 : decode cX35_endWord 281 = .ok (.getfield 142, 3) := dc_180 (a := 0) (b := 142) (n := 142) (by decide +kernel)
theorem dX35_endWord_284 : decode cX35_endWord 284 = .ok (.iload_n 3, 1) := dc_29 (by decide +kernel)
theorem dX35_endWord_285 : decode cX35_endWord 285 = .ok (.iaload, 1) := dc_46 (by decide +kernel)
theorem dX35_endWord_286 : decode cX35_endWord 286 = .ok (.invokevirtual 866, 3) := dc_182 (a := 3) (b := 98) (n := 866) (by decide +kernel)
theorem dX35_endWord_289 : decode cX35_endWord 289 = .ok (.iinc 3 1, 3) := dc_132 (a := 3) (b := 1) (v := 1) (by decide +kernel)
theorem dX35_endWord_292 : decode cX35_endWord 292 = .ok (.goto (-135), 3) := dc_167 (a := 255) (b := 121) (v := -135) (by decide +kernel)
theorem dX35_endWord_295 : decode cX35_endWord 295 = .ok (.aload_n 0, 1) := dc_42 (by decide +kernel)
theorem dX35_endWord_296 : decode cX35_endWord 296 = .ok (.invokevirtual 587, 3) := dc_182 (a := 2) (b := 75) (n := 587) (by decide +kernel)
theorem dX35_endWord_299 : decode cX35_endWord 299 = .ok (.iconst 2, 1) := dc_5 (by decide +kernel)
theorem dX35_endWord_300 : decode cX35_endWord 300 = .ok (.if_icmp .ne 27, 3) := dc_160 (a := 0) (b := 27) (v := 27) (by decide +kernel)
theorem dX35_endWord_303 : decode cX35_endWord 303 = .ok (.aload_n 0, 1) := dc_42 (by decide +kernel)
theorem dX35_endWord_304 : decode cX35_endWord 304 = .ok (.getfield 139, 3) := dc_180 (a := 0) (b := 139) (n := 139) (by decide +kernel)
theorem dX35_endWord_307 : decode cX35_endWord 307 = .ok (.iload_n 1, 1) := dc_27 (by decide +kernel)
theorem dX35_endWord_308 : decode cX35_endWord 308 = .ok (.iconst 1, 1) := dc_4 (by decide +kernel)
theorem dX35_endWord_309 : decode cX35_endWord 309 = .ok (.isub, 1) := dc_100 (by decide +kernel)
theorem dX35_endWord_310 : decode cX35_endWord 310 = .ok (.iaload, 1) := dc_46 (by decide +kernel)
theorem dX35_endWord_311 : decode cX35_endWord 311 = .ok (.bipush 45, 2) := dc_16 (a := 45) (v := 45) (by decide +kernel)
theorem dX35_endWord_313 : decode cX35_endWord 313 = .ok (.if_icmp .ne 14, 3) := dc_160 (a := 0) (b := 14) (v := 14) (by decide +kernel)
theorem dX35_endWord_316 : decode cX35_endWord 316 = .ok (.aload_n 0, 1) := dc_42 (by decide +kernel)
theorem dX35_endWord_317 : decode cX35_endWord 317 = .ok (.bipush 6, 2) := dc_16 (a := 6) (v := 6) (by decide +kernel)
theorem dX35_endWord_319 : decode cX35_endWord 319 = .ok (.iconst (-1), 1) := dc_2 (by decide +kernel)
theorem dX35_endWord_320 : decode cX35_endWord 320 = .ok (.iconst 0, 1) := dc_3 (by decide +kernel)
theorem dX35_endWord_321 : decode cX35_endWord 321 = .ok (.iconst 0, 1) := dc_3 (by decide +kernel)
theorem dX35_endWord_322 : decode cX35_endWord 322 = .ok (.iconst 0, 1) := dc_3 (by decide +kernel)
theorem dX35_endWord_323 : decode cX35_endWord 323 = .ok (.iconst 0, 1) := dc_3 (by decide +kernel)
theorem dX35_endWord_324 : decode cX35_endWord 324 = .ok (.invokevirtual 798, 3) := dc_182 (a := 3) (b := 30) (n := 798) (by decide +kernel)
theorem dX35_endWord_327 : decode cX35_endWord 327 = .ok (.return_, 1) := dc_177 (by decide +kernel)
theorem GX35_373 {w : eW} {d : Nat} {Y : eY} {pc : Nat} {ls : eL} {st : List Value} {h : eH} {Q : eO → eH → Prop} {a : Nat} {x : Int32} (hf : g_I 34 h a 58 = some x) (hd : decode Y.2.1 pc = .ok (.getfield 373, 3)) (hY : Y.1.cls = RX35) (kk : wp w d Y (pc + 3) ls (.int x :: st) h Q) : wp w d Y pc ls (.ref a :: st) h Q := x_gI (ci := 34) (k := 58) hf hd rfl (by decide) (by rw [hY]; exact q4560) kk
theorem SX35_828 {w : eW} {d : Nat} {Y : eY} {pc : Nat} {ls : eL} {st : List Value} {h : eH} {Q : eO → eH → Prop} {a : Nat} {h' : eH} {x : Int32} (hf : p_V 34 h a 62 (.int x) = some h') (hd : decode Y.2.1 pc = .ok (.putfield 828, 3)) (hY : Y.1.cls = RX35) (kk : wp w d Y (pc + 3) ls st h' Q) : wp w d Y pc ls (.int x :: .ref a :: st) h Q := x_pI (ci := 34) (k := 62) hf hd rfl (by decide) (by rw [hY]; exact q4564) rfl rfl kk
def fX35_endWord_b21 (N : Nat)  (h : eH) : Option (Unit × eH) :=
  some ((), h)
theorem pX35_endWord_b21 {w : eW} {d : Nat} (hd : 10 ≤ d + 1) {N : Nat}  {h : eH} {q} (hf : fX35_endWord_b21 N h = some q) : wp w (d + 1) YX35_endWord 21 [none, none, none, none, none] [] h (e_is (e_rn c_V q)) := by
  unfold fX35_endWord_b21 at hf
  cases hf
  exact w_vret dX35_endWord_21 rfl rfl
def fX35_endWord_b223 (N : Nat) (k168 : Nat → Int32 → Nat → Int32 → Int32 → eH → Option (Unit × eH)) (l0 : Nat) (l1 : Int32) (l2 : Nat) (l3 : Int32) (l4 : Int32) (h : eH) : Option (Unit × eH) :=
  k168 l0 l1 l2 l3 (l4 + (1 : Int32)) h
theorem pX35_endWord_b223 {w : eW} {d : Nat} (hd : 10 ≤ d + 1) {N : Nat} {k168 : Nat → Int32 → Nat → Int32 → Int32 → eH → Option (Unit × eH)} (hk168 : ∀ l0 l1 l2 l3 l4 h q, k168 l0 l1 l2 l3 l4 h = some q → wp w (d + 1) YX35_endWord 168 [some (.ref l0), some (.int l1), some (.ref l2), some (.int l3), some (.int l4)] [] h (e_is (e_rn c_V q))) {l0 : Nat} {l1 : Int32} {l2 : Nat} {l3 : Int32} {l4 : Int32} {h : eH} {q} (hf : fX35_endWord_b223 N k168 l0 l1 l2 l3 l4 h = some q) : wp w (d + 1) YX35_endWord 223 [some (.ref l0), some (.int l1), some (.ref l2), some (.int l3), some (.int l4)] [] h (e_is (e_rn c_V q)) := by
  unfold fX35_endWord_b223 at hf
  refine w_iinc dX35_endWord_223 (v := (l4 + (1 : Int32))) rfl rfl (by decide) (ls' := [some (.ref l0), some (.int l1), some (.ref l2), some (.int l3), some (.int (l4 + (1 : Int32)))]) rfl ?_
  refine w_goto 168 dX35_endWord_226 (by decide) ?_
  exact (hk168 _ _ _ _ _ _ _ hf).to ⟨rfl, rfl, rfl, rfl, rfl, trivial⟩
def fX35_endWord_b289 (N : Nat) (k157 : Nat → Int32 → Nat → Int32 → eH → Option (Unit × eH)) (l0 : Nat) (l1 : Int32) (l2 : Nat) (l3 : Int32) (h : eH) : Option (Unit × eH) :=
  k157 l0 l1 l2 (l3 + (1 : Int32)) h
theorem pX35_endWord_b289 {w : eW} {d : Nat} (hd : 10 ≤ d + 1) {N : Nat} {k157 : Nat → Int32 → Nat → Int32 → eH → Option (Unit × eH)} (hk157 : ∀ l0 l1 l2 l3 h q, k157 l0 l1 l2 l3 h = some q → wp w (d + 1) YX35_endWord 157 [some (.ref l0), some (.int l1), some (.ref l2), some (.int l3), none] [] h (e_is (e_rn c_V q))) {l0 : Nat} {l1 : Int32} {l2 : Nat} {l3 : Int32} {h : eH} {q} (hf : fX35_endWord_b289 N k157 l0 l1 l2 l3 h = some q) : wp w (d + 1) YX35_endWord 289 [some (.ref l0), some (.int l1), some (.ref l2), some (.int l3), none] [] h (e_is (e_rn c_V q)) := by
  unfold fX35_endWord_b289 at hf
  refine w_iinc dX35_endWord_289 (v := (l3 + (1 : Int32))) rfl rfl (by decide) (ls' := [some (.ref l0), some (.int l1), some (.ref l2), some (.int (l3 + (1 : Int32))), none]) rfl ?_
  refine w_goto 157 dX35_endWord_292 (by decide) ?_
  exact (hk157 _ _ _ _ _ _ hf).to ⟨rfl, rfl, rfl, rfl, trivial⟩
def fX35_endWord_b267 (N : Nat) (k157 : Nat → Int32 → Nat → Int32 → eH → Option (Unit × eH)) (l0 : Nat) (l1 : Int32) (l2 : Nat) (l3 : Int32) (h : eH) : Option (Unit × eH) :=
  (g_I 34 h l0 62).bind fun x1 =>
  if x1 ≤ l3 then
    fX35_endWord_b289 N k157 l0 l1 l2 l3 h
  else
    (g_I 34 h l0 57).bind fun x4 =>
    (g_A 34 h l0 60).bind fun a6 =>
    (r_I 100 h a6 l3).bind fun x8 =>
    (k_ok 34 h l0).bind fun _ =>
    (fX35_leaf N l0 x4 x8 h).bind fun q11 =>
    fX35_endWord_b289 N k157 l0 l1 l2 l3 q11.2
theorem pX35_endWord_b267 {w : eW} {d : Nat} (hd : 10 ≤ d + 1) {N : Nat} {k157 : Nat → Int32 → Nat → Int32 → eH → Option (Unit × eH)} (hk157 : ∀ l0 l1 l2 l3 h q, k157 l0 l1 l2 l3 h = some q → wp w (d + 1) YX35_endWord 157 [some (.ref l0), some (.int l1), some (.ref l2), some (.int l3), none] [] h (e_is (e_rn c_V q))) {l0 : Nat} {l1 : Int32} {l2 : Nat} {l3 : Int32} {h : eH} {q} (hf : fX35_endWord_b267 N k157 l0 l1 l2 l3 h = some q) : wp w (d + 1) YX35_endWord 267 [some (.ref l0), some (.int l1), some (.ref l2), some (.int l3), none] [] h (e_is (e_rn c_V q)) := by
  unfold fX35_endWord_b267 at hf
  refine w_iload_n dX35_endWord_267 rfl rfl ?_
  refine w_aload_n dX35_endWord_268 rfl rfl ?_
  obtain ⟨x1, b2, hf⟩ := Option.bind_eq_some_iff.mp hf
  refine GX35_828 b2 dX35_endWord_269 rfl ?_
  refine w_icmp_ge 289 dX35_endWord_272 (by decide) (fun c3 => ?_) (fun c3 => ?_)
  · replace hf := (if_pos (show x1 ≤ l3 from c3)).symm.trans hf
    exact (pX35_endWord_b289 hd hk157 hf).to ⟨rfl, rfl, rfl, rfl, trivial⟩
  · replace hf := (if_neg (show ¬ (x1 ≤ l3) from c3)).symm.trans hf
    refine w_aload_n dX35_endWord_275 rfl rfl ?_
    refine w_aload_n dX35_endWord_276 rfl rfl ?_
    obtain ⟨x4, b5, hf⟩ := Option.bind_eq_some_iff.mp hf
    refine GX35_837 b5 dX35_endWord_277 rfl ?_
    refine w_aload_n dX35_endWord_280 rfl rfl ?_
    obtain ⟨a6, b7, hf⟩ := Option.bind_eq_some_iff.mp hf
    refine GX35_142 b7 dX35_endWord_281 rfl ?_
    refine w_iload_n dX35_endWord_284 rfl rfl ?_
    obtain ⟨x8, b9, hf⟩ := Option.bind_eq_some_iff.mp hf
    refine x_rI b9 dX35_endWord_285 ?_
    obtain ⟨_, b10, hf⟩ := Option.bind_eq_some_iff.mp hf
    refine x_cnV hf (e_stV (Yc := YX35_leaf) (ci := 34) (av := [.int x4, .int x8]) (st := []) dX35_endWord_286 q5726 mX35_leaf rfl (k_ok_some b10).1 (k_ok_some b10).2) mX35_leaf.2.2.1 mX35_leaf.2.2.2.2.1 (Nat.le_of_ble_eq_true rfl) (Nat.le_of_ble_eq_true rfl) (fun q hq => pX35_leaf (by omega) hq) (fun q11 hf => ?_)
    exact (pX35_endWord_b289 hd hk157 hf).to ⟨rfl, rfl, rfl, rfl, trivial⟩
def fX35_endWord_b168 (N : Nat) (k157 : Nat → Int32 → Nat → Int32 → eH → Option (Unit × eH)) : Nat → Nat → Int32 → Nat → Int32 → Int32 → eH → Option (Unit × eH)
  | 0, _, _, _, _, _, _ => none
  | n + 1, l0, l1, l2, l3, l4, h =>
    (g_I 34 h l0 124).bind fun x1 =>
    if x1 ≤ l4 then
      (g_I 34 h l0 62).bind fun x4 =>
      if x4 ≤ l3 then
        fX35_endWord_b267 N k157 l0 l1 l2 l3 h
      else
        (g_A 34 h l0 60).bind fun a7 =>
        (r_I 100 h a7 l3).bind fun x9 =>
        if x9 ≤ (255 : Int32) then
          fX35_endWord_b267 N k157 l0 l1 l2 l3 h
        else
          (g_A 34 h l0 61).bind fun a12 =>
          (r_I 100 h a12 l3).bind fun x14 =>
          (k_ok 34 h l0).bind fun _ =>
          (fX35_item N l0 (3 : Int32) x14 (0 : Int32) (0 : Int32) (0 : Int32) (0 : Int32) h).bind fun q17 =>
          fX35_endWord_b289 N k157 l0 l1 l2 l3 q17.2
    else
      (g_A 34 h l0 125).bind fun a18 =>
      (r_I 100 h a18 l4).bind fun x20 =>
      if ¬ x20 = l3 then
        fX35_endWord_b223 N (fX35_endWord_b168 N k157 n) l0 l1 l2 l3 l4 h
      else
        (g_I 34 h l0 57).bind fun x23 =>
        (g_A 34 h l0 126).bind fun a25 =>
        (r_I 100 h a25 l4).bind fun x27 =>
        (g_A 34 h l0 50).bind fun a29 =>
        (g_I 34 h l0 57).bind fun x31 =>
        (r_I 100 h a29 x31).bind fun x33 =>
        (k_ok 42 h l2).bind fun _ =>
        (fX40_of N l2 (45 : Int32) (0 : Int32) x33 h).bind fun q36 =>
        (k_ok 34 q36.2 l0).bind fun _ =>
        (fX35_item N l0 (6 : Int32) x23 x27 q36.1 (0 : Int32) (0 : Int32) q36.2).bind fun q38 =>
        fX35_endWord_b223 N (fX35_endWord_b168 N k157 n) l0 l1 l2 l3 l4 q38.2
theorem pX35_endWord_b168 {w : eW} {d : Nat} (hd : 10 ≤ d + 1) {N : Nat} {k157 : Nat → Int32 → Nat → Int32 → eH → Option (Unit × eH)} (hk157 : ∀ l0 l1 l2 l3 h q, k157 l0 l1 l2 l3 h = some q → wp w (d + 1) YX35_endWord 157 [some (.ref l0), some (.int l1), some (.ref l2), some (.int l3), none] [] h (e_is (e_rn c_V q))) : ∀ (n : Nat) l0 l1 l2 l3 l4 h q, fX35_endWord_b168 N k157 n l0 l1 l2 l3 l4 h = some q → wp w (d + 1) YX35_endWord 168 [some (.ref l0), some (.int l1), some (.ref l2), some (.int l3), some (.int l4)] [] h (e_is (e_rn c_V q)) := by
  intro n
  induction n with
  | zero => intro l0 l1 l2 l3 l4 h q hf; simp [fX35_endWord_b168] at hf
  | succ n ih =>
    intro l0 l1 l2 l3 l4 h q hf
    rw [fX35_endWord_b168] at hf
    refine w_iload dX35_endWord_168 rfl ?_
    refine w_aload_n dX35_endWord_170 rfl rfl ?_
    obtain ⟨x1, b2, hf⟩ := Option.bind_eq_some_iff.mp hf
    refine GX35_840 b2 dX35_endWord_171 rfl ?_
    refine w_icmp_ge 229 dX35_endWord_174 (by decide) (fun c3 => ?_) (fun c3 => ?_)
    · replace hf := (if_pos (show x1 ≤ l4 from c3)).symm.trans hf
      refine w_iload_n dX35_endWord_229 rfl rfl ?_
      refine w_aload_n dX35_endWord_230 rfl rfl ?_
      obtain ⟨x4, b5, hf⟩ := Option.bind_eq_some_iff.mp hf
      refine GX35_828 b5 dX35_endWord_231 rfl ?_
      refine w_icmp_ge 267 dX35_endWord_234 (by decide) (fun c6 => ?_) (fun c6 => ?_)
      · replace hf := (if_pos (show x4 ≤ l3 from c6)).symm.trans hf
        exact (pX35_endWord_b267 hd hk157 hf).to ⟨rfl, rfl, rfl, rfl, trivial⟩
      · replace hf := (if_neg (show ¬ (x4 ≤ l3) from c6)).symm.trans hf
        refine w_aload_n dX35_endWord_237 rfl rfl ?_
        obtain ⟨a7, b8, hf⟩ := Option.bind_eq_some_iff.mp hf
        refine GX35_142 b8 dX35_endWord_238 rfl ?_
        refine w_iload_n dX35_endWord_241 rfl rfl ?_
        obtain ⟨x9, b10, hf⟩ := Option.bind_eq_some_iff.mp hf
        refine x_rI b10 dX35_endWord_242 ?_
        refine w_sipush dX35_endWord_243 (v := 255) (by decide) ?_
        refine w_icmp_le 267 dX35_endWord_246 (by decide) (fun c11 => ?_) (fun c11 => ?_)
        · replace hf := (if_pos (show x9 ≤ (255 : Int32) from c11)).symm.trans hf
          exact (pX35_endWord_b267 hd hk157 hf).to ⟨rfl, rfl, rfl, rfl, trivial⟩
        · replace hf := (if_neg (show ¬ (x9 ≤ (255 : Int32)) from c11)).symm.trans hf
          refine w_aload_n dX35_endWord_249 rfl rfl ?_
          refine w_iconst dX35_endWord_250 (v := 3) (by decide) ?_
          refine w_aload_n dX35_endWord_251 rfl rfl ?_
          obtain ⟨a12, b13, hf⟩ := Option.bind_eq_some_iff.mp hf
          refine GX35_145 b13 dX35_endWord_252 rfl ?_
          refine w_iload_n dX35_endWord_255 rfl rfl ?_
          obtain ⟨x14, b15, hf⟩ := Option.bind_eq_some_iff.mp hf
          refine x_rI b15 dX35_endWord_256 ?_
          refine w_iconst dX35_endWord_257 (v := 0) (by decide) ?_
          refine w_iconst dX35_endWord_258 (v := 0) (by decide) ?_
          refine w_iconst dX35_endWord_259 (v := 0) (by decide) ?_
          refine w_iconst dX35_endWord_260 (v := 0) (by decide) ?_
          obtain ⟨_, b16, hf⟩ := Option.bind_eq_some_iff.mp hf
          refine x_cnV hf (e_stV (Yc := YX35_item) (ci := 34) (av := [.int (3 : Int32), .int x14, .int (0 : Int32), .int (0 : Int32), .int (0 : Int32), .int (0 : Int32)]) (st := []) dX35_endWord_261 q5643 mX35_item rfl (k_ok_some b16).1 (k_ok_some b16).2) mX35_item.2.2.1 mX35_item.2.2.2.2.1 (Nat.le_of_ble_eq_true rfl) (Nat.le_of_ble_eq_true rfl) (fun q hq => pX35_item (by omega) hq) (fun q17 hf => ?_)
          refine w_goto 289 dX35_endWord_264 (by decide) ?_
          exact (pX35_endWord_b289 hd hk157 hf).to ⟨rfl, rfl, rfl, rfl, trivial⟩
    · replace hf := (if_neg (show ¬ (x1 ≤ l4) from c3)).symm.trans hf
      refine w_aload_n dX35_endWord_177 rfl rfl ?_
      obtain ⟨a18, b19, hf⟩ := Option.bind_eq_some_iff.mp hf
      refine GX35_240 b19 dX35_endWord_178 rfl ?_
      refine w_iload dX35_endWord_181 rfl ?_
      obtain ⟨x20, b21, hf⟩ := Option.bind_eq_some_iff.mp hf
      refine x_rI b21 dX35_endWord_183 ?_
      refine w_iload_n dX35_endWord_184 rfl rfl ?_
      refine w_icmp_ne 223 dX35_endWord_185 (by decide) (fun c22 => ?_) (fun c22 => ?_)
      · replace hf := (if_pos (show ¬ x20 = l3 from c22)).symm.trans hf
        exact (pX35_endWord_b223 hd ih hf).to ⟨rfl, rfl, rfl, rfl, rfl, trivial⟩
      · replace hf := (if_neg (show ¬ (¬ x20 = l3) from (fun z => z c22))).symm.trans hf
        refine w_aload_n dX35_endWord_188 rfl rfl ?_
        refine w_bipush dX35_endWord_189 (v := 6) (by decide) ?_
        refine w_aload_n dX35_endWord_191 rfl rfl ?_
        obtain ⟨x23, b24, hf⟩ := Option.bind_eq_some_iff.mp hf
        refine GX35_837 b24 dX35_endWord_192 rfl ?_
        refine w_aload_n dX35_endWord_195 rfl rfl ?_
        obtain ⟨a25, b26, hf⟩ := Option.bind_eq_some_iff.mp hf
        refine GX35_243 b26 dX35_endWord_196 rfl ?_
        refine w_iload dX35_endWord_199 rfl ?_
        obtain ⟨x27, b28, hf⟩ := Option.bind_eq_some_iff.mp hf
        refine x_rI b28 dX35_endWord_201 ?_
        refine w_aload_n dX35_endWord_202 rfl rfl ?_
        refine w_bipush dX35_endWord_203 (v := 45) (by decide) ?_
        refine w_iconst dX35_endWord_205 (v := 0) (by decide) ?_
        refine w_aload_n dX35_endWord_206 rfl rfl ?_
        obtain ⟨a29, b30, hf⟩ := Option.bind_eq_some_iff.mp hf
        refine GX35_124 b30 dX35_endWord_207 rfl ?_
        refine w_aload_n dX35_endWord_210 rfl rfl ?_
        obtain ⟨x31, b32, hf⟩ := Option.bind_eq_some_iff.mp hf
        refine GX35_837 b32 dX35_endWord_211 rfl ?_
        obtain ⟨x33, b34, hf⟩ := Option.bind_eq_some_iff.mp hf
        refine x_rI b34 dX35_endWord_214 ?_
        obtain ⟨_, b35, hf⟩ := Option.bind_eq_some_iff.mp hf
        refine x_cnI hf (e_stV (Yc := YX40_of) (ci := 42) (av := [.int (45 : Int32), .int (0 : Int32), .int x33]) (st := [.int x27, .int x23, .int (6 : Int32), .ref l0]) dX35_endWord_215 q5722 mX40_of rfl (k_ok_some b35).1 (k_ok_some b35).2) mX40_of.2.2.1 mX40_of.2.2.2.2.1 (Nat.le_of_ble_eq_true rfl) (Nat.le_of_ble_eq_true rfl) (fun q hq => pX40_of (by omega) hq) (fun q36 hf => ?_)
        refine w_iconst dX35_endWord_218 (v := 0) (by decide) ?_
        refine w_iconst dX35_endWord_219 (v := 0) (by decide) ?_
        obtain ⟨_, b37, hf⟩ := Option.bind_eq_some_iff.mp hf
        refine x_cnV hf (e_stV (Yc := YX35_item) (ci := 34) (av := [.int (6 : Int32), .int x23, .int x27, .int q36.1, .int (0 : Int32), .int (0 : Int32)]) (st := []) dX35_endWord_220 q5643 mX35_item rfl (k_ok_some b37).1 (k_ok_some b37).2) mX35_item.2.2.1 mX35_item.2.2.2.2.1 (Nat.le_of_ble_eq_true rfl) (Nat.le_of_ble_eq_true rfl) (fun q hq => pX35_item (by omega) hq) (fun q38 hf => ?_)
        exact (pX35_endWord_b223 hd ih hf).to ⟨rfl, rfl, rfl, rfl, rfl, trivial⟩
def fX35_endWord_b327 (N : Nat)  (h : eH) : Option (Unit × eH) :=
  some ((), h)
theorem pX35_endWord_b327 {w : eW} {d : Nat} (hd : 10 ≤ d + 1) {N : Nat}  {h : eH} {q} (hf : fX35_endWord_b327 N h = some q) : wp w (d + 1) YX35_endWord 327 [none, none, none, none, none] [] h (e_is (e_rn c_V q)) := by
  unfold fX35_endWord_b327 at hf
  cases hf
  exact w_vret dX35_endWord_327 rfl rfl
def fX35_endWord_b157 (N : Nat) : Nat → Nat → Int32 → Nat → Int32 → eH → Option (Unit × eH)
  | 0, _, _, _, _, _ => none
  | n + 1, l0, l1, l2, l3, h =>
    (g_I 34 h l0 62).bind fun x1 =>
    if x1 < l3 then
      (k_ok 34 h l0).bind fun _ =>
      (fX35_mode l0 h).bind fun q5 =>
      if ¬ q5.1 = (2 : Int32) then
        fX35_endWord_b327 N q5.2
      else
        (g_A 34 q5.2 l0 59).bind fun a7 =>
        (r_I 100 q5.2 a7 (l1 - (1 : Int32))).bind fun x9 =>
        if ¬ x9 = (45 : Int32) then
          fX35_endWord_b327 N q5.2
        else
          (k_ok 34 q5.2 l0).bind fun _ =>
          (fX35_item N l0 (6 : Int32) (-1 : Int32) (0 : Int32) (0 : Int32) (0 : Int32) (0 : Int32) q5.2).bind fun q13 =>
          fX35_endWord_b327 N q13.2
    else
      fX35_endWord_b168 N (fX35_endWord_b157 N n) N l0 l1 l2 l3 (0 : Int32) h
theorem pX35_endWord_b157 {w : eW} {d : Nat} (hd : 10 ≤ d + 1) {N : Nat} : ∀ (n : Nat) l0 l1 l2 l3 h q, fX35_endWord_b157 N n l0 l1 l2 l3 h = some q → wp w (d + 1) YX35_endWord 157 [some (.ref l0), some (.int l1), some (.ref l2), some (.int l3), none] [] h (e_is (e_rn c_V q)) := by
  intro n
  induction n with
  | zero => intro l0 l1 l2 l3 h q hf; simp [fX35_endWord_b157] at hf
  | succ n ih =>
    intro l0 l1 l2 l3 h q hf
    rw [fX35_endWord_b157] at hf
    refine w_iload_n dX35_endWord_157 rfl rfl ?_
    refine w_aload_n dX35_endWord_158 rfl rfl ?_
    obtain ⟨x1, b2, hf⟩ := Option.bind_eq_some_iff.mp hf
    refine GX35_828 b2 dX35_endWord_159 rfl ?_
    refine w_icmp_gt 295 dX35_endWord_162 (by decide) (fun c3 => ?_) (fun c3 => ?_)
    · replace hf := (if_pos (show x1 < l3 from c3)).symm.trans hf
      refine w_aload_n dX35_endWord_295 rfl rfl ?_
      obtain ⟨_, b4, hf⟩ := Option.bind_eq_some_iff.mp hf
      refine x_cnI hf (e_stV (Yc := YX35_mode) (ci := 34) (av := []) (st := []) dX35_endWord_296 q5417 mX35_mode rfl (k_ok_some b4).1 (k_ok_some b4).2) mX35_mode.2.2.1 mX35_mode.2.2.2.2.1 (Nat.le_of_ble_eq_true rfl) (Nat.le_of_ble_eq_true rfl) (fun q hq => pX35_mode (by omega) hq) (fun q5 hf => ?_)
      refine w_iconst dX35_endWord_299 (v := 2) (by decide) ?_
      refine w_icmp_ne 327 dX35_endWord_300 (by decide) (fun c6 => ?_) (fun c6 => ?_)
      · replace hf := (if_pos (show ¬ q5.1 = (2 : Int32) from c6)).symm.trans hf
        exact (pX35_endWord_b327 hd hf).to trivial
      · replace hf := (if_neg (show ¬ (¬ q5.1 = (2 : Int32)) from (fun z => z c6))).symm.trans hf
        refine w_aload_n dX35_endWord_303 rfl rfl ?_
        obtain ⟨a7, b8, hf⟩ := Option.bind_eq_some_iff.mp hf
        refine GX35_139 b8 dX35_endWord_304 rfl ?_
        refine w_iload_n dX35_endWord_307 rfl rfl ?_
        refine w_iconst dX35_endWord_308 (v := 1) (by decide) ?_
        refine w_isub dX35_endWord_309 ?_
        obtain ⟨x9, b10, hf⟩ := Option.bind_eq_some_iff.mp hf
        refine x_rI b10 dX35_endWord_310 ?_
        refine w_bipush dX35_endWord_311 (v := 45) (by decide) ?_
        refine w_icmp_ne 327 dX35_endWord_313 (by decide) (fun c11 => ?_) (fun c11 => ?_)
        · replace hf := (if_pos (show ¬ x9 = (45 : Int32) from c11)).symm.trans hf
          exact (pX35_endWord_b327 hd hf).to trivial
        · replace hf := (if_neg (show ¬ (¬ x9 = (45 : Int32)) from (fun z => z c11))).symm.trans hf
          refine w_aload_n dX35_endWord_316 rfl rfl ?_
          refine w_bipush dX35_endWord_317 (v := 6) (by decide) ?_
          refine w_iconst dX35_endWord_319 (v := -1) (by decide) ?_
          refine w_iconst dX35_endWord_320 (v := 0) (by decide) ?_
          refine w_iconst dX35_endWord_321 (v := 0) (by decide) ?_
          refine w_iconst dX35_endWord_322 (v := 0) (by decide) ?_
          refine w_iconst dX35_endWord_323 (v := 0) (by decide) ?_
          obtain ⟨_, b12, hf⟩ := Option.bind_eq_some_iff.mp hf
          refine x_cnV hf (e_stV (Yc := YX35_item) (ci := 34) (av := [.int (6 : Int32), .int (-1 : Int32), .int (0 : Int32), .int (0 : Int32), .int (0 : Int32), .int (0 : Int32)]) (st := []) dX35_endWord_324 q5643 mX35_item rfl (k_ok_some b12).1 (k_ok_some b12).2) mX35_item.2.2.1 mX35_item.2.2.2.2.1 (Nat.le_of_ble_eq_true rfl) (Nat.le_of_ble_eq_true rfl) (fun q hq => pX35_item (by omega) hq) (fun q13 hf => ?_)
          exact (pX35_endWord_b327 hd hf).to trivial
    · replace hf := (if_neg (show ¬ (x1 < l3) from c3)).symm.trans hf
      refine w_iconst dX35_endWord_165 (v := 0) (by decide) ?_
      refine w_istore dX35_endWord_166 (by decide) (ls' := [some (.ref l0), some (.int l1), some (.ref l2), some (.int l3), some (.int (0 : Int32))]) rfl ?_
      exact (pX35_endWord_b168 hd ih N _ _ _ _ _ _ _ hf).to ⟨rfl, rfl, rfl, rfl, rfl, trivial⟩
def fX35_endWord_b155 (N : Nat) (l0 : Nat) (l1 : Int32) (l2 : Nat) (h : eH) : Option (Unit × eH) :=
  fX35_endWord_b157 N N l0 l1 l2 (0 : Int32) h
theorem pX35_endWord_b155 {w : eW} {d : Nat} (hd : 10 ≤ d + 1) {N : Nat} {l0 : Nat} {l1 : Int32} {l2 : Nat} {h : eH} {q} (hf : fX35_endWord_b155 N l0 l1 l2 h = some q) : wp w (d + 1) YX35_endWord 155 [some (.ref l0), some (.int l1), some (.ref l2), none, none] [] h (e_is (e_rn c_V q)) := by
  unfold fX35_endWord_b155 at hf
  refine w_iconst dX35_endWord_155 (v := 0) (by decide) ?_
  refine w_istore_n dX35_endWord_156 rfl (by decide) (ls' := [some (.ref l0), some (.int l1), some (.ref l2), some (.int (0 : Int32)), none]) rfl ?_
  exact (pX35_endWord_b157 hd N _ _ _ _ _ _ hf).to ⟨rfl, rfl, rfl, rfl, trivial⟩
def fX35_endWord_b69 (N : Nat) : Nat → Nat → Int32 → Nat → Int32 → eH → Option (Unit × eH)
  | 0, _, _, _, _, _ => none
  | n + 1, l0, l1, l2, l3, h =>
    (g_I 34 h l0 62).bind fun x1 =>
    if x1 ≤ l3 then
      (p_V 34 h l0 124 (.int (0 : Int32))).bind fun h4 =>
      (k_ok 34 h4 l0).bind fun _ =>
      (fX35_mode l0 h4).bind fun q7 =>
      if ¬ q7.1 = (2 : Int32) then
        fX35_endWord_b155 N l0 l1 l2 q7.2
      else
        if (64 : Int32) ≤ l1 then
          fX35_endWord_b155 N l0 l1 l2 q7.2
        else
          (k_ok 42 q7.2 l2).bind fun _ =>
          (fX40_isThere_2 N l2 (45 : Int32) q7.2).bind fun q11 =>
          if q11.1 = 0 then
            fX35_endWord_b155 N l0 l1 l2 q11.2
          else
            (g_A 34 q11.2 l0 5).bind fun a13 =>
            (g_A 34 q11.2 l0 59).bind fun a15 =>
            (k_ok 35 q11.2 a13).bind fun _ =>
            (fX36_take N a13 a15 l1 q11.2).bind fun q18 =>
            if q18.1 = 0 then
              fX35_endWord_b155 N l0 l1 l2 q18.2
            else
              (k_ok 34 q18.2 l0).bind fun _ =>
              (fX35_findSofts N l0 l1 q18.2).bind fun q21 =>
              fX35_endWord_b155 N l0 l1 l2 q21.2
    else
      (g_A 34 h l0 60).bind fun a22 =>
      (g_A 42 h l2 1).bind fun a24 =>
      (r_I 100 h a24 l3).bind fun x26 =>
      (q_V 100 h a22 l3 (.int x26)).bind fun h28 =>
      (g_A 34 h28 l0 61).bind fun a30 =>
      (g_A 42 h28 l2 2).bind fun a32 =>
      (r_I 100 h28 a32 l3).bind fun x34 =>
      (q_V 100 h28 a30 l3 (.int x34)).bind fun h36 =>
      fX35_endWord_b69 N n l0 l1 l2 (l3 + (1 : Int32)) h36
theorem pX35_endWord_b69 {w : eW} {d : Nat} (hd : 10 ≤ d + 1) {N : Nat} : ∀ (n : Nat) l0 l1 l2 l3 h q, fX35_endWord_b69 N n l0 l1 l2 l3 h = some q → wp w (d + 1) YX35_endWord 69 [some (.ref l0), some (.int l1), some (.ref l2), some (.int l3), none] [] h (e_is (e_rn c_V q)) := by
  intro n
  induction n with
  | zero => intro l0 l1 l2 l3 h q hf; simp [fX35_endWord_b69] at hf
  | succ n ih =>
    intro l0 l1 l2 l3 h q hf
    rw [fX35_endWord_b69] at hf
    refine w_iload_n dX35_endWord_69 rfl rfl ?_
    refine w_aload_n dX35_endWord_70 rfl rfl ?_
    obtain ⟨x1, b2, hf⟩ := Option.bind_eq_some_iff.mp hf
    refine GX35_828 b2 dX35_endWord_71 rfl ?_
    refine w_icmp_ge 107 dX35_endWord_74 (by decide) (fun c3 => ?_) (fun c3 => ?_)
    · replace hf := (if_pos (show x1 ≤ l3 from c3)).symm.trans hf
      refine w_aload_n dX35_endWord_107 rfl rfl ?_
      refine w_iconst dX35_endWord_108 (v := 0) (by decide) ?_
      obtain ⟨h4, b5, hf⟩ := Option.bind_eq_some_iff.mp hf
      refine SX35_840 b5 dX35_endWord_109 rfl ?_
      refine w_aload_n dX35_endWord_112 rfl rfl ?_
      obtain ⟨_, b6, hf⟩ := Option.bind_eq_some_iff.mp hf
      refine x_cnI hf (e_stV (Yc := YX35_mode) (ci := 34) (av := []) (st := []) dX35_endWord_113 q5417 mX35_mode rfl (k_ok_some b6).1 (k_ok_some b6).2) mX35_mode.2.2.1 mX35_mode.2.2.2.2.1 (Nat.le_of_ble_eq_true rfl) (Nat.le_of_ble_eq_true rfl) (fun q hq => pX35_mode (by omega) hq) (fun q7 hf => ?_)
      refine w_iconst dX35_endWord_116 (v := 2) (by decide) ?_
      refine w_icmp_ne 155 dX35_endWord_117 (by decide) (fun c8 => ?_) (fun c8 => ?_)
      · replace hf := (if_pos (show ¬ q7.1 = (2 : Int32) from c8)).symm.trans hf
        exact (pX35_endWord_b155 hd hf).to ⟨rfl, rfl, rfl, trivial⟩
      · replace hf := (if_neg (show ¬ (¬ q7.1 = (2 : Int32)) from (fun z => z c8))).symm.trans hf
        refine w_iload_n dX35_endWord_120 rfl rfl ?_
        refine w_bipush dX35_endWord_121 (v := 64) (by decide) ?_
        refine w_icmp_ge 155 dX35_endWord_123 (by decide) (fun c9 => ?_) (fun c9 => ?_)
        · replace hf := (if_pos (show (64 : Int32) ≤ l1 from c9)).symm.trans hf
          exact (pX35_endWord_b155 hd hf).to ⟨rfl, rfl, rfl, trivial⟩
        · replace hf := (if_neg (show ¬ ((64 : Int32) ≤ l1) from c9)).symm.trans hf
          refine w_aload_n dX35_endWord_126 rfl rfl ?_
          refine w_bipush dX35_endWord_127 (v := 45) (by decide) ?_
          obtain ⟨_, b10, hf⟩ := Option.bind_eq_some_iff.mp hf
          refine x_cnI hf (e_stV (Yc := YX40_isThere_2) (ci := 42) (av := [.int (45 : Int32)]) (st := []) dX35_endWord_129 q5671 mX40_isThere_2 rfl (k_ok_some b10).1 (k_ok_some b10).2) mX40_isThere_2.2.2.1 mX40_isThere_2.2.2.2.2.1 (Nat.le_of_ble_eq_true rfl) (Nat.le_of_ble_eq_true rfl) (fun q hq => pX40_isThere_2 (by omega) hq) (fun q11 hf => ?_)
          refine w_if_eq 155 dX35_endWord_132 (by decide) (fun c12 => ?_) (fun c12 => ?_)
          · replace hf := (if_pos (show q11.1 = 0 from c12)).symm.trans hf
            exact (pX35_endWord_b155 hd hf).to ⟨rfl, rfl, rfl, trivial⟩
          · replace hf := (if_neg (show ¬ (q11.1 = 0) from c12)).symm.trans hf
            refine w_aload_n dX35_endWord_135 rfl rfl ?_
            obtain ⟨a13, b14, hf⟩ := Option.bind_eq_some_iff.mp hf
            refine GX35_28 b14 dX35_endWord_136 rfl ?_
            refine w_aload_n dX35_endWord_139 rfl rfl ?_
            obtain ⟨a15, b16, hf⟩ := Option.bind_eq_some_iff.mp hf
            refine GX35_139 b16 dX35_endWord_140 rfl ?_
            refine w_iload_n dX35_endWord_143 rfl rfl ?_
            obtain ⟨_, b17, hf⟩ := Option.bind_eq_some_iff.mp hf
            refine x_cnI hf (e_stV (Yc := YX36_take) (ci := 35) (av := [.ref a15, .int l1]) (st := []) dX35_endWord_144 q5702 mX36_take rfl (k_ok_some b17).1 (k_ok_some b17).2) mX36_take.2.2.1 mX36_take.2.2.2.2.1 (Nat.le_of_ble_eq_true rfl) (Nat.le_of_ble_eq_true rfl) (fun q hq => pX36_take (by omega) hq) (fun q18 hf => ?_)
            refine w_if_eq 155 dX35_endWord_147 (by decide) (fun c19 => ?_) (fun c19 => ?_)
            · replace hf := (if_pos (show q18.1 = 0 from c19)).symm.trans hf
              exact (pX35_endWord_b155 hd hf).to ⟨rfl, rfl, rfl, trivial⟩
            · replace hf := (if_neg (show ¬ (q18.1 = 0) from c19)).symm.trans hf
              refine w_aload_n dX35_endWord_150 rfl rfl ?_
              refine w_iload_n dX35_endWord_151 rfl rfl ?_
              obtain ⟨_, b20, hf⟩ := Option.bind_eq_some_iff.mp hf
              refine x_cnV hf (e_stV (Yc := YX35_findSofts) (ci := 34) (av := [.int l1]) (st := []) dX35_endWord_152 q5714 mX35_findSofts rfl (k_ok_some b20).1 (k_ok_some b20).2) mX35_findSofts.2.2.1 mX35_findSofts.2.2.2.2.1 (Nat.le_of_ble_eq_true rfl) (Nat.le_of_ble_eq_true rfl) (fun q hq => pX35_findSofts (by omega) hq) (fun q21 hf => ?_)
              exact (pX35_endWord_b155 hd hf).to ⟨rfl, rfl, rfl, trivial⟩
    · replace hf := (if_neg (show ¬ (x1 ≤ l3) from c3)).symm.trans hf
      refine w_aload_n dX35_endWord_77 rfl rfl ?_
      obtain ⟨a22, b23, hf⟩ := Option.bind_eq_some_iff.mp hf
      refine GX35_142 b23 dX35_endWord_78 rfl ?_
      refine w_iload_n dX35_endWord_81 rfl rfl ?_
      refine w_aload_n dX35_endWord_82 rfl rfl ?_
      obtain ⟨a24, b25, hf⟩ := Option.bind_eq_some_iff.mp hf
      refine GX35_831 b25 dX35_endWord_83 rfl ?_
      refine w_iload_n dX35_endWord_86 rfl rfl ?_
      obtain ⟨x26, b27, hf⟩ := Option.bind_eq_some_iff.mp hf
      refine x_rI b27 dX35_endWord_87 ?_
      obtain ⟨h28, b29, hf⟩ := Option.bind_eq_some_iff.mp hf
      refine x_qI b29 dX35_endWord_88 ?_
      refine w_aload_n dX35_endWord_89 rfl rfl ?_
      obtain ⟨a30, b31, hf⟩ := Option.bind_eq_some_iff.mp hf
      refine GX35_145 b31 dX35_endWord_90 rfl ?_
      refine w_iload_n dX35_endWord_93 rfl rfl ?_
      refine w_aload_n dX35_endWord_94 rfl rfl ?_
      obtain ⟨a32, b33, hf⟩ := Option.bind_eq_some_iff.mp hf
      refine GX35_834 b33 dX35_endWord_95 rfl ?_
      refine w_iload_n dX35_endWord_98 rfl rfl ?_
      obtain ⟨x34, b35, hf⟩ := Option.bind_eq_some_iff.mp hf
      refine x_rI b35 dX35_endWord_99 ?_
      obtain ⟨h36, b37, hf⟩ := Option.bind_eq_some_iff.mp hf
      refine x_qI b37 dX35_endWord_100 ?_
      refine w_iinc dX35_endWord_101 (v := (l3 + (1 : Int32))) rfl rfl (by decide) (ls' := [some (.ref l0), some (.int l1), some (.ref l2), some (.int (l3 + (1 : Int32))), none]) rfl ?_
      refine w_goto 69 dX35_endWord_104 (by decide) ?_
      exact (ih _ _ _ _ _ _ hf).to ⟨rfl, rfl, rfl, rfl, trivial⟩
def fX35_endWord (N : Nat) (this : Nat) (h : eH) : Option (Unit × eH) :=
  (g_I 34 h this 58).bind fun x1 =>
  (p_V 34 h this 58 (.int (0 : Int32))).bind fun h3 =>
  if x1 = 0 then
    fX35_endWord_b21 N h3
  else
    (g_I 34 h3 this 46).bind fun x6 =>
    if x6 ≤ 0 then
      (g_I 34 h3 this 57).bind fun x9 =>
      (k_ok 34 h3 this).bind fun _ =>
      (fX35_metrics this x9 h3).bind fun q12 =>
      (g_A 34 q12.2 this 59).bind fun a13 =>
      (g_A 34 q12.2 this 50).bind fun a15 =>
      (g_I 34 q12.2 this 57).bind fun x17 =>
      (r_I 100 q12.2 a15 x17).bind fun x19 =>
      (k_ok 42 q12.2 q12.1).bind fun _ =>
      (fX40_set N q12.1 a13 (0 : Int32) x1 x19 q12.2).bind fun q22 =>
      if ¬ q22.1 = 0 then
        (g_I 42 q22.2 q12.1 3).bind fun x24 =>
        (p_V 34 q22.2 this 62 (.int x24)).bind fun h26 =>
        fX35_endWord_b69 N N this x1 q12.1 (0 : Int32) h26
      else
        (k_ok 34 q22.2 this).bind fun _ =>
        (fX35_fail this (2 : Int32) q22.2).bind fun q29 =>
        some ((), q29.2)
    else
      fX35_endWord_b21 N h3
theorem pX35_endWord {w : eW} {d : Nat} (hd : 10 ≤ d) {N : Nat} {this : Nat} {h : eH} {q} (hf : fX35_endWord N this h = some q) : wm w d YX35_endWord [.ref this] h (e_is (e_rn c_V q)) := by
  obtain ⟨d, rfl⟩ : ∃ e, d = e + 1 := ⟨d - 1, by omega⟩
  show wp w (d + 1) YX35_endWord 0 [some (.ref this), none, none, none, none] [] h _
  unfold fX35_endWord at hf
  refine w_aload_n dX35_endWord_0 rfl rfl ?_
  obtain ⟨x1, b2, hf⟩ := Option.bind_eq_some_iff.mp hf
  refine GX35_373 b2 dX35_endWord_1 rfl ?_
  refine w_istore_n dX35_endWord_4 rfl (by decide) (ls' := [some (.ref this), some (.int x1), none, none, none]) rfl ?_
  refine w_aload_n dX35_endWord_5 rfl rfl ?_
  refine w_iconst dX35_endWord_6 (v := 0) (by decide) ?_
  obtain ⟨h3, b4, hf⟩ := Option.bind_eq_some_iff.mp hf
  refine SX35_373 b4 dX35_endWord_7 rfl ?_
  refine w_iload_n dX35_endWord_10 rfl rfl ?_
  refine w_if_eq 21 dX35_endWord_11 (by decide) (fun c5 => ?_) (fun c5 => ?_)
  · replace hf := (if_pos (show x1 = 0 from c5)).symm.trans hf
    exact (pX35_endWord_b21 hd hf).to trivial
  · replace hf := (if_neg (show ¬ (x1 = 0) from c5)).symm.trans hf
    refine w_aload_n dX35_endWord_14 rfl rfl ?_
    obtain ⟨x6, b7, hf⟩ := Option.bind_eq_some_iff.mp hf
    refine GX35_321 b7 dX35_endWord_15 rfl ?_
    refine w_if_le 22 dX35_endWord_18 (by decide) (fun c8 => ?_) (fun c8 => ?_)
    · replace hf := (if_pos (show x6 ≤ 0 from c8)).symm.trans hf
      refine w_aload_n dX35_endWord_22 rfl rfl ?_
      refine w_aload_n dX35_endWord_23 rfl rfl ?_
      obtain ⟨x9, b10, hf⟩ := Option.bind_eq_some_iff.mp hf
      refine GX35_837 b10 dX35_endWord_24 rfl ?_
      obtain ⟨_, b11, hf⟩ := Option.bind_eq_some_iff.mp hf
      refine x_cnA hf (e_stV (Yc := YX35_metrics) (ci := 34) (av := [.int x9]) (st := []) dX35_endWord_27 q5667 mX35_metrics rfl (k_ok_some b11).1 (k_ok_some b11).2) mX35_metrics.2.2.1 mX35_metrics.2.2.2.2.1 (Nat.le_of_ble_eq_true rfl) (Nat.le_of_ble_eq_true rfl) (fun q hq => pX35_metrics (by omega) hq) (fun q12 hf => ?_)
      refine w_astore_n dX35_endWord_30 rfl (by decide) (ls' := [some (.ref this), some (.int x1), some (.ref q12.1), none, none]) rfl ?_
      refine w_aload_n dX35_endWord_31 rfl rfl ?_
      refine w_aload_n dX35_endWord_32 rfl rfl ?_
      obtain ⟨a13, b14, hf⟩ := Option.bind_eq_some_iff.mp hf
      refine GX35_139 b14 dX35_endWord_33 rfl ?_
      refine w_iconst dX35_endWord_36 (v := 0) (by decide) ?_
      refine w_iload_n dX35_endWord_37 rfl rfl ?_
      refine w_aload_n dX35_endWord_38 rfl rfl ?_
      obtain ⟨a15, b16, hf⟩ := Option.bind_eq_some_iff.mp hf
      refine GX35_124 b16 dX35_endWord_39 rfl ?_
      refine w_aload_n dX35_endWord_42 rfl rfl ?_
      obtain ⟨x17, b18, hf⟩ := Option.bind_eq_some_iff.mp hf
      refine GX35_837 b18 dX35_endWord_43 rfl ?_
      obtain ⟨x19, b20, hf⟩ := Option.bind_eq_some_iff.mp hf
      refine x_rI b20 dX35_endWord_46 ?_
      obtain ⟨_, b21, hf⟩ := Option.bind_eq_some_iff.mp hf
      refine x_cnI hf (e_stV (Yc := YX40_set) (ci := 42) (av := [.ref a13, .int (0 : Int32), .int x1, .int x19]) (st := []) dX35_endWord_47 q5679 mX40_set rfl (k_ok_some b21).1 (k_ok_some b21).2) mX40_set.2.2.1 mX40_set.2.2.2.2.1 (Nat.le_of_ble_eq_true rfl) (Nat.le_of_ble_eq_true rfl) (fun q hq => pX40_set (by omega) hq) (fun q22 hf => ?_)
      refine w_if_ne 59 dX35_endWord_50 (by decide) (fun c23 => ?_) (fun c23 => ?_)
      · replace hf := (if_pos (show ¬ q22.1 = 0 from c23)).symm.trans hf
        refine w_aload_n dX35_endWord_59 rfl rfl ?_
        refine w_aload_n dX35_endWord_60 rfl rfl ?_
        obtain ⟨x24, b25, hf⟩ := Option.bind_eq_some_iff.mp hf
        refine GX35_825 b25 dX35_endWord_61 rfl ?_
        obtain ⟨h26, b27, hf⟩ := Option.bind_eq_some_iff.mp hf
        refine SX35_828 b27 dX35_endWord_64 rfl ?_
        refine w_iconst dX35_endWord_67 (v := 0) (by decide) ?_
        refine w_istore_n dX35_endWord_68 rfl (by decide) (ls' := [some (.ref this), some (.int x1), some (.ref q12.1), some (.int (0 : Int32)), none]) rfl ?_
        exact (pX35_endWord_b69 hd N _ _ _ _ _ _ hf).to ⟨rfl, rfl, rfl, rfl, trivial⟩
      · replace hf := (if_neg (show ¬ (¬ q22.1 = 0) from (fun z => z c23))).symm.trans hf
        refine w_aload_n dX35_endWord_53 rfl rfl ?_
        refine w_iconst dX35_endWord_54 (v := 2) (by decide) ?_
        obtain ⟨_, b28, hf⟩ := Option.bind_eq_some_iff.mp hf
        refine x_cnV hf (e_stV (Yc := YX35_fail) (ci := 34) (av := [.int (2 : Int32)]) (st := []) dX35_endWord_55 q5109 mX35_fail rfl (k_ok_some b28).1 (k_ok_some b28).2) mX35_fail.2.2.1 mX35_fail.2.2.2.2.1 (Nat.le_of_ble_eq_true rfl) (Nat.le_of_ble_eq_true rfl) (fun q hq => pX35_fail (by omega) hq) (fun q29 hf => ?_)
        cases hf
        exact w_vret dX35_endWord_58 rfl rfl
    · replace hf := (if_neg (show ¬ (x6 ≤ 0) from c8)).symm.trans hf
      exact (pX35_endWord_b21 hd hf).to trivial
abbrev cX35_character : ByteArray := prog_37_method_120_code
def yX35_character : MethodName := ⟨RX35, "character", "(I)V"⟩
def YX35_character : eY := (yX35_character, cX35_character, 3, none, [])
theorem mX35_character : e_mv YX35_character RX35 1 := ⟨q5447, qs308, q5448, by decide, by decide +kernel, (e_sig (by decide +kernel))⟩
theorem dX35_character_0 : decode cX35_character 0 = .ok (.aload_n 0, 1) := dc_42 (by decide +kernel)
theorem dX35_character_1 : decode cX35_character 1 = .ok (.invokevirtual 810, 3) := dc_182 (a := 3) (b := 42) (n := 810) (by decide +kernel)
theorem dX35_character_4 : decode cX35_character 4 = .ok (.ifCond .eq 8, 3) := dc_153 (a := 0) (b := 8) (v := 8) (by decide +kernel)
theorem dX35_character_7 : decode cX35_character 7 = .ok (.aload_n 0, 1) := dc_42 (by decide +kernel)
theorem dX35_character_8 : decode cX35_character 8 = .ok (.iconst 1, 1) := dc_4 (by decide +kernel)
theorem dX35_character_9 : decode cX35_character 9 = .ok (.invokevirtual 869, 3) := dc_182 (a := 3) (b := 101) (n := 869) (by decide +kernel)
theorem dX35_character_12 : decode cX35_character 12 = .ok (.aload_n 0, 1) := dc_42 (by decide +kernel)
theorem dX35_character_13 : decode cX35_character 13 = .ok (.sipush 3811, 3) := dc_17 (a := 14) (b := 227) (v := 3811) (by decide +kernel)
theorem dX35_character_16 : decode cX35_character 16 = .ok (.invokevirtual 431, 3) := dc_182 (a := 1) (b := 175) (n := 431) (by decide +kernel)
theorem dX35_character_19 : decode cX35_character 19 = .ok (.istore_n 2, 1) := dc_61 (by decide +kernel)
theorem dX35_character_20 : decode cX35_character 20 = .ok (.aload_n 0, 1) := dc_42 (by decide +kernel)
theorem dX35_character_21 : decode cX35_character 21 = .ok (.getfield 321, 3) := dc_180 (a := 1) (b := 65) (n := 321) (by decide +kernel)
theorem dX35_character_24 : decode cX35_character 24 = .ok (.ifCond .ne 25, 3) := dc_154 (a := 0) (b := 25) (v := 25) (by decide +kernel)
theorem dX35_character_27 : decode cX35_character 27 = .ok (.iload_n 2, 1) := dc_28 (by decide +kernel)
theorem dX35_character_28 : decode cX35_character 28 = .ok (.ifCond .lt 15, 3) := dc_155 (a := 0) (b := 15) (v := 15) (by decide +kernel)
theorem dX35_character_31 : decode cX35_character 31 = .ok (.aload_n 0, 1) := dc_42 (by decide +kernel)
theorem dX35_character_32 : decode cX35_character 32 = .ok (.iload_n 2, 1) := dc_28 (by decide +kernel)
theorem dX35_character_33 : decode cX35_character 33 = .ok (.invokevirtual 817, 3) := dc_182 (a := 3) (b := 49) (n := 817) (by decide +kernel)
theorem dX35_character_36 : decode cX35_character 36 = .ok (.iload_n 1, 1) := dc_27 (by decide +kernel)
theorem dX35_character_37 : decode cX35_character 37 = .ok (.invokevirtual 857, 3) := dc_182 (a := 3) (b := 89) (n := 857) (by decide +kernel)
theorem dX35_character_40 : decode cX35_character 40 = .ok (.ifCond .ne 9, 3) := dc_154 (a := 0) (b := 9) (v := 9) (by decide +kernel)
theorem dX35_character_43 : decode cX35_character 43 = .ok (.aload_n 0, 1) := dc_42 (by decide +kernel)
theorem dX35_character_44 : decode cX35_character 44 = .ok (.bipush 14, 2) := dc_16 (a := 14) (v := 14) (by decide +kernel)
theorem dX35_character_46 : decode cX35_character 46 = .ok (.invokevirtual 428, 3) := dc_182 (a := 1) (b := 172) (n := 428) (by decide +kernel)
theorem dX35_character_49 : decode cX35_character 49 = .ok (.aload_n 0, 1) := dc_42 (by decide +kernel)
theorem dX35_character_50 : decode cX35_character 50 = .ok (.getfield 321, 3) := dc_180 (a := 1) (b := 65) (n := 321) (by decide +kernel)
theorem dX35_character_53 : decode cX35_character 53 = .ok (.ifCond .le 4, 3) := dc_158 (a := 0) (b := 4) (v := 4) (by decide +kernel)
theorem dX35_character_56 : decode cX35_character 56 = .ok (.return_, 1) := dc_177 (by decide +kernel)
theorem dX35_character_57 : decode cX35_character 57 = .ok (.aload_n 0, 1) := dc_42 (by decide +kernel)
theorem dX35_character_58 : decode cX35_character 58 = .ok (.getfield 373, 3) := dc_180 (a := 1) (b := 117) (n := 373) (by decide +kernel)
theorem dX35_character_61 : decode cX35_character 61 = .ok (.ifCond .le 15, 3) := dc_158 (a := 0) (b := 15) (v := 15) (by decide +kernel)
theorem dX35_character_64 : decode cX35_character 64 = .ok (.aload_n 0, 1) := dc_42 (by decide +kernel)
theorem dX35_character_65 : decode cX35_character 65 = .ok (.getfield 837, 3) := dc_180 (a := 3) (b := 69) (n := 837) (by decide +kernel)
theorem dX35_character_68 : decode cX35_character 68 = .ok (.iload_n 2, 1) := dc_28 (by decide +kernel)
theorem dX35_character_69 : decode cX35_character 69 = .ok (.if_icmp .eq 7, 3) := dc_159 (a := 0) (b := 7) (v := 7) (by decide +kernel)
theorem dX35_character_72 : decode cX35_character 72 = .ok (.aload_n 0, 1) := dc_42 (by decide +kernel)
theorem dX35_character_73 : decode cX35_character 73 = .ok (.invokevirtual 873, 3) := dc_182 (a := 3) (b := 105) (n := 873) (by decide +kernel)
theorem dX35_character_76 : decode cX35_character 76 = .ok (.aload_n 0, 1) := dc_42 (by decide +kernel)
theorem dX35_character_77 : decode cX35_character 77 = .ok (.iload_n 2, 1) := dc_28 (by decide +kernel)
theorem dX35_character_78 : decode cX35_character 78 = .ok (.putfield 837, 3) := dc_181 (a := 3) (b := 69) (n := 837) (by decide +kernel)
theorem dX35_character_81 : decode cX35_character 81 = .ok (.aload_n 0, 1) := dc_42 (by decide +kernel)
theorem dX35_character_82 : decode cX35_character 82 = .ok (.getfield 139, 3) := dc_180 (a := 0) (b := 139) (n := 139) (by decide +kernel)
theorem dX35_character_85 : decode cX35_character 85 = .ok (.aload_n 0, 1) := dc_42 (by decide +kernel)
theorem dX35_character_86 : decode cX35_character 86 = .ok (.getfield 373, 3) := dc_180 (a := 1) (b := 117) (n := 373) (by decide +kernel)
theorem dX35_character_89 : decode cX35_character 89 = .ok (.iload_n 1, 1) := dc_27 (by decide +kernel)
theorem dX35_character_90 : decode cX35_character 90 = .ok (.iastore, 1) := dc_79 (by decide +kernel)
theorem dX35_character_91 : decode cX35_character 91 = .ok (.aload_n 0, 1) := dc_42 (by decide +kernel)
theorem dX35_character_92 : decode cX35_character 92 = .ok (.dup, 1) := dc_89 (by decide +kernel)
theorem dX35_character_93 : decode cX35_character 93 = .ok (.getfield 373, 3) := dc_180 (a := 1) (b := 117) (n := 373) (by decide +kernel)
theorem dX35_character_96 : decode cX35_character 96 = .ok (.iconst 1, 1) := dc_4 (by decide +kernel)
theorem dX35_character_97 : decode cX35_character 97 = .ok (.iadd, 1) := dc_96 (by decide +kernel)
theorem dX35_character_98 : decode cX35_character 98 = .ok (.putfield 373, 3) := dc_181 (a := 1) (b := 117) (n := 373) (by decide +kernel)
theorem dX35_character_101 : decode cX35_character 101 = .ok (.iload_n 1, 1) := dc_27 (by decide +kernel)
theorem dX35_character_102 : decode cX35_character 102 = .ok (.bipush 45, 2) := dc_16 (a := 45) (v := 45) (by decide +kernel)
theorem dX35_character_104 : decode cX35_character 104 = .ok (.if_icmp .eq 12, 3) := dc_159 (a := 0) (b := 12) (v := 12) (by decide +kernel)
theorem dX35_character_107 : decode cX35_character 107 = .ok (.aload_n 0, 1) := dc_42 (by decide +kernel)
theorem dX35_character_108 : decode cX35_character 108 = .ok (.getfield 373, 3) := dc_180 (a := 1) (b := 117) (n := 373) (by decide +kernel)
theorem dX35_character_111 : decode cX35_character 111 = .ok (.bipush 64, 2) := dc_16 (a := 64) (v := 64) (by decide +kernel)
theorem dX35_character_113 : decode cX35_character 113 = .ok (.if_icmp .ne 7, 3) := dc_160 (a := 0) (b := 7) (v := 7) (by decide +kernel)
theorem dX35_character_116 : decode cX35_character 116 = .ok (.aload_n 0, 1) := dc_42 (by decide +kernel)
theorem dX35_character_117 : decode cX35_character 117 = .ok (.invokevirtual 873, 3) := dc_182 (a := 3) (b := 105) (n := 873) (by decide +kernel)
theorem dX35_character_120 : decode cX35_character 120 = .ok (.return_, 1) := dc_177 (by decide +kernel)
theorem SX35_837 {w : eW} {d : Nat} {Y : eY} {pc : Nat} {ls : eL} {st : List Value} {h : eH} {Q : eO → eH → Prop} {a : Nat} {h' : eH} {x : Int32} (hf : p_V 34 h a 57 (.int x) = some h') (hd : decode Y.2.1 pc = .ok (.putfield 837, 3)) (hY : Y.1.cls = RX35) (kk : wp w d Y (pc + 3) ls st h' Q) : wp w d Y pc ls (.int x :: .ref a :: st) h Q := x_pI (ci := 34) (k := 57) hf hd rfl (by decide) (by rw [hY]; exact q4559) rfl rfl kk
def fX35_character_b120 (N : Nat) (sL : Nat → Int32 → Int64 → Int64 → eH → Option (Int32 × eH))  (h : eH) : Option (Unit × eH) :=
  some ((), h)
theorem pX35_character_b120 {w : eW} {d : Nat} {dr : Nat} (hd : dr + 13 ≤ d + 1) (hdr : 12 ≤ dr) {N : Nat} {sL : Nat → Int32 → Int64 → Int64 → eH → Option (Int32 × eH)} (hsL : ∀ a t0 t1 t2 h q, sL a t0 t1 t2 h = some q → wm w dr YX35_layBox [.ref a, .int t0, .long t1, .long t2] h (e_is (e_rn c_I q)))  {h : eH} {q} (hf : fX35_character_b120 N sL h = some q) : wp w (d + 1) YX35_character 120 [none, none, none] [] h (e_is (e_rn c_V q)) := by
  unfold fX35_character_b120 at hf
  cases hf
  exact w_vret dX35_character_120 rfl rfl
def fX35_character_b116 (N : Nat) (sL : Nat → Int32 → Int64 → Int64 → eH → Option (Int32 × eH)) (l0 : Nat) (h : eH) : Option (Unit × eH) :=
  (k_ok 34 h l0).bind fun _ =>
  (fX35_endWord N l0 h).bind fun q2 =>
  fX35_character_b120 N sL q2.2
theorem pX35_character_b116 {w : eW} {d : Nat} {dr : Nat} (hd : dr + 13 ≤ d + 1) (hdr : 12 ≤ dr) {N : Nat} {sL : Nat → Int32 → Int64 → Int64 → eH → Option (Int32 × eH)} (hsL : ∀ a t0 t1 t2 h q, sL a t0 t1 t2 h = some q → wm w dr YX35_layBox [.ref a, .int t0, .long t1, .long t2] h (e_is (e_rn c_I q))) {l0 : Nat} {h : eH} {q} (hf : fX35_character_b116 N sL l0 h = some q) : wp w (d + 1) YX35_character 116 [some (.ref l0), none, none] [] h (e_is (e_rn c_V q)) := by
  unfold fX35_character_b116 at hf
  refine w_aload_n dX35_character_116 rfl rfl ?_
  obtain ⟨_, b1, hf⟩ := Option.bind_eq_some_iff.mp hf
  refine x_cnV hf (e_stV (Yc := YX35_endWord) (ci := 34) (av := []) (st := []) dX35_character_117 q5675 mX35_endWord rfl (k_ok_some b1).1 (k_ok_some b1).2) mX35_endWord.2.2.1 mX35_endWord.2.2.2.2.1 (Nat.le_of_ble_eq_true rfl) (Nat.le_of_ble_eq_true rfl) (fun q hq => pX35_endWord (by omega) hq) (fun q2 hf => ?_)
  exact (pX35_character_b120 hd hdr hsL hf).to trivial
def fX35_character_b76 (N : Nat) (sL : Nat → Int32 → Int64 → Int64 → eH → Option (Int32 × eH)) (l0 : Nat) (l1 : Int32) (l2 : Int32) (h : eH) : Option (Unit × eH) :=
  (p_V 34 h l0 57 (.int l2)).bind fun h1 =>
  (g_A 34 h1 l0 59).bind fun a3 =>
  (g_I 34 h1 l0 58).bind fun x5 =>
  (q_V 100 h1 a3 x5 (.int l1)).bind fun h7 =>
  (g_I 34 h7 l0 58).bind fun x9 =>
  (p_V 34 h7 l0 58 (.int (x9 + (1 : Int32)))).bind fun h11 =>
  if l1 = (45 : Int32) then
    fX35_character_b116 N sL l0 h11
  else
    (g_I 34 h11 l0 58).bind fun x14 =>
    if ¬ x14 = (64 : Int32) then
      fX35_character_b120 N sL h11
    else
      fX35_character_b116 N sL l0 h11
theorem pX35_character_b76 {w : eW} {d : Nat} {dr : Nat} (hd : dr + 13 ≤ d + 1) (hdr : 12 ≤ dr) {N : Nat} {sL : Nat → Int32 → Int64 → Int64 → eH → Option (Int32 × eH)} (hsL : ∀ a t0 t1 t2 h q, sL a t0 t1 t2 h = some q → wm w dr YX35_layBox [.ref a, .int t0, .long t1, .long t2] h (e_is (e_rn c_I q))) {l0 : Nat} {l1 : Int32} {l2 : Int32} {h : eH} {q} (hf : fX35_character_b76 N sL l0 l1 l2 h = some q) : wp w (d + 1) YX35_character 76 [some (.ref l0), some (.int l1), some (.int l2)] [] h (e_is (e_rn c_V q)) := by
  unfold fX35_character_b76 at hf
  refine w_aload_n dX35_character_76 rfl rfl ?_
  refine w_iload_n dX35_character_77 rfl rfl ?_
  obtain ⟨h1, b2, hf⟩ := Option.bind_eq_some_iff.mp hf
  refine SX35_837 b2 dX35_character_78 rfl ?_
  refine w_aload_n dX35_character_81 rfl rfl ?_
  obtain ⟨a3, b4, hf⟩ := Option.bind_eq_some_iff.mp hf
  refine GX35_139 b4 dX35_character_82 rfl ?_
  refine w_aload_n dX35_character_85 rfl rfl ?_
  obtain ⟨x5, b6, hf⟩ := Option.bind_eq_some_iff.mp hf
  refine GX35_373 b6 dX35_character_86 rfl ?_
  refine w_iload_n dX35_character_89 rfl rfl ?_
  obtain ⟨h7, b8, hf⟩ := Option.bind_eq_some_iff.mp hf
  refine x_qI b8 dX35_character_90 ?_
  refine w_aload_n dX35_character_91 rfl rfl ?_
  refine w_dup dX35_character_92 rfl ?_
  obtain ⟨x9, b10, hf⟩ := Option.bind_eq_some_iff.mp hf
  refine GX35_373 b10 dX35_character_93 rfl ?_
  refine w_iconst dX35_character_96 (v := 1) (by decide) ?_
  refine w_iadd dX35_character_97 ?_
  obtain ⟨h11, b12, hf⟩ := Option.bind_eq_some_iff.mp hf
  refine SX35_373 b12 dX35_character_98 rfl ?_
  refine w_iload_n dX35_character_101 rfl rfl ?_
  refine w_bipush dX35_character_102 (v := 45) (by decide) ?_
  refine w_icmp_eq 116 dX35_character_104 (by decide) (fun c13 => ?_) (fun c13 => ?_)
  · replace hf := (if_pos (show l1 = (45 : Int32) from c13)).symm.trans hf
    exact (pX35_character_b116 hd hdr hsL hf).to ⟨rfl, trivial⟩
  · replace hf := (if_neg (show ¬ (l1 = (45 : Int32)) from c13)).symm.trans hf
    refine w_aload_n dX35_character_107 rfl rfl ?_
    obtain ⟨x14, b15, hf⟩ := Option.bind_eq_some_iff.mp hf
    refine GX35_373 b15 dX35_character_108 rfl ?_
    refine w_bipush dX35_character_111 (v := 64) (by decide) ?_
    refine w_icmp_ne 120 dX35_character_113 (by decide) (fun c16 => ?_) (fun c16 => ?_)
    · replace hf := (if_pos (show ¬ x14 = (64 : Int32) from c16)).symm.trans hf
      exact (pX35_character_b120 hd hdr hsL hf).to trivial
    · replace hf := (if_neg (show ¬ (¬ x14 = (64 : Int32)) from (fun z => z c16))).symm.trans hf
      exact (pX35_character_b116 hd hdr hsL hf).to ⟨rfl, trivial⟩
def fX35_character_b49 (N : Nat) (sL : Nat → Int32 → Int64 → Int64 → eH → Option (Int32 × eH)) (l0 : Nat) (l1 : Int32) (l2 : Int32) (h : eH) : Option (Unit × eH) :=
  (g_I 34 h l0 46).bind fun x1 =>
  if x1 ≤ 0 then
    (g_I 34 h l0 58).bind fun x4 =>
    if x4 ≤ 0 then
      fX35_character_b76 N sL l0 l1 l2 h
    else
      (g_I 34 h l0 57).bind fun x7 =>
      if x7 = l2 then
        fX35_character_b76 N sL l0 l1 l2 h
      else
        (k_ok 34 h l0).bind fun _ =>
        (fX35_endWord N l0 h).bind fun q11 =>
        fX35_character_b76 N sL l0 l1 l2 q11.2
  else
    some ((), h)
theorem pX35_character_b49 {w : eW} {d : Nat} {dr : Nat} (hd : dr + 13 ≤ d + 1) (hdr : 12 ≤ dr) {N : Nat} {sL : Nat → Int32 → Int64 → Int64 → eH → Option (Int32 × eH)} (hsL : ∀ a t0 t1 t2 h q, sL a t0 t1 t2 h = some q → wm w dr YX35_layBox [.ref a, .int t0, .long t1, .long t2] h (e_is (e_rn c_I q))) {l0 : Nat} {l1 : Int32} {l2 : Int32} {h : eH} {q} (hf : fX35_character_b49 N sL l0 l1 l2 h = some q) : wp w (d + 1) YX35_character 49 [some (.ref l0), some (.int l1), some (.int l2)] [] h (e_is (e_rn c_V q)) := by
  unfold fX35_character_b49 at hf
  refine w_aload_n dX35_character_49 rfl rfl ?_
  obtain ⟨x1, b2, hf⟩ := Option.bind_eq_some_iff.mp hf
  refine GX35_321 b2 dX35_character_50 rfl ?_
  refine w_if_le 57 dX35_character_53 (by decide) (fun c3 => ?_) (fun c3 => ?_)
  · replace hf := (if_pos (show x1 ≤ 0 from c3)).symm.trans hf
    refine w_aload_n dX35_character_57 rfl rfl ?_
    obtain ⟨x4, b5, hf⟩ := Option.bind_eq_some_iff.mp hf
    refine GX35_373 b5 dX35_character_58 rfl ?_
    refine w_if_le 76 dX35_character_61 (by decide) (fun c6 => ?_) (fun c6 => ?_)
    · replace hf := (if_pos (show x4 ≤ 0 from c6)).symm.trans hf
      exact (pX35_character_b76 hd hdr hsL hf).to ⟨rfl, rfl, rfl, trivial⟩
    · replace hf := (if_neg (show ¬ (x4 ≤ 0) from c6)).symm.trans hf
      refine w_aload_n dX35_character_64 rfl rfl ?_
      obtain ⟨x7, b8, hf⟩ := Option.bind_eq_some_iff.mp hf
      refine GX35_837 b8 dX35_character_65 rfl ?_
      refine w_iload_n dX35_character_68 rfl rfl ?_
      refine w_icmp_eq 76 dX35_character_69 (by decide) (fun c9 => ?_) (fun c9 => ?_)
      · replace hf := (if_pos (show x7 = l2 from c9)).symm.trans hf
        exact (pX35_character_b76 hd hdr hsL hf).to ⟨rfl, rfl, rfl, trivial⟩
      · replace hf := (if_neg (show ¬ (x7 = l2) from c9)).symm.trans hf
        refine w_aload_n dX35_character_72 rfl rfl ?_
        obtain ⟨_, b10, hf⟩ := Option.bind_eq_some_iff.mp hf
        refine x_cnV hf (e_stV (Yc := YX35_endWord) (ci := 34) (av := []) (st := []) dX35_character_73 q5675 mX35_endWord rfl (k_ok_some b10).1 (k_ok_some b10).2) mX35_endWord.2.2.1 mX35_endWord.2.2.2.2.1 (Nat.le_of_ble_eq_true rfl) (Nat.le_of_ble_eq_true rfl) (fun q hq => pX35_endWord (by omega) hq) (fun q11 hf => ?_)
        exact (pX35_character_b76 hd hdr hsL hf).to ⟨rfl, rfl, rfl, trivial⟩
  · replace hf := (if_neg (show ¬ (x1 ≤ 0) from c3)).symm.trans hf
    cases hf
    exact w_vret dX35_character_56 rfl rfl
def fX35_character_b43 (N : Nat) (sL : Nat → Int32 → Int64 → Int64 → eH → Option (Int32 × eH)) (l0 : Nat) (l1 : Int32) (l2 : Int32) (h : eH) : Option (Unit × eH) :=
  (k_ok 34 h l0).bind fun _ =>
  (fX35_fail l0 (14 : Int32) h).bind fun q2 =>
  fX35_character_b49 N sL l0 l1 l2 q2.2
theorem pX35_character_b43 {w : eW} {d : Nat} {dr : Nat} (hd : dr + 13 ≤ d + 1) (hdr : 12 ≤ dr) {N : Nat} {sL : Nat → Int32 → Int64 → Int64 → eH → Option (Int32 × eH)} (hsL : ∀ a t0 t1 t2 h q, sL a t0 t1 t2 h = some q → wm w dr YX35_layBox [.ref a, .int t0, .long t1, .long t2] h (e_is (e_rn c_I q))) {l0 : Nat} {l1 : Int32} {l2 : Int32} {h : eH} {q} (hf : fX35_character_b43 N sL l0 l1 l2 h = some q) : wp w (d + 1) YX35_character 43 [some (.ref l0), some (.int l1), some (.int l2)] [] h (e_is (e_rn c_V q)) := by
  unfold fX35_character_b43 at hf
  refine w_aload_n dX35_character_43 rfl rfl ?_
  refine w_bipush dX35_character_44 (v := 14) (by decide) ?_
  obtain ⟨_, b1, hf⟩ := Option.bind_eq_some_iff.mp hf
  refine x_cnV hf (e_stV (Yc := YX35_fail) (ci := 34) (av := [.int (14 : Int32)]) (st := []) dX35_character_46 q5109 mX35_fail rfl (k_ok_some b1).1 (k_ok_some b1).2) mX35_fail.2.2.1 mX35_fail.2.2.2.2.1 (Nat.le_of_ble_eq_true rfl) (Nat.le_of_ble_eq_true rfl) (fun q hq => pX35_fail (by omega) hq) (fun q2 hf => ?_)
  exact (pX35_character_b49 hd hdr hsL hf).to ⟨rfl, rfl, rfl, trivial⟩
def fX35_character_b12 (N : Nat) (sL : Nat → Int32 → Int64 → Int64 → eH → Option (Int32 × eH)) (l0 : Nat) (l1 : Int32) (h : eH) : Option (Unit × eH) :=
  (k_ok 34 h l0).bind fun _ =>
  (fX35_now l0 (3811 : Int32) h).bind fun q2 =>
  (g_I 34 q2.2 l0 46).bind fun x3 =>
  if ¬ x3 = 0 then
    fX35_character_b49 N sL l0 l1 q2.1 q2.2
  else
    if q2.1 < 0 then
      fX35_character_b43 N sL l0 l1 q2.1 q2.2
    else
      (k_ok 34 q2.2 l0).bind fun _ =>
      (fX35_metrics l0 q2.1 q2.2).bind fun q8 =>
      (k_ok 42 q8.2 q8.1).bind fun _ =>
      (fX40_isThere_2 N q8.1 l1 q8.2).bind fun q10 =>
      if ¬ q10.1 = 0 then
        fX35_character_b49 N sL l0 l1 q2.1 q10.2
      else
        fX35_character_b43 N sL l0 l1 q2.1 q10.2
theorem pX35_character_b12 {w : eW} {d : Nat} {dr : Nat} (hd : dr + 13 ≤ d + 1) (hdr : 12 ≤ dr) {N : Nat} {sL : Nat → Int32 → Int64 → Int64 → eH → Option (Int32 × eH)} (hsL : ∀ a t0 t1 t2 h q, sL a t0 t1 t2 h = some q → wm w dr YX35_layBox [.ref a, .int t0, .long t1, .long t2] h (e_is (e_rn c_I q))) {l0 : Nat} {l1 : Int32} {h : eH} {q} (hf : fX35_character_b12 N sL l0 l1 h = some q) : wp w (d + 1) YX35_character 12 [some (.ref l0), some (.int l1), none] [] h (e_is (e_rn c_V q)) := by
  unfold fX35_character_b12 at hf
  refine w_aload_n dX35_character_12 rfl rfl ?_
  refine w_sipush dX35_character_13 (v := 3811) (by decide) ?_
  obtain ⟨_, b1, hf⟩ := Option.bind_eq_some_iff.mp hf
  refine x_cnI hf (e_stV (Yc := YX35_now) (ci := 34) (av := [.int (3811 : Int32)]) (st := []) dX35_character_16 q5097 mX35_now rfl (k_ok_some b1).1 (k_ok_some b1).2) mX35_now.2.2.1 mX35_now.2.2.2.2.1 (Nat.le_of_ble_eq_true rfl) (Nat.le_of_ble_eq_true rfl) (fun q hq => pX35_now (by omega) hq) (fun q2 hf => ?_)
  refine w_istore_n dX35_character_19 rfl (by decide) (ls' := [some (.ref l0), some (.int l1), some (.int q2.1)]) rfl ?_
  refine w_aload_n dX35_character_20 rfl rfl ?_
  obtain ⟨x3, b4, hf⟩ := Option.bind_eq_some_iff.mp hf
  refine GX35_321 b4 dX35_character_21 rfl ?_
  refine w_if_ne 49 dX35_character_24 (by decide) (fun c5 => ?_) (fun c5 => ?_)
  · replace hf := (if_pos (show ¬ x3 = 0 from c5)).symm.trans hf
    exact (pX35_character_b49 hd hdr hsL hf).to ⟨rfl, rfl, rfl, trivial⟩
  · replace hf := (if_neg (show ¬ (¬ x3 = 0) from (fun z => z c5))).symm.trans hf
    refine w_iload_n dX35_character_27 rfl rfl ?_
    refine w_if_lt 43 dX35_character_28 (by decide) (fun c6 => ?_) (fun c6 => ?_)
    · replace hf := (if_pos (show q2.1 < 0 from c6)).symm.trans hf
      exact (pX35_character_b43 hd hdr hsL hf).to ⟨rfl, rfl, rfl, trivial⟩
    · replace hf := (if_neg (show ¬ (q2.1 < 0) from c6)).symm.trans hf
      refine w_aload_n dX35_character_31 rfl rfl ?_
      refine w_iload_n dX35_character_32 rfl rfl ?_
      obtain ⟨_, b7, hf⟩ := Option.bind_eq_some_iff.mp hf
      refine x_cnA hf (e_stV (Yc := YX35_metrics) (ci := 34) (av := [.int q2.1]) (st := []) dX35_character_33 q5667 mX35_metrics rfl (k_ok_some b7).1 (k_ok_some b7).2) mX35_metrics.2.2.1 mX35_metrics.2.2.2.2.1 (Nat.le_of_ble_eq_true rfl) (Nat.le_of_ble_eq_true rfl) (fun q hq => pX35_metrics (by omega) hq) (fun q8 hf => ?_)
      refine w_iload_n dX35_character_36 rfl rfl ?_
      obtain ⟨_, b9, hf⟩ := Option.bind_eq_some_iff.mp hf
      refine x_cnI hf (e_stV (Yc := YX40_isThere_2) (ci := 42) (av := [.int l1]) (st := []) dX35_character_37 q5671 mX40_isThere_2 rfl (k_ok_some b9).1 (k_ok_some b9).2) mX40_isThere_2.2.2.1 mX40_isThere_2.2.2.2.2.1 (Nat.le_of_ble_eq_true rfl) (Nat.le_of_ble_eq_true rfl) (fun q hq => pX40_isThere_2 (by omega) hq) (fun q10 hf => ?_)
      refine w_if_ne 49 dX35_character_40 (by decide) (fun c11 => ?_) (fun c11 => ?_)
      · replace hf := (if_pos (show ¬ q10.1 = 0 from c11)).symm.trans hf
        exact (pX35_character_b49 hd hdr hsL hf).to ⟨rfl, rfl, rfl, trivial⟩
      · replace hf := (if_neg (show ¬ (¬ q10.1 = 0) from (fun z => z c11))).symm.trans hf
        exact (pX35_character_b43 hd hdr hsL hf).to ⟨rfl, rfl, rfl, trivial⟩
def fX35_character (N : Nat) (sL : Nat → Int32 → Int64 → Int64 → eH → Option (Int32 × eH)) (this : Nat) (p0 : Int32) (h : eH) : Option (Unit × eH) :=
  (k_ok 34 h this).bind fun _ =>
  (fX35_isVertical this h).bind fun q2 =>
  if q2.1 = 0 then
    fX35_character_b12 N sL this p0 q2.2
  else
    (k_ok 34 q2.2 this).bind fun _ =>
    (fX35_beginParagraph N sL this (1 : Int32) q2.2).bind fun q5 =>
    fX35_character_b12 N sL this p0 q5.2
theorem pX35_character {w : eW} {d : Nat} {dr : Nat} (hd : dr + 13 ≤ d) (hdr : 12 ≤ dr) {N : Nat} {sL : Nat → Int32 → Int64 → Int64 → eH → Option (Int32 × eH)} (hsL : ∀ a t0 t1 t2 h q, sL a t0 t1 t2 h = some q → wm w dr YX35_layBox [.ref a, .int t0, .long t1, .long t2] h (e_is (e_rn c_I q))) {this : Nat} {p0 : Int32} {h : eH} {q} (hf : fX35_character N sL this p0 h = some q) : wm w d YX35_character [.ref this, .int p0] h (e_is (e_rn c_V q)) := by
  obtain ⟨d, rfl⟩ : ∃ e, d = e + 1 := ⟨d - 1, by omega⟩
  show wp w (d + 1) YX35_character 0 [some (.ref this), some (.int p0), none] [] h _
  unfold fX35_character at hf
  refine w_aload_n dX35_character_0 rfl rfl ?_
  obtain ⟨_, b1, hf⟩ := Option.bind_eq_some_iff.mp hf
  refine x_cnI hf (e_stV (Yc := YX35_isVertical) (ci := 34) (av := []) (st := []) dX35_character_1 q5449 mX35_isVertical rfl (k_ok_some b1).1 (k_ok_some b1).2) mX35_isVertical.2.2.1 mX35_isVertical.2.2.2.2.1 (Nat.le_of_ble_eq_true rfl) (Nat.le_of_ble_eq_true rfl) (fun q hq => pX35_isVertical (by omega) hq) (fun q2 hf => ?_)
  refine w_if_eq 12 dX35_character_4 (by decide) (fun c3 => ?_) (fun c3 => ?_)
  · replace hf := (if_pos (show q2.1 = 0 from c3)).symm.trans hf
    exact (pX35_character_b12 hd hdr hsL hf).to ⟨rfl, rfl, trivial⟩
  · replace hf := (if_neg (show ¬ (q2.1 = 0) from c3)).symm.trans hf
    refine w_aload_n dX35_character_7 rfl rfl ?_
    refine w_iconst dX35_character_8 (v := 1) (by decide) ?_
    obtain ⟨_, b4, hf⟩ := Option.bind_eq_some_iff.mp hf
    refine x_cnV hf (e_stV (Yc := YX35_beginParagraph) (ci := 34) (av := [.int (1 : Int32)]) (st := []) dX35_character_9 q5453 mX35_beginParagraph rfl (k_ok_some b4).1 (k_ok_some b4).2) mX35_beginParagraph.2.2.1 mX35_beginParagraph.2.2.2.2.1 (Nat.le_of_ble_eq_true rfl) (Nat.le_of_ble_eq_true rfl) (fun q hq => pX35_beginParagraph (by omega) hdr hsL hq) (fun q5 hf => ?_)
    exact (pX35_character_b12 hd hdr hsL hf).to ⟨rfl, rfl, trivial⟩
abbrev cX36_clear : ByteArray := prog_40_method_17_code
def yX36_clear : MethodName := ⟨RX36, "clear", "(Z)I"⟩
def YX36_clear : eY := (yX36_clear, cX36_clear, 3, (Option.some FieldType.int), [])
theorem mX36_clear : e_mv YX36_clear RX36 1 := ⟨q6057, q6058, q6059, by decide, by decide +kernel, (e_sig (by decide +kernel))⟩
theorem dX36_clear_0 : decode cX36_clear 0 = .ok (.iload_n 1, 1) := dc_27 (by decide +kernel)
theorem dX36_clear_1 : decode cX36_clear 1 = .ok (.ifCond .eq 10, 3) := dc_153 (a := 0) (b := 10) (v := 10) (by decide +kernel)
theorem dX36_clear_4 : decode cX36_clear 4 = .ok (.aload_n 0, 1) := dc_42 (by decide +kernel)
theorem dX36_clear_5 : decode cX36_clear 5 = .ok (.getfield 125, 3) := dc_180 (a := 0) (b := 125) (n := 125) (by decide +kernel)
theorem dX36_clear_8 : decode cX36_clear 8 = .ok (.goto 7, 3) := dc_167 (a := 0) (b := 7) (v := 7) (by decide +kernel)
theorem dX36_clear_11 : decode cX36_clear 11 = .ok (.aload_n 0, 1) := dc_42 (by decide +kernel)
theorem dX36_clear_12 : decode cX36_clear 12 = .ok (.getfield 102, 3) := dc_180 (a := 0) (b := 102) (n := 102) (by decide +kernel)
theorem dX36_clear_15 : decode cX36_clear 15 = .ok (.istore_n 2, 1) := dc_61 (by decide +kernel)
theorem dX36_clear_16 : decode cX36_clear 16 = .ok (.aload_n 0, 1) := dc_42 (by decide +kernel)
theorem dX36_clear_17 : decode cX36_clear 17 = .ok (.iload_n 1, 1) := dc_27 (by decide +kernel)
theorem dX36_clear_18 : decode cX36_clear 18 = .ok (.ifCond .eq 7, 3) := dc_153 (a := 0) (b := 7) (v := 7) (by decide +kernel)
theorem dX36_clear_21 : decode cX36_clear 21 = .ok (.iconst 0, 1) := dc_3 (by decide +kernel)
theorem dX36_clear_22 : decode cX36_clear 22 = .ok (.goto 7, 3) := dc_167 (a := 0) (b := 7) (v := 7) (by decide +kernel)
theorem dX36_clear_25 : decode cX36_clear 25 = .ok (.aload_n 0, 1) := dc_42 (by decide +kernel)
theorem dX36_clear_26 : decode cX36_clear 26 = .ok (.getfield 125, 3) := dc_180 (a := 0) (b := 125) (n := 125) (by decide +kernel)
theorem dX36_clear_29 : decode cX36_clear 29 = .ok (.putfield 125, 3) := dc_181 (a := 0) (b := 125) (n := 125) (by decide +kernel)
theorem dX36_clear_32 : decode cX36_clear 32 = .ok (.aload_n 0, 1) := dc_42 (by decide +kernel)
theorem dX36_clear_33 : decode cX36_clear 33 = .ok (.iload_n 1, 1) := dc_27 (by decide +kernel)
theorem dX36_clear_34 : decode cX36_clear 34 = .ok (.ifCond .eq 10, 3) := dc_153 (a := 0) (b := 10) (v := 10) (by decide +kernel)
theorem dX36_clear_37 : decode cX36_clear 37 = .ok (.aload_n 0, 1) := dc_42 (by decide +kernel)
theorem dX36_clear_38 : decode cX36_clear 38 = .ok (.getfield 102, 3) := dc_180 (a := 0) (b := 102) (n := 102) (by decide +kernel)
theorem dX36_clear_41 : decode cX36_clear 41 = .ok (.goto 4, 3) := dc_167 (a := 0) (b := 4) (v := 4) (by decide +kernel)
theorem dX36_clear_44 : decode cX36_clear 44 = .ok (.iconst 0, 1) := dc_3 (by decide +kernel)
theorem dX36_clear_45 : decode cX36_clear 45 = .ok (.putfield 102, 3) := dc_181 (a := 0) (b := 102) (n := 102) (by decide +kernel)
theorem dX36_clear_48 : decode cX36_clear 48 = .ok (.iload_n 2, 1) := dc_28 (by decide +kernel)
theorem dX36_clear_49 : decode cX36_clear 49 = .ok (.ireturn, 1) := dc_172 (by decide +kernel)
theorem SX36_102 {w : eW} {d : Nat} {Y : eY} {pc : Nat} {ls : eL} {st : List Value} {h : eH} {Q : eO → eH → Prop} {a : Nat} {h' : eH} {x : Int32} (hf : p_V 35 h a 5 (.int x) = some h') (hd : decode Y.2.1 pc = .ok (.putfield 102, 3)) (hY : Y.1.cls = RX36) (kk : wp w d Y (pc + 3) ls st h' Q) : wp w d Y pc ls (.int x :: .ref a :: st) h Q := x_pI (ci := 35) (k := 5) hf hd rfl (by decide) (by rw [hY]; exact q4138) rfl rfl kk
theorem SX36_125 {w : eW} {d : Nat} {Y : eY} {pc : Nat} {ls : eL} {st : List Value} {h : eH} {Q : eO → eH → Prop} {a : Nat} {h' : eH} {x : Int32} (hf : p_V 35 h a 12 (.int x) = some h') (hd : decode Y.2.1 pc = .ok (.putfield 125, 3)) (hY : Y.1.cls = RX36) (kk : wp w d Y (pc + 3) ls st h' Q) : wp w d Y pc ls (.int x :: .ref a :: st) h Q := x_pI (ci := 35) (k := 12) hf hd rfl (by decide) (by rw [hY]; exact q4145) rfl rfl kk
def fX36_clear_b45 (l2 : Int32) (s0 : Nat) (s1 : Int32) (h : eH) : Option (Int32 × eH) :=
  (p_V 35 h s0 5 (.int s1)).bind fun h1 =>
  some (l2, h1)
theorem pX36_clear_b45 {w : eW} {d : Nat} (hd : 0 ≤ d) {l2 : Int32} {s0 : Nat} {s1 : Int32} {h : eH} {q} (hf : fX36_clear_b45 l2 s0 s1 h = some q) : wp w d YX36_clear 45 [none, none, some (.int l2)] [.int s1, .ref s0] h (e_is (e_rn c_I q)) := by
  unfold fX36_clear_b45 at hf
  obtain ⟨h1, b2, hf⟩ := Option.bind_eq_some_iff.mp hf
  refine SX36_102 b2 dX36_clear_45 rfl ?_
  refine w_iload_n dX36_clear_48 rfl rfl ?_
  cases hf
  exact w_iret dX36_clear_49 rfl rfl rfl
def fX36_clear_b29 (l0 : Nat) (l1 : Int32) (l2 : Int32) (s0 : Nat) (s1 : Int32) (h : eH) : Option (Int32 × eH) :=
  (p_V 35 h s0 12 (.int s1)).bind fun h1 =>
  if l1 = 0 then
    fX36_clear_b45 l2 l0 (0 : Int32) h1
  else
    (g_I 35 h1 l0 5).bind fun x4 =>
    fX36_clear_b45 l2 l0 x4 h1
theorem pX36_clear_b29 {w : eW} {d : Nat} (hd : 0 ≤ d) {l0 : Nat} {l1 : Int32} {l2 : Int32} {s0 : Nat} {s1 : Int32} {h : eH} {q} (hf : fX36_clear_b29 l0 l1 l2 s0 s1 h = some q) : wp w d YX36_clear 29 [some (.ref l0), some (.int l1), some (.int l2)] [.int s1, .ref s0] h (e_is (e_rn c_I q)) := by
  unfold fX36_clear_b29 at hf
  obtain ⟨h1, b2, hf⟩ := Option.bind_eq_some_iff.mp hf
  refine SX36_125 b2 dX36_clear_29 rfl ?_
  refine w_aload_n dX36_clear_32 rfl rfl ?_
  refine w_iload_n dX36_clear_33 rfl rfl ?_
  refine w_if_eq 44 dX36_clear_34 (by decide) (fun c3 => ?_) (fun c3 => ?_)
  · replace hf := (if_pos (show l1 = 0 from c3)).symm.trans hf
    refine w_iconst dX36_clear_44 (v := 0) (by decide) ?_
    exact (pX36_clear_b45 hd hf).to ⟨rfl, trivial⟩
  · replace hf := (if_neg (show ¬ (l1 = 0) from c3)).symm.trans hf
    refine w_aload_n dX36_clear_37 rfl rfl ?_
    obtain ⟨x4, b5, hf⟩ := Option.bind_eq_some_iff.mp hf
    refine GX36_102 b5 dX36_clear_38 rfl ?_
    refine w_goto 45 dX36_clear_41 (by decide) ?_
    exact (pX36_clear_b45 hd hf).to ⟨rfl, trivial⟩
def fX36_clear_b15 (l0 : Nat) (l1 : Int32) (s0 : Int32) (h : eH) : Option (Int32 × eH) :=
  if l1 = 0 then
    (g_I 35 h l0 12).bind fun x2 =>
    fX36_clear_b29 l0 l1 s0 l0 x2 h
  else
    fX36_clear_b29 l0 l1 s0 l0 (0 : Int32) h
theorem pX36_clear_b15 {w : eW} {d : Nat} (hd : 0 ≤ d) {l0 : Nat} {l1 : Int32} {s0 : Int32} {h : eH} {q} (hf : fX36_clear_b15 l0 l1 s0 h = some q) : wp w d YX36_clear 15 [some (.ref l0), some (.int l1), none] [.int s0] h (e_is (e_rn c_I q)) := by
  unfold fX36_clear_b15 at hf
  refine w_istore_n dX36_clear_15 rfl (by decide) (ls' := [some (.ref l0), some (.int l1), some (.int s0)]) rfl ?_
  refine w_aload_n dX36_clear_16 rfl rfl ?_
  refine w_iload_n dX36_clear_17 rfl rfl ?_
  refine w_if_eq 25 dX36_clear_18 (by decide) (fun c1 => ?_) (fun c1 => ?_)
  · replace hf := (if_pos (show l1 = 0 from c1)).symm.trans hf
    refine w_aload_n dX36_clear_25 rfl rfl ?_
    obtain ⟨x2, b3, hf⟩ := Option.bind_eq_some_iff.mp hf
    refine GX36_125 b3 dX36_clear_26 rfl ?_
    exact (pX36_clear_b29 hd hf).to ⟨rfl, rfl, rfl, trivial⟩
  · replace hf := (if_neg (show ¬ (l1 = 0) from c1)).symm.trans hf
    refine w_iconst dX36_clear_21 (v := 0) (by decide) ?_
    refine w_goto 29 dX36_clear_22 (by decide) ?_
    exact (pX36_clear_b29 hd hf).to ⟨rfl, rfl, rfl, trivial⟩
def fX36_clear (this : Nat) (p0 : Int32) (h : eH) : Option (Int32 × eH) :=
  if p0 = 0 then
    (g_I 35 h this 5).bind fun x2 =>
    fX36_clear_b15 this p0 x2 h
  else
    (g_I 35 h this 12).bind fun x4 =>
    fX36_clear_b15 this p0 x4 h
theorem pX36_clear {w : eW} {d : Nat} (hd : 0 ≤ d) {this : Nat} {p0 : Int32} {h : eH} {q} (hf : fX36_clear this p0 h = some q) : wm w d YX36_clear [.ref this, .int p0] h (e_is (e_rn c_I q)) := by
  show wp w d YX36_clear 0 [some (.ref this), some (.int p0), none] [] h _
  unfold fX36_clear at hf
  refine w_iload_n dX36_clear_0 rfl rfl ?_
  refine w_if_eq 11 dX36_clear_1 (by decide) (fun c1 => ?_) (fun c1 => ?_)
  · replace hf := (if_pos (show p0 = 0 from c1)).symm.trans hf
    refine w_aload_n dX36_clear_11 rfl rfl ?_
    obtain ⟨x2, b3, hf⟩ := Option.bind_eq_some_iff.mp hf
    refine GX36_102 b3 dX36_clear_12 rfl ?_
    exact (pX36_clear_b15 hd hf).to ⟨rfl, rfl, trivial⟩
  · replace hf := (if_neg (show ¬ (p0 = 0) from c1)).symm.trans hf
    refine w_aload_n dX36_clear_4 rfl rfl ?_
    obtain ⟨x4, b5, hf⟩ := Option.bind_eq_some_iff.mp hf
    refine GX36_125 b5 dX36_clear_5 rfl ?_
    refine w_goto 15 dX36_clear_8 (by decide) ?_
    exact (pX36_clear_b15 hd hf).to ⟨rfl, rfl, trivial⟩
abbrev cX35_clear_2 : ByteArray := prog_37_method_7_code
def yX35_clear_2 : MethodName := ⟨RX35, "clear", "(Z)I"⟩
def YX35_clear_2 : eY := (yX35_clear_2, cX35_clear_2, 2, (Option.some FieldType.int), [])
theorem mX35_clear_2 : e_mv YX35_clear_2 RX35 1 := ⟨q6053, q6054, q6055, by decide, by decide +kernel, (e_sig (by decide +kernel))⟩
theorem dX35_clear_2_0 : decode cX35_clear_2 0 = .ok (.aload_n 0, 1) := dc_42 (by decide +kernel)
theorem dX35_clear_2_1 : decode cX35_clear_2 1 = .ok (.iconst 0, 1) := dc_3 (by decide +kernel)
theorem dX35_clear_2_2 : decode cX35_clear_2 2 = .ok (.putfield 252, 3) := dc_181 (a := 0) (b := 252) (n := 252) (by decide +kernel)
theorem dX35_clear_2_5 : decode cX35_clear_2 5 = .ok (.aload_n 0, 1) := dc_42 (by decide +kernel)
theorem dX35_clear_2_6 : decode cX35_clear_2 6 = .ok (.getfield 28, 3) := dc_180 (a := 0) (b := 28) (n := 28) (by decide +kernel)
theorem dX35_clear_2_9 : decode cX35_clear_2 9 = .ok (.iload_n 1, 1) := dc_27 (by decide +kernel)
theorem dX35_clear_2_10 : decode cX35_clear_2 10 = .ok (.invokevirtual 291, 3) := dc_182 (a := 1) (b := 35) (n := 291) (by decide +kernel)
theorem dX35_clear_2_13 : decode cX35_clear_2 13 = .ok (.ireturn, 1) := dc_172 (by decide +kernel)
def fX35_clear_2 (this : Nat) (p0 : Int32) (h : eH) : Option (Int32 × eH) :=
  (p_V 34 h this 0 (.int (0 : Int32))).bind fun h1 =>
  (g_A 34 h1 this 5).bind fun a3 =>
  (k_ok 35 h1 a3).bind fun _ =>
  (fX36_clear a3 p0 h1).bind fun q6 =>
  some (q6.1, q6.2)
theorem pX35_clear_2 {w : eW} {d : Nat} (hd : 1 ≤ d) {this : Nat} {p0 : Int32} {h : eH} {q} (hf : fX35_clear_2 this p0 h = some q) : wm w d YX35_clear_2 [.ref this, .int p0] h (e_is (e_rn c_I q)) := by
  obtain ⟨d, rfl⟩ : ∃ e, d = e + 1 := ⟨d - 1, by omega⟩
  show wp w (d + 1) YX35_clear_2 0 [some (.ref this), some (.int p0)] [] h _
  unfold fX35_clear_2 at hf
  refine w_aload_n dX35_clear_2_0 rfl rfl ?_
  refine w_iconst dX35_clear_2_1 (v := 0) (by decide) ?_
  obtain ⟨h1, b2, hf⟩ := Option.bind_eq_some_iff.mp hf
  refine SX35_252 b2 dX35_clear_2_2 rfl ?_
  refine w_aload_n dX35_clear_2_5 rfl rfl ?_
  obtain ⟨a3, b4, hf⟩ := Option.bind_eq_some_iff.mp hf
  refine GX35_28 b4 dX35_clear_2_6 rfl ?_
  refine w_iload_n dX35_clear_2_9 rfl rfl ?_
  obtain ⟨_, b5, hf⟩ := Option.bind_eq_some_iff.mp hf
  refine x_cnI hf (e_stV (Yc := YX36_clear) (ci := 35) (av := [.int p0]) (st := []) dX35_clear_2_10 q6056 mX36_clear rfl (k_ok_some b5).1 (k_ok_some b5).2) mX36_clear.2.2.1 mX36_clear.2.2.2.2.1 (Nat.le_of_ble_eq_true rfl) (Nat.le_of_ble_eq_true rfl) (fun q hq => pX36_clear (by omega) hq) (fun q6 hf => ?_)
  cases hf
  exact w_iret dX35_clear_2_13 rfl rfl rfl
abbrev cX37_append : ByteArray := prog_38_method_5_code
def yX37_append : MethodName := ⟨RX37, "append", "(IIIIIII)I"⟩
def YX37_append : eY := (yX37_append, cX37_append, 9, (Option.some FieldType.int), [])
theorem mX37_append : e_mv YX37_append RX37 7 := ⟨q5752, qs368, q5753, by decide, by decide +kernel, (e_sig (by decide +kernel))⟩
theorem dX37_append_0 : decode cX37_append 0 = .ok (.aload_n 0, 1) := dc_42 (by decide +kernel)
theorem dX37_append_1 : decode cX37_append 1 = .ok (.getfield 104, 3) := dc_180 (a := 0) (b := 104) (n := 104) (by decide +kernel)
theorem dX37_append_4 : decode cX37_append 4 = .ok (.istore 8, 2) := dc_54 (a := 8) (by decide +kernel)
theorem dX37_append_6 : decode cX37_append 6 = .ok (.aload_n 0, 1) := dc_42 (by decide +kernel)
theorem dX37_append_7 : decode cX37_append 7 = .ok (.getfield 7, 3) := dc_180 (a := 0) (b := 7) (n := 7) (by decide +kernel)
theorem dX37_append_10 : decode cX37_append 10 = .ok (.iload 8, 2) := dc_21 (a := 8) (by decide +kernel)
theorem dX37_append_12 : decode cX37_append 12 = .ok (.iload_n 1, 1) := dc_27 (by decide +kernel)
theorem dX37_append_13 : decode cX37_append 13 = .ok (.iastore, 1) := dc_79 (by decide +kernel)
theorem dX37_append_14 : decode cX37_append 14 = .ok (.aload_n 0, 1) := dc_42 (by decide +kernel)
theorem dX37_append_15 : decode cX37_append 15 = .ok (.getfield 13, 3) := dc_180 (a := 0) (b := 13) (n := 13) (by decide +kernel)
theorem dX37_append_18 : decode cX37_append 18 = .ok (.iload 8, 2) := dc_21 (a := 8) (by decide +kernel)
theorem dX37_append_20 : decode cX37_append 20 = .ok (.iload_n 2, 1) := dc_28 (by decide +kernel)
theorem dX37_append_21 : decode cX37_append 21 = .ok (.iastore, 1) := dc_79 (by decide +kernel)
theorem dX37_append_22 : decode cX37_append 22 = .ok (.aload_n 0, 1) := dc_42 (by decide +kernel)
theorem dX37_append_23 : decode cX37_append 23 = .ok (.getfield 16, 3) := dc_180 (a := 0) (b := 16) (n := 16) (by decide +kernel)
theorem dX37_append_26 : decode cX37_append 26 = .ok (.iload 8, 2) := dc_21 (a := 8) (by decide +kernel)
theorem dX37_append_28 : decode cX37_append 28 = .ok (.iload_n 3, 1) := dc_29 (by decide +kernel)
theorem dX37_append_29 : decode cX37_append 29 = .ok (.iastore, 1) := dc_79 (by decide +kernel)
theorem dX37_append_30 : decode cX37_append 30 = .ok (.aload_n 0, 1) := dc_42 (by decide +kernel)
theorem dX37_append_31 : decode cX37_append 31 = .ok (.getfield 19, 3) := dc_180 (a := 0) (b := 19) (n := 19) (by decide +kernel)
theorem dX37_append_34 : decode cX37_append 34 = .ok (.iload 8, 2) := dc_21 (a := 8) (by decide +kernel)
theorem dX37_append_36 : decode cX37_append 36 = .ok (.iload 4, 2) := dc_21 (a := 4) (by decide +kernel)
theorem dX37_append_38 : decode cX37_append 38 = .ok (.iastore, 1) := dc_79 (by decide +kernel)
theorem dX37_append_39 : decode cX37_append 39 = .ok (.aload_n 0, 1) := dc_42 (by decide +kernel)
theorem dX37_append_40 : decode cX37_append 40 = .ok (.getfield 22, 3) := dc_180 (a := 0) (b := 22) (n := 22) (by decide +kernel)
theorem dX37_append_43 : decode cX37_append 43 = .ok (.iload 8, 2) := dc_21 (a := 8) (by decide +kernel)
theorem dX37_append_45 : decode cX37_append 45 = .ok (.iload 5, 2) := dc_21 (a := 5) (by decide +kernel)
theorem dX37_append_47 : decode cX37_append 47 = .ok (.iastore, 1) := dc_79 (by decide +kernel)
theorem dX37_append_48 : decode cX37_append 48 = .ok (.aload_n 0, 1) := dc_42 (by decide +kernel)
theorem dX37_append_49 : decode cX37_append 49 = .ok (.getfield 25, 3) := dc_180 (a := 0) (b := 25) (n := 25) (by decide +kernel)
theorem dX37_append_52 : decode cX37_append 52 = .ok (.iload 8, 2) := dc_21 (a := 8) (by decide +kernel)
theorem dX37_append_54 : decode cX37_append 54 = .ok (.iload_n 2, 1) := dc_28 (by decide +kernel)
theorem dX37_append_55 : decode cX37_append 55 = .ok (.iastore, 1) := dc_79 (by decide +kernel)
theorem dX37_append_56 : decode cX37_append 56 = .ok (.aload_n 0, 1) := dc_42 (by decide +kernel)
theorem dX37_append_57 : decode cX37_append 57 = .ok (.getfield 28, 3) := dc_180 (a := 0) (b := 28) (n := 28) (by decide +kernel)
theorem dX37_append_60 : decode cX37_append 60 = .ok (.iload 8, 2) := dc_21 (a := 8) (by decide +kernel)
theorem dX37_append_62 : decode cX37_append 62 = .ok (.iload 6, 2) := dc_21 (a := 6) (by decide +kernel)
theorem dX37_append_64 : decode cX37_append 64 = .ok (.iastore, 1) := dc_79 (by decide +kernel)
theorem dX37_append_65 : decode cX37_append 65 = .ok (.aload_n 0, 1) := dc_42 (by decide +kernel)
theorem dX37_append_66 : decode cX37_append 66 = .ok (.getfield 31, 3) := dc_180 (a := 0) (b := 31) (n := 31) (by decide +kernel)
theorem dX37_append_69 : decode cX37_append 69 = .ok (.iload 8, 2) := dc_21 (a := 8) (by decide +kernel)
theorem dX37_append_71 : decode cX37_append 71 = .ok (.iload 7, 2) := dc_21 (a := 7) (by decide +kernel)
theorem dX37_append_73 : decode cX37_append 73 = .ok (.iastore, 1) := dc_79 (by decide +kernel)
theorem dX37_append_74 : decode cX37_append 74 = .ok (.aload_n 0, 1) := dc_42 (by decide +kernel)
theorem dX37_append_75 : decode cX37_append 75 = .ok (.dup, 1) := dc_89 (by decide +kernel)
theorem dX37_append_76 : decode cX37_append 76 = .ok (.getfield 104, 3) := dc_180 (a := 0) (b := 104) (n := 104) (by decide +kernel)
theorem dX37_append_79 : decode cX37_append 79 = .ok (.iconst 1, 1) := dc_4 (by decide +kernel)
theorem dX37_append_80 : decode cX37_append 80 = .ok (.iadd, 1) := dc_96 (by decide +kernel)
theorem dX37_append_81 : decode cX37_append 81 = .ok (.putfield 104, 3) := dc_181 (a := 0) (b := 104) (n := 104) (by decide +kernel)
theorem dX37_append_84 : decode cX37_append 84 = .ok (.aload_n 0, 1) := dc_42 (by decide +kernel)
theorem dX37_append_85 : decode cX37_append 85 = .ok (.iconst 0, 1) := dc_3 (by decide +kernel)
theorem dX37_append_86 : decode cX37_append 86 = .ok (.putfield 108, 3) := dc_181 (a := 0) (b := 108) (n := 108) (by decide +kernel)
theorem dX37_append_89 : decode cX37_append 89 = .ok (.iload 8, 2) := dc_21 (a := 8) (by decide +kernel)
theorem dX37_append_91 : decode cX37_append 91 = .ok (.ireturn, 1) := dc_172 (by decide +kernel)
theorem GX37_104 {w : eW} {d : Nat} {Y : eY} {pc : Nat} {ls : eL} {st : List Value} {h : eH} {Q : eO → eH → Prop} {a : Nat} {x : Int32} (hf : g_I 36 h a 1 = some x) (hd : decode Y.2.1 pc = .ok (.getfield 104, 3)) (hY : Y.1.cls = RX37) (kk : wp w d Y (pc + 3) ls (.int x :: st) h Q) : wp w d Y pc ls (.ref a :: st) h Q := x_gI (ci := 36) (k := 1) hf hd rfl (by decide) (by rw [hY]; exact q4228) kk
theorem GX37_13 {w : eW} {d : Nat} {Y : eY} {pc : Nat} {ls : eL} {st : List Value} {h : eH} {Q : eO → eH → Prop} {a : Nat} {x : Nat} (hf : g_A 36 h a 3 = some x) (hd : decode Y.2.1 pc = .ok (.getfield 13, 3)) (hY : Y.1.cls = RX37) (kk : wp w d Y (pc + 3) ls (.ref x :: st) h Q) : wp w d Y pc ls (.ref a :: st) h Q := x_gA (ci := 36) (k := 3) hf hd rfl (by decide) (by rw [hY]; exact q4231) kk
theorem GX37_16 {w : eW} {d : Nat} {Y : eY} {pc : Nat} {ls : eL} {st : List Value} {h : eH} {Q : eO → eH → Prop} {a : Nat} {x : Nat} (hf : g_A 36 h a 4 = some x) (hd : decode Y.2.1 pc = .ok (.getfield 16, 3)) (hY : Y.1.cls = RX37) (kk : wp w d Y (pc + 3) ls (.ref x :: st) h Q) : wp w d Y pc ls (.ref a :: st) h Q := x_gA (ci := 36) (k := 4) hf hd rfl (by decide) (by rw [hY]; exact q4232) kk
theorem GX37_19 {w : eW} {d : Nat} {Y : eY} {pc : Nat} {ls : eL} {st : List Value} {h : eH} {Q : eO → eH → Prop} {a : Nat} {x : Nat} (hf : g_A 36 h a 5 = some x) (hd : decode Y.2.1 pc = .ok (.getfield 19, 3)) (hY : Y.1.cls = RX37) (kk : wp w d Y (pc + 3) ls (.ref x :: st) h Q) : wp w d Y pc ls (.ref a :: st) h Q := x_gA (ci := 36) (k := 5) hf hd rfl (by decide) (by rw [hY]; exact q4233) kk
theorem GX37_22 {w : eW} {d : Nat} {Y : eY} {pc : Nat} {ls : eL} {st : List Value} {h : eH} {Q : eO → eH → Prop} {a : Nat} {x : Nat} (hf : g_A 36 h a 6 = some x) (hd : decode Y.2.1 pc = .ok (.getfield 22, 3)) (hY : Y.1.cls = RX37) (kk : wp w d Y (pc + 3) ls (.ref x :: st) h Q) : wp w d Y pc ls (.ref a :: st) h Q := x_gA (ci := 36) (k := 6) hf hd rfl (by decide) (by rw [hY]; exact q4234) kk
theorem GX37_25 {w : eW} {d : Nat} {Y : eY} {pc : Nat} {ls : eL} {st : List Value} {h : eH} {Q : eO → eH → Prop} {a : Nat} {x : Nat} (hf : g_A 36 h a 7 = some x) (hd : decode Y.2.1 pc = .ok (.getfield 25, 3)) (hY : Y.1.cls = RX37) (kk : wp w d Y (pc + 3) ls (.ref x :: st) h Q) : wp w d Y pc ls (.ref a :: st) h Q := x_gA (ci := 36) (k := 7) hf hd rfl (by decide) (by rw [hY]; exact q4235) kk
theorem GX37_28 {w : eW} {d : Nat} {Y : eY} {pc : Nat} {ls : eL} {st : List Value} {h : eH} {Q : eO → eH → Prop} {a : Nat} {x : Nat} (hf : g_A 36 h a 8 = some x) (hd : decode Y.2.1 pc = .ok (.getfield 28, 3)) (hY : Y.1.cls = RX37) (kk : wp w d Y (pc + 3) ls (.ref x :: st) h Q) : wp w d Y pc ls (.ref a :: st) h Q := x_gA (ci := 36) (k := 8) hf hd rfl (by decide) (by rw [hY]; exact q4236) kk
theorem GX37_31 {w : eW} {d : Nat} {Y : eY} {pc : Nat} {ls : eL} {st : List Value} {h : eH} {Q : eO → eH → Prop} {a : Nat} {x : Nat} (hf : g_A 36 h a 9 = some x) (hd : decode Y.2.1 pc = .ok (.getfield 31, 3)) (hY : Y.1.cls = RX37) (kk : wp w d Y (pc + 3) ls (.ref x :: st) h Q) : wp w d Y pc ls (.ref a :: st) h Q := x_gA (ci := 36) (k := 9) hf hd rfl (by decide) (by rw [hY]; exact q4237) kk
theorem GX37_7 {w : eW} {d : Nat} {Y : eY} {pc : Nat} {ls : eL} {st : List Value} {h : eH} {Q : eO → eH → Prop} {a : Nat} {x : Nat} (hf : g_A 36 h a 2 = some x) (hd : decode Y.2.1 pc = .ok (.getfield 7, 3)) (hY : Y.1.cls = RX37) (kk : wp w d Y (pc + 3) ls (.ref x :: st) h Q) : wp w d Y pc ls (.ref a :: st) h Q := x_gA (ci := 36) (k := 2) hf hd rfl (by decide) (by rw [hY]; exact q4230) kk
theorem SX37_104 {w : eW} {d : Nat} {Y : eY} {pc : Nat} {ls : eL} {st : List Value} {h : eH} {Q : eO → eH → Prop} {a : Nat} {h' : eH} {x : Int32} (hf : p_V 36 h a 1 (.int x) = some h') (hd : decode Y.2.1 pc = .ok (.putfield 104, 3)) (hY : Y.1.cls = RX37) (kk : wp w d Y (pc + 3) ls st h' Q) : wp w d Y pc ls (.int x :: .ref a :: st) h Q := x_pI (ci := 36) (k := 1) hf hd rfl (by decide) (by rw [hY]; exact q4228) rfl rfl kk
theorem SX37_108 {w : eW} {d : Nat} {Y : eY} {pc : Nat} {ls : eL} {st : List Value} {h : eH} {Q : eO → eH → Prop} {a : Nat} {h' : eH} {x : Int32} (hf : p_V 36 h a 36 (.int x) = some h') (hd : decode Y.2.1 pc = .ok (.putfield 108, 3)) (hY : Y.1.cls = RX37) (kk : wp w d Y (pc + 3) ls st h' Q) : wp w d Y pc ls (.int x :: .ref a :: st) h Q := x_pI (ci := 36) (k := 36) hf hd rfl (by decide) (by rw [hY]; exact q4271) rfl rfl kk
def fX37_append (this : Nat) (p0 : Int32) (p1 : Int32) (p2 : Int32) (p3 : Int32) (p4 : Int32) (p5 : Int32) (p6 : Int32) (h : eH) : Option (Int32 × eH) :=
  (g_I 36 h this 1).bind fun x1 =>
  (g_A 36 h this 2).bind fun a3 =>
  (q_V 100 h a3 x1 (.int p0)).bind fun h5 =>
  (g_A 36 h5 this 3).bind fun a7 =>
  (q_V 100 h5 a7 x1 (.int p1)).bind fun h9 =>
  (g_A 36 h9 this 4).bind fun a11 =>
  (q_V 100 h9 a11 x1 (.int p2)).bind fun h13 =>
  (g_A 36 h13 this 5).bind fun a15 =>
  (q_V 100 h13 a15 x1 (.int p3)).bind fun h17 =>
  (g_A 36 h17 this 6).bind fun a19 =>
  (q_V 100 h17 a19 x1 (.int p4)).bind fun h21 =>
  (g_A 36 h21 this 7).bind fun a23 =>
  (q_V 100 h21 a23 x1 (.int p1)).bind fun h25 =>
  (g_A 36 h25 this 8).bind fun a27 =>
  (q_V 100 h25 a27 x1 (.int p5)).bind fun h29 =>
  (g_A 36 h29 this 9).bind fun a31 =>
  (q_V 100 h29 a31 x1 (.int p6)).bind fun h33 =>
  (g_I 36 h33 this 1).bind fun x35 =>
  (p_V 36 h33 this 1 (.int (x35 + (1 : Int32)))).bind fun h37 =>
  (p_V 36 h37 this 36 (.int (0 : Int32))).bind fun h39 =>
  some (x1, h39)
theorem pX37_append {w : eW} {d : Nat} (hd : 0 ≤ d) {this : Nat} {p0 : Int32} {p1 : Int32} {p2 : Int32} {p3 : Int32} {p4 : Int32} {p5 : Int32} {p6 : Int32} {h : eH} {q} (hf : fX37_append this p0 p1 p2 p3 p4 p5 p6 h = some q) : wm w d YX37_append [.ref this, .int p0, .int p1, .int p2, .int p3, .int p4, .int p5, .int p6] h (e_is (e_rn c_I q)) := by
  show wp w d YX37_append 0 [some (.ref this), some (.int p0), some (.int p1), some (.int p2), some (.int p3), some (.int p4), some (.int p5), some (.int p6), none] [] h _
  unfold fX37_append at hf
  refine w_aload_n dX37_append_0 rfl rfl ?_
  obtain ⟨x1, b2, hf⟩ := Option.bind_eq_some_iff.mp hf
  refine GX37_104 b2 dX37_append_1 rfl ?_
  refine w_istore dX37_append_4 (by decide) (ls' := [some (.ref this), some (.int p0), some (.int p1), some (.int p2), some (.int p3), some (.int p4), some (.int p5), some (.int p6), some (.int x1)]) rfl ?_
  refine w_aload_n dX37_append_6 rfl rfl ?_
  obtain ⟨a3, b4, hf⟩ := Option.bind_eq_some_iff.mp hf
  refine GX37_7 b4 dX37_append_7 rfl ?_
  refine w_iload dX37_append_10 rfl ?_
  refine w_iload_n dX37_append_12 rfl rfl ?_
  obtain ⟨h5, b6, hf⟩ := Option.bind_eq_some_iff.mp hf
  refine x_qI b6 dX37_append_13 ?_
  refine w_aload_n dX37_append_14 rfl rfl ?_
  obtain ⟨a7, b8, hf⟩ := Option.bind_eq_some_iff.mp hf
  refine GX37_13 b8 dX37_append_15 rfl ?_
  refine w_iload dX37_append_18 rfl ?_
  refine w_iload_n dX37_append_20 rfl rfl ?_
  obtain ⟨h9, b10, hf⟩ := Option.bind_eq_some_iff.mp hf
  refine x_qI b10 dX37_append_21 ?_
  refine w_aload_n dX37_append_22 rfl rfl ?_
  obtain ⟨a11, b12, hf⟩ := Option.bind_eq_some_iff.mp hf
  refine GX37_16 b12 dX37_append_23 rfl ?_
  refine w_iload dX37_append_26 rfl ?_
  refine w_iload_n dX37_append_28 rfl rfl ?_
  obtain ⟨h13, b14, hf⟩ := Option.bind_eq_some_iff.mp hf
  refine x_qI b14 dX37_append_29 ?_
  refine w_aload_n dX37_append_30 rfl rfl ?_
  obtain ⟨a15, b16, hf⟩ := Option.bind_eq_some_iff.mp hf
  refine GX37_19 b16 dX37_append_31 rfl ?_
  refine w_iload dX37_append_34 rfl ?_
  refine w_iload dX37_append_36 rfl ?_
  obtain ⟨h17, b18, hf⟩ := Option.bind_eq_some_iff.mp hf
  refine x_qI b18 dX37_append_38 ?_
  refine w_aload_n dX37_append_39 rfl rfl ?_
  obtain ⟨a19, b20, hf⟩ := Option.bind_eq_some_iff.mp hf
  refine GX37_22 b20 dX37_append_40 rfl ?_
  refine w_iload dX37_append_43 rfl ?_
  refine w_iload dX37_append_45 rfl ?_
  obtain ⟨h21, b22, hf⟩ := Option.bind_eq_some_iff.mp hf
  refine x_qI b22 dX37_append_47 ?_
  refine w_aload_n dX37_append_48 rfl rfl ?_
  obtain ⟨a23, b24, hf⟩ := Option.bind_eq_some_iff.mp hf
  refine GX37_25 b24 dX37_append_49 rfl ?_
  refine w_iload dX37_append_52 rfl ?_
  refine w_iload_n dX37_append_54 rfl rfl ?_
  obtain ⟨h25, b26, hf⟩ := Option.bind_eq_some_iff.mp hf
  refine x_qI b26 dX37_append_55 ?_
  refine w_aload_n dX37_append_56 rfl rfl ?_
  obtain ⟨a27, b28, hf⟩ := Option.bind_eq_some_iff.mp hf
  refine GX37_28 b28 dX37_append_57 rfl ?_
  refine w_iload dX37_append_60 rfl ?_
  refine w_iload dX37_append_62 rfl ?_
  obtain ⟨h29, b30, hf⟩ := Option.bind_eq_some_iff.mp hf
  refine x_qI b30 dX37_append_64 ?_
  refine w_aload_n dX37_append_65 rfl rfl ?_
  obtain ⟨a31, b32, hf⟩ := Option.bind_eq_some_iff.mp hf
  refine GX37_31 b32 dX37_append_66 rfl ?_
  refine w_iload dX37_append_69 rfl ?_
  refine w_iload dX37_append_71 rfl ?_
  obtain ⟨h33, b34, hf⟩ := Option.bind_eq_some_iff.mp hf
  refine x_qI b34 dX37_append_73 ?_
  refine w_aload_n dX37_append_74 rfl rfl ?_
  refine w_dup dX37_append_75 rfl ?_
  obtain ⟨x35, b36, hf⟩ := Option.bind_eq_some_iff.mp hf
  refine GX37_104 b36 dX37_append_76 rfl ?_
  refine w_iconst dX37_append_79 (v := 1) (by decide) ?_
  refine w_iadd dX37_append_80 ?_
  obtain ⟨h37, b38, hf⟩ := Option.bind_eq_some_iff.mp hf
  refine SX37_104 b38 dX37_append_81 rfl ?_
  refine w_aload_n dX37_append_84 rfl rfl ?_
  refine w_iconst dX37_append_85 (v := 0) (by decide) ?_
  obtain ⟨h39, b40, hf⟩ := Option.bind_eq_some_iff.mp hf
  refine SX37_108 b40 dX37_append_86 rfl ?_
  refine w_iload dX37_append_89 rfl ?_
  cases hf
  exact w_iret dX37_append_91 rfl rfl rfl
abbrev cX35_within : ByteArray := prog_37_method_123_code
def yX35_within : MethodName := ⟨RX35, "within", "(III)I"⟩
def YX35_within : eY := (yX35_within, cX35_within, 3, (Option.some FieldType.int), [])
theorem mX35_within : e_ms YX35_within 3 := ⟨q5756, q466, q5757, by decide, by decide +kernel, (e_sig (by decide +kernel))⟩
theorem dX35_within_0 : decode cX35_within 0 = .ok (.iload_n 0, 1) := dc_26 (by decide +kernel)
theorem dX35_within_1 : decode cX35_within 1 = .ok (.iload_n 1, 1) := dc_27 (by decide +kernel)
theorem dX35_within_2 : decode cX35_within 2 = .ok (.if_icmp .ge 7, 3) := dc_162 (a := 0) (b := 7) (v := 7) (by decide +kernel)
theorem dX35_within_5 : decode cX35_within 5 = .ok (.iload_n 1, 1) := dc_27 (by decide +kernel)
theorem dX35_within_6 : decode cX35_within 6 = .ok (.goto 13, 3) := dc_167 (a := 0) (b := 13) (v := 13) (by decide +kernel)
theorem dX35_within_9 : decode cX35_within 9 = .ok (.iload_n 0, 1) := dc_26 (by decide +kernel)
theorem dX35_within_10 : decode cX35_within 10 = .ok (.iload_n 2, 1) := dc_28 (by decide +kernel)
theorem dX35_within_11 : decode cX35_within 11 = .ok (.if_icmp .le 7, 3) := dc_164 (a := 0) (b := 7) (v := 7) (by decide +kernel)
theorem dX35_within_14 : decode cX35_within 14 = .ok (.iload_n 2, 1) := dc_28 (by decide +kernel)
theorem dX35_within_15 : decode cX35_within 15 = .ok (.goto 4, 3) := dc_167 (a := 0) (b := 4) (v := 4) (by decide +kernel)
theorem dX35_within_18 : decode cX35_within 18 = .ok (.iload_n 0, 1) := dc_26 (by decide +kernel)
theorem dX35_within_19 : decode cX35_within 19 = .ok (.ireturn, 1) := dc_172 (by decide +kernel)
def fX35_within_b19 (s0 : Int32) (h : eH) : Option (Int32 × eH) :=
  some (s0, h)
theorem pX35_within_b19 {w : eW} {d : Nat} (hd : 0 ≤ d) {s0 : Int32} {h : eH} {q} (hf : fX35_within_b19 s0 h = some q) : wp w d YX35_within 19 [none, none, none] [.int s0] h (e_is (e_rn c_I q)) := by
  unfold fX35_within_b19 at hf
  cases hf
  exact w_iret dX35_within_19 rfl rfl rfl
def fX35_within (p0 : Int32) (p1 : Int32) (p2 : Int32) (h : eH) : Option (Int32 × eH) :=
  if p1 ≤ p0 then
    if p0 ≤ p2 then
      fX35_within_b19 p0 h
    else
      fX35_within_b19 p2 h
  else
    fX35_within_b19 p1 h
theorem pX35_within {w : eW} {d : Nat} (hd : 0 ≤ d) {p0 : Int32} {p1 : Int32} {p2 : Int32} {h : eH} {q} (hf : fX35_within p0 p1 p2 h = some q) : wm w d YX35_within [.int p0, .int p1, .int p2] h (e_is (e_rn c_I q)) := by
  show wp w d YX35_within 0 [some (.int p0), some (.int p1), some (.int p2)] [] h _
  unfold fX35_within at hf
  refine w_iload_n dX35_within_0 rfl rfl ?_
  refine w_iload_n dX35_within_1 rfl rfl ?_
  refine w_icmp_ge 9 dX35_within_2 (by decide) (fun c1 => ?_) (fun c1 => ?_)
  · replace hf := (if_pos (show p1 ≤ p0 from c1)).symm.trans hf
    refine w_iload_n dX35_within_9 rfl rfl ?_
    refine w_iload_n dX35_within_10 rfl rfl ?_
    refine w_icmp_le 18 dX35_within_11 (by decide) (fun c2 => ?_) (fun c2 => ?_)
    · replace hf := (if_pos (show p0 ≤ p2 from c2)).symm.trans hf
      refine w_iload_n dX35_within_18 rfl rfl ?_
      exact (pX35_within_b19 hd hf).to trivial
    · replace hf := (if_neg (show ¬ (p0 ≤ p2) from c2)).symm.trans hf
      refine w_iload_n dX35_within_14 rfl rfl ?_
      refine w_goto 19 dX35_within_15 (by decide) ?_
      exact (pX35_within_b19 hd hf).to trivial
  · replace hf := (if_neg (show ¬ (p1 ≤ p0) from c1)).symm.trans hf
    refine w_iload_n dX35_within_5 rfl rfl ?_
    refine w_goto 19 dX35_within_6 (by decide) ?_
    exact (pX35_within_b19 hd hf).to trivial
abbrev cX35_tell : ByteArray := prog_37_method_126_code
def yX35_tell : MethodName := ⟨RX35, "tell", "(I)V"⟩
def YX35_tell : eY := (yX35_tell, cX35_tell, 5, none, [])
theorem mX35_tell : e_mv YX35_tell RX35 1 := ⟨q5748, qs367, q5749, by decide, by decide +kernel, (e_sig (by decide +kernel))⟩
theorem dX35_tell_0 : decode cX35_tell 0 = .ok (.aload_n 0, 1) := dc_42 (by decide +kernel)
theorem dX35_tell_1 : decode cX35_tell 1 = .ok (.getfield 35, 3) := dc_180 (a := 0) (b := 35) (n := 35) (by decide +kernel)
theorem dX35_tell_4 : decode cX35_tell 4 = .ok (.iconst 0, 1) := dc_3 (by decide +kernel)
theorem dX35_tell_5 : decode cX35_tell 5 = .ok (.putfield 898, 3) := dc_181 (a := 3) (b := 130) (n := 898) (by decide +kernel)
theorem dX35_tell_8 : decode cX35_tell 8 = .ok (.iconst 0, 1) := dc_3 (by decide +kernel)
theorem dX35_tell_9 : decode cX35_tell 9 = .ok (.istore_n 2, 1) := dc_61 (by decide +kernel)
theorem dX35_tell_10 : decode cX35_tell 10 = .ok (.iload_n 2, 1) := dc_28 (by decide +kernel)
theorem dX35_tell_11 : decode cX35_tell 11 = .ok (.iload_n 1, 1) := dc_27 (by decide +kernel)
theorem dX35_tell_12 : decode cX35_tell 12 = .ok (.if_icmp .ge 315, 3) := dc_162 (a := 1) (b := 59) (v := 315) (by decide +kernel)
theorem dX35_tell_15 : decode cX35_tell 15 = .ok (.bipush 6, 2) := dc_16 (a := 6) (v := 6) (by decide +kernel)
theorem dX35_tell_17 : decode cX35_tell 17 = .ok (.iload_n 2, 1) := dc_28 (by decide +kernel)
theorem dX35_tell_18 : decode cX35_tell 18 = .ok (.imul, 1) := dc_104 (by decide +kernel)
theorem dX35_tell_19 : decode cX35_tell 19 = .ok (.istore_n 3, 1) := dc_62 (by decide +kernel)
theorem dX35_tell_20 : decode cX35_tell 20 = .ok (.aload_n 0, 1) := dc_42 (by decide +kernel)
theorem dX35_tell_21 : decode cX35_tell 21 = .ok (.getfield 148, 3) := dc_180 (a := 0) (b := 148) (n := 148) (by decide +kernel)
theorem dX35_tell_24 : decode cX35_tell 24 = .ok (.iload_n 3, 1) := dc_29 (by decide +kernel)
theorem dX35_tell_25 : decode cX35_tell 25 = .ok (.iaload, 1) := dc_46 (by decide +kernel)
theorem dX35_tell_26 : decode cX35_tell 26 = .ok (.istore 4, 2) := dc_54 (a := 4) (by decide +kernel)
theorem dX35_tell_28 : decode cX35_tell 28 = .ok (.iload 4, 2) := dc_21 (a := 4) (by decide +kernel)
theorem dX35_tell_30 : decode cX35_tell 30 = .ok (.ifCond .ne 28, 3) := dc_154 (a := 0) (b := 28) (v := 28) (by decide +kernel)
theorem dX35_tell_33 : decode cX35_tell 33 = .ok (.aload_n 0, 1) := dc_42 (by decide +kernel)
theorem dX35_tell_34 : decode cX35_tell 34 = .ok (.getfield 35, 3) := dc_180 (a := 0) (b := 35) (n := 35) (by decide +kernel)
theorem dX35_tell_37 : decode cX35_tell 37 = .ok (.iconst 0, 1) := dc_3 (by decide +kernel)
theorem dX35_tell_38 : decode cX35_tell 38 = .ok (.aload_n 0, 1) := dc_42 (by decide +kernel)
theorem dX35_tell_39 : decode cX35_tell 39 = .ok (.getfield 148, 3) := dc_180 (a := 0) (b := 148) (n := 148) (by decide +kernel)
theorem dX35_tell_42 : decode cX35_tell 42 = .ok (.iload_n 3, 1) := dc_29 (by decide +kernel)
theorem dX35_tell_43 : decode cX35_tell 43 = .ok (.iconst 3, 1) := dc_6 (by decide +kernel)
theorem dX35_tell_44 : decode cX35_tell 44 = .ok (.iadd, 1) := dc_96 (by decide +kernel)
theorem dX35_tell_45 : decode cX35_tell 45 = .ok (.iaload, 1) := dc_46 (by decide +kernel)
theorem dX35_tell_46 : decode cX35_tell 46 = .ok (.iconst 0, 1) := dc_3 (by decide +kernel)
theorem dX35_tell_47 : decode cX35_tell 47 = .ok (.iconst 0, 1) := dc_3 (by decide +kernel)
theorem dX35_tell_48 : decode cX35_tell 48 = .ok (.iconst 0, 1) := dc_3 (by decide +kernel)
theorem dX35_tell_49 : decode cX35_tell 49 = .ok (.iconst 0, 1) := dc_3 (by decide +kernel)
theorem dX35_tell_50 : decode cX35_tell 50 = .ok (.iconst 0, 1) := dc_3 (by decide +kernel)
theorem dX35_tell_51 : decode cX35_tell 51 = .ok (.invokevirtual 899, 3) := dc_182 (a := 3) (b := 131) (n := 899) (by decide +kernel)
theorem dX35_tell_54 : decode cX35_tell 54 = .ok (.pop, 1) := dc_87 (by decide +kernel)
theorem dX35_tell_55 : decode cX35_tell 55 = .ok (.goto 266, 3) := dc_167 (a := 1) (b := 10) (v := 266) (by decide +kernel)
theorem dX35_tell_58 : decode cX35_tell 58 = .ok (.iload 4, 2) := dc_21 (a := 4) (by decide +kernel)
theorem dX35_tell_60 : decode cX35_tell 60 = .ok (.iconst 1, 1) := dc_4 (by decide +kernel)
theorem dX35_tell_61 : decode cX35_tell 61 = .ok (.if_icmp .ne 46, 3) := dc_160 (a := 0) (b := 46) (v := 46) (by decide +kernel)
theorem dX35_tell_64 : decode cX35_tell 64 = .ok (.aload_n 0, 1) := dc_42 (by decide +kernel)
theorem dX35_tell_65 : decode cX35_tell 65 = .ok (.getfield 35, 3) := dc_180 (a := 0) (b := 35) (n := 35) (by decide +kernel)
theorem dX35_tell_68 : decode cX35_tell 68 = .ok (.iconst 0, 1) := dc_3 (by decide +kernel)
theorem dX35_tell_69 : decode cX35_tell 69 = .ok (.aload_n 0, 1) := dc_42 (by decide +kernel)
theorem dX35_tell_70 : decode cX35_tell 70 = .ok (.getfield 148, 3) := dc_180 (a := 0) (b := 148) (n := 148) (by decide +kernel)
theorem dX35_tell_73 : decode cX35_tell 73 = .ok (.iload_n 3, 1) := dc_29 (by decide +kernel)
theorem dX35_tell_74 : decode cX35_tell 74 = .ok (.iconst 1, 1) := dc_4 (by decide +kernel)
theorem dX35_tell_75 : decode cX35_tell 75 = .ok (.iadd, 1) := dc_96 (by decide +kernel)
theorem dX35_tell_76 : decode cX35_tell 76 = .ok (.iaload, 1) := dc_46 (by decide +kernel)
theorem dX35_tell_77 : decode cX35_tell 77 = .ok (.ldc_w 816, 3) := dc_19 (a := 3) (b := 48) (n := 816) (by decide +kernel)
theorem dX35_tell_80 : decode cX35_tell 80 = .ok (.if_icmp .ne 7, 3) := dc_160 (a := 0) (b := 7) (v := 7) (by decide +kernel)
theorem dX35_tell_83 : decode cX35_tell 83 = .ok (.iconst 0, 1) := dc_3 (by decide +kernel)
theorem dX35_tell_84 : decode cX35_tell 84 = .ok (.goto 11, 3) := dc_167 (a := 0) (b := 11) (v := 11) (by decide +kernel)
theorem dX35_tell_87 : decode cX35_tell 87 = .ok (.aload_n 0, 1) := dc_42 (by decide +kernel)
theorem dX35_tell_88 : decode cX35_tell 88 = .ok (.getfield 148, 3) := dc_180 (a := 0) (b := 148) (n := 148) (by decide +kernel)
theorem dX35_tell_91 : decode cX35_tell 91 = .ok (.iload_n 3, 1) := dc_29 (by decide +kernel)
theorem dX35_tell_92 : decode cX35_tell 92 = .ok (.iconst 1, 1) := dc_4 (by decide +kernel)
theorem dX35_tell_93 : decode cX35_tell 93 = .ok (.iadd, 1) := dc_96 (by decide +kernel)
theorem dX35_tell_94 : decode cX35_tell 94 = .ok (.iaload, 1) := dc_46 (by decide +kernel)
theorem dX35_tell_95 : decode cX35_tell 95 = .ok (.iconst 0, 1) := dc_3 (by decide +kernel)
theorem dX35_tell_96 : decode cX35_tell 96 = .ok (.iconst 0, 1) := dc_3 (by decide +kernel)
theorem dX35_tell_97 : decode cX35_tell 97 = .ok (.iconst 0, 1) := dc_3 (by decide +kernel)
theorem dX35_tell_98 : decode cX35_tell 98 = .ok (.iconst 0, 1) := dc_3 (by decide +kernel)
theorem dX35_tell_99 : decode cX35_tell 99 = .ok (.iconst 0, 1) := dc_3 (by decide +kernel)
theorem dX35_tell_100 : decode cX35_tell 100 = .ok (.invokevirtual 899, 3) := dc_182 (a := 3) (b := 131) (n := 899) (by decide +kernel)
theorem dX35_tell_103 : decode cX35_tell 103 = .ok (.pop, 1) := dc_87 (by decide +kernel)
theorem dX35_tell_104 : decode cX35_tell 104 = .ok (.goto 217, 3) := dc_167 (a := 0) (b := 217) (v := 217) (by decide +kernel)
theorem dX35_tell_107 : decode cX35_tell 107 = .ok (.iload 4, 2) := dc_21 (a := 4) (by decide +kernel)
theorem dX35_tell_109 : decode cX35_tell 109 = .ok (.iconst 5, 1) := dc_8 (by decide +kernel)
theorem dX35_tell_110 : decode cX35_tell 110 = .ok (.if_icmp .ne 33, 3) := dc_160 (a := 0) (b := 33) (v := 33) (by decide +kernel)
theorem dX35_tell_113 : decode cX35_tell 113 = .ok (.aload_n 0, 1) := dc_42 (by decide +kernel)
theorem dX35_tell_114 : decode cX35_tell 114 = .ok (.getfield 35, 3) := dc_180 (a := 0) (b := 35) (n := 35) (by decide +kernel)
theorem dX35_tell_117 : decode cX35_tell 117 = .ok (.iconst 0, 1) := dc_3 (by decide +kernel)
theorem dX35_tell_118 : decode cX35_tell 118 = .ok (.aload_n 0, 1) := dc_42 (by decide +kernel)
theorem dX35_tell_119 : decode cX35_tell 119 = .ok (.getfield 157, 3) := dc_180 (a := 0) (b := 157) (n := 157) (by decide +kernel)
theorem dX35_tell_122 : decode cX35_tell 122 = .ok (.aload_n 0, 1) := dc_42 (by decide +kernel)
theorem dX35_tell_123 : decode cX35_tell 123 = .ok (.getfield 148, 3) := dc_180 (a := 0) (b := 148) (n := 148) (by decide +kernel)
theorem dX35_tell_126 : decode cX35_tell 126 = .ok (.iload_n 3, 1) := dc_29 (by decide +kernel)
theorem dX35_tell_127 : decode cX35_tell 127 = .ok (.iconst 1, 1) := dc_4 (by decide +kernel)
theorem dX35_tell_128 : decode cX35_tell 128 = .ok (.iadd, 1) := dc_96 (by decide +kernel)
theorem dX35_tell_129 : decode cX35_tell 129 = .ok (.iaload, 1) := dc_46 (by decide +kernel)
theorem dX35_tell_130 : decode cX35_tell 130 = .ok (.iaload, 1) := dc_46 (by decide +kernel)
theorem dX35_tell_131 : decode cX35_tell 131 = .ok (.iconst 0, 1) := dc_3 (by decide +kernel)
theorem dX35_tell_132 : decode cX35_tell 132 = .ok (.iconst 0, 1) := dc_3 (by decide +kernel)
theorem dX35_tell_133 : decode cX35_tell 133 = .ok (.iconst 0, 1) := dc_3 (by decide +kernel)
theorem dX35_tell_134 : decode cX35_tell 134 = .ok (.iconst 0, 1) := dc_3 (by decide +kernel)
theorem dX35_tell_135 : decode cX35_tell 135 = .ok (.iconst 0, 1) := dc_3 (by decide +kernel)
theorem dX35_tell_136 : decode cX35_tell 136 = .ok (.invokevirtual 899, 3) := dc_182 (a := 3) (b := 131) (n := 899) (by decide +kernel)
theorem dX35_tell_139 : decode cX35_tell 139 = .ok (.pop, 1) := dc_87 (by decide +kernel)
theorem dX35_tell_140 : decode cX35_tell 140 = .ok (.goto 181, 3) := dc_167 (a := 0) (b := 181) (v := 181) (by decide +kernel)
theorem dX35_tell_143 : decode cX35_tell 143 = .ok (.iload 4, 2) := dc_21 (a := 4) (by decide +kernel)
theorem dX35_tell_145 : decode cX35_tell 145 = .ok (.iconst 2, 1) := dc_5 (by decide +kernel)
theorem dX35_tell_146 : decode cX35_tell 146 = .ok (.if_icmp .ne 49, 3) := dc_160 (a := 0) (b := 49) (v := 49) (by decide +kernel)
theorem dX35_tell_149 : decode cX35_tell 149 = .ok (.aload_n 0, 1) := dc_42 (by decide +kernel)
theorem dX35_tell_150 : decode cX35_tell 150 = .ok (.getfield 35, 3) := dc_180 (a := 0) (b := 35) (n := 35) (by decide +kernel)
theorem dX35_tell_153 : decode cX35_tell 153 = .ok (.iconst 1, 1) := dc_4 (by decide +kernel)
theorem dX35_tell_154 : decode cX35_tell 154 = .ok (.aload_n 0, 1) := dc_42 (by decide +kernel)
theorem dX35_tell_155 : decode cX35_tell 155 = .ok (.getfield 148, 3) := dc_180 (a := 0) (b := 148) (n := 148) (by decide +kernel)
theorem dX35_tell_158 : decode cX35_tell 158 = .ok (.iload_n 3, 1) := dc_29 (by decide +kernel)
theorem dX35_tell_159 : decode cX35_tell 159 = .ok (.iconst 1, 1) := dc_4 (by decide +kernel)
theorem dX35_tell_160 : decode cX35_tell 160 = .ok (.iadd, 1) := dc_96 (by decide +kernel)
theorem dX35_tell_161 : decode cX35_tell 161 = .ok (.iaload, 1) := dc_46 (by decide +kernel)
theorem dX35_tell_162 : decode cX35_tell 162 = .ok (.aload_n 0, 1) := dc_42 (by decide +kernel)
theorem dX35_tell_163 : decode cX35_tell 163 = .ok (.getfield 148, 3) := dc_180 (a := 0) (b := 148) (n := 148) (by decide +kernel)
theorem dX35_tell_166 : decode cX35_tell 166 = .ok (.iload_n 3, 1) := dc_29 (by decide +kernel)
theorem dX35_tell_167 : decode cX35_tell 167 = .ok (.iconst 2, 1) := dc_5 (by decide +kernel)
theorem dX35_tell_168 : decode cX35_tell 168 = .ok (.iadd, 1) := dc_96 (by decide +kernel)
theorem dX35_tell_169 : decode cX35_tell 169 = .ok (.iaload, 1) := dc_46 (by decide +kernel)
theorem dX35_tell_170 : decode cX35_tell 170 = .ok (.aload_n 0, 1) := dc_42 (by decide +kernel)
theorem dX35_tell_171 : decode cX35_tell 171 = .ok (.getfield 148, 3) := dc_180 (a := 0) (b := 148) (n := 148) (by decide +kernel)
theorem dX35_tell_174 : decode cX35_tell 174 = .ok (.iload_n 3, 1) := dc_29 (by decide +kernel)
theorem dX35_tell_175 : decode cX35_tell 175 = .ok (.iconst 3, 1) := dc_6 (by decide +kernel)
theorem dX35_tell_176 : decode cX35_tell 176 = .ok (.iadd, 1) := dc_96 (by decide +kernel)
theorem dX35_tell_177 : decode cX35_tell 177 = .ok (.iaload, 1) := dc_46 (by decide +kernel)
theorem dX35_tell_178 : decode cX35_tell 178 = .ok (.aload_n 0, 1) := dc_42 (by decide +kernel)
theorem dX35_tell_179 : decode cX35_tell 179 = .ok (.getfield 148, 3) := dc_180 (a := 0) (b := 148) (n := 148) (by decide +kernel)
theorem dX35_tell_182 : decode cX35_tell 182 = .ok (.iload_n 3, 1) := dc_29 (by decide +kernel)
theorem dX35_tell_183 : decode cX35_tell 183 = .ok (.iconst 4, 1) := dc_7 (by decide +kernel)
theorem dX35_tell_184 : decode cX35_tell 184 = .ok (.iadd, 1) := dc_96 (by decide +kernel)
theorem dX35_tell_185 : decode cX35_tell 185 = .ok (.iaload, 1) := dc_46 (by decide +kernel)
theorem dX35_tell_186 : decode cX35_tell 186 = .ok (.iconst 0, 1) := dc_3 (by decide +kernel)
theorem dX35_tell_187 : decode cX35_tell 187 = .ok (.iconst 0, 1) := dc_3 (by decide +kernel)
theorem dX35_tell_188 : decode cX35_tell 188 = .ok (.invokevirtual 899, 3) := dc_182 (a := 3) (b := 131) (n := 899) (by decide +kernel)
theorem dX35_tell_191 : decode cX35_tell 191 = .ok (.pop, 1) := dc_87 (by decide +kernel)
theorem dX35_tell_192 : decode cX35_tell 192 = .ok (.goto 129, 3) := dc_167 (a := 0) (b := 129) (v := 129) (by decide +kernel)
theorem dX35_tell_195 : decode cX35_tell 195 = .ok (.iload 4, 2) := dc_21 (a := 4) (by decide +kernel)
theorem dX35_tell_197 : decode cX35_tell 197 = .ok (.iconst 3, 1) := dc_6 (by decide +kernel)
theorem dX35_tell_198 : decode cX35_tell 198 = .ok (.if_icmp .ne 44, 3) := dc_160 (a := 0) (b := 44) (v := 44) (by decide +kernel)
theorem dX35_tell_201 : decode cX35_tell 201 = .ok (.aload_n 0, 1) := dc_42 (by decide +kernel)
theorem dX35_tell_202 : decode cX35_tell 202 = .ok (.getfield 35, 3) := dc_180 (a := 0) (b := 35) (n := 35) (by decide +kernel)
theorem dX35_tell_205 : decode cX35_tell 205 = .ok (.aload_n 0, 1) := dc_42 (by decide +kernel)
theorem dX35_tell_206 : decode cX35_tell 206 = .ok (.getfield 148, 3) := dc_180 (a := 0) (b := 148) (n := 148) (by decide +kernel)
theorem dX35_tell_209 : decode cX35_tell 209 = .ok (.iload_n 3, 1) := dc_29 (by decide +kernel)
theorem dX35_tell_210 : decode cX35_tell 210 = .ok (.iconst 2, 1) := dc_5 (by decide +kernel)
theorem dX35_tell_211 : decode cX35_tell 211 = .ok (.iadd, 1) := dc_96 (by decide +kernel)
theorem dX35_tell_212 : decode cX35_tell 212 = .ok (.iaload, 1) := dc_46 (by decide +kernel)
theorem dX35_tell_213 : decode cX35_tell 213 = .ok (.iconst 1, 1) := dc_4 (by decide +kernel)
theorem dX35_tell_214 : decode cX35_tell 214 = .ok (.if_icmp .ne 7, 3) := dc_160 (a := 0) (b := 7) (v := 7) (by decide +kernel)
theorem dX35_tell_217 : decode cX35_tell 217 = .ok (.iconst 3, 1) := dc_6 (by decide +kernel)
theorem dX35_tell_218 : decode cX35_tell 218 = .ok (.goto 4, 3) := dc_167 (a := 0) (b := 4) (v := 4) (by decide +kernel)
theorem dX35_tell_221 : decode cX35_tell 221 = .ok (.iconst 2, 1) := dc_5 (by decide +kernel)
theorem dX35_tell_222 : decode cX35_tell 222 = .ok (.aload_n 0, 1) := dc_42 (by decide +kernel)
theorem dX35_tell_223 : decode cX35_tell 223 = .ok (.getfield 148, 3) := dc_180 (a := 0) (b := 148) (n := 148) (by decide +kernel)
theorem dX35_tell_226 : decode cX35_tell 226 = .ok (.iload_n 3, 1) := dc_29 (by decide +kernel)
theorem dX35_tell_227 : decode cX35_tell 227 = .ok (.iconst 1, 1) := dc_4 (by decide +kernel)
theorem dX35_tell_228 : decode cX35_tell 228 = .ok (.iadd, 1) := dc_96 (by decide +kernel)
theorem dX35_tell_229 : decode cX35_tell 229 = .ok (.iaload, 1) := dc_46 (by decide +kernel)
theorem dX35_tell_230 : decode cX35_tell 230 = .ok (.iconst 0, 1) := dc_3 (by decide +kernel)
theorem dX35_tell_231 : decode cX35_tell 231 = .ok (.iconst 0, 1) := dc_3 (by decide +kernel)
theorem dX35_tell_232 : decode cX35_tell 232 = .ok (.iconst 0, 1) := dc_3 (by decide +kernel)
theorem dX35_tell_233 : decode cX35_tell 233 = .ok (.iconst 0, 1) := dc_3 (by decide +kernel)
theorem dX35_tell_234 : decode cX35_tell 234 = .ok (.iconst 0, 1) := dc_3 (by decide +kernel)
theorem dX35_tell_235 : decode cX35_tell 235 = .ok (.invokevirtual 899, 3) := dc_182 (a := 3) (b := 131) (n := 899) (by decide +kernel)
theorem dX35_tell_238 : decode cX35_tell 238 = .ok (.pop, 1) := dc_87 (by decide +kernel)
theorem dX35_tell_239 : decode cX35_tell 239 = .ok (.goto 82, 3) := dc_167 (a := 0) (b := 82) (v := 82) (by decide +kernel)
theorem dX35_tell_242 : decode cX35_tell 242 = .ok (.iload 4, 2) := dc_21 (a := 4) (by decide +kernel)
theorem dX35_tell_244 : decode cX35_tell 244 = .ok (.iconst 4, 1) := dc_7 (by decide +kernel)
theorem dX35_tell_245 : decode cX35_tell 245 = .ok (.if_icmp .ne 28, 3) := dc_160 (a := 0) (b := 28) (v := 28) (by decide +kernel)
theorem dX35_tell_248 : decode cX35_tell 248 = .ok (.aload_n 0, 1) := dc_42 (by decide +kernel)
theorem dX35_tell_249 : decode cX35_tell 249 = .ok (.getfield 35, 3) := dc_180 (a := 0) (b := 35) (n := 35) (by decide +kernel)
theorem dX35_tell_252 : decode cX35_tell 252 = .ok (.iconst 4, 1) := dc_7 (by decide +kernel)
theorem dX35_tell_253 : decode cX35_tell 253 = .ok (.aload_n 0, 1) := dc_42 (by decide +kernel)
theorem dX35_tell_254 : decode cX35_tell 254 = .ok (.getfield 148, 3) := dc_180 (a := 0) (b := 148) (n := 148) (by decide +kernel)
theorem dX35_tell_257 : decode cX35_tell 257 = .ok (.iload_n 3, 1) := dc_29 (by decide +kernel)
theorem dX35_tell_258 : decode cX35_tell 258 = .ok (.iconst 1, 1) := dc_4 (by decide +kernel)
theorem dX35_tell_259 : decode cX35_tell 259 = .ok (.iadd, 1) := dc_96 (by decide +kernel)
theorem dX35_tell_260 : decode cX35_tell 260 = .ok (.iaload, 1) := dc_46 (by decide +kernel)
theorem dX35_tell_261 : decode cX35_tell 261 = .ok (.iconst 0, 1) := dc_3 (by decide +kernel)
theorem dX35_tell_262 : decode cX35_tell 262 = .ok (.iconst 0, 1) := dc_3 (by decide +kernel)
theorem dX35_tell_263 : decode cX35_tell 263 = .ok (.iconst 0, 1) := dc_3 (by decide +kernel)
theorem dX35_tell_264 : decode cX35_tell 264 = .ok (.iconst 0, 1) := dc_3 (by decide +kernel)
theorem dX35_tell_265 : decode cX35_tell 265 = .ok (.iconst 0, 1) := dc_3 (by decide +kernel)
theorem dX35_tell_266 : decode cX35_tell 266 = .ok (.invokevirtual 899, 3) := dc_182 (a := 3) (b := 131) (n := 899) (by decide +kernel)
theorem dX35_tell_269 : decode cX35_tell 269 = .ok (.pop, 1) := dc_87 (by decide +kernel)
theorem dX35_tell_270 : decode cX35_tell 270 = .ok (.goto 51, 3) := dc_167 (a := 0) (b := 51) (v := 51) (by decide +kernel)
theorem dX35_tell_273 : decode cX35_tell 273 = .ok (.aload_n 0, 1) := dc_42 (by decide +kernel)
theorem dX35_tell_274 : decode cX35_tell 274 = .ok (.getfield 35, 3) := dc_180 (a := 0) (b := 35) (n := 35) (by decide +kernel)
theorem dX35_tell_277 : decode cX35_tell 277 = .ok (.iconst 5, 1) := dc_8 (by decide +kernel)
theorem dX35_tell_278 : decode cX35_tell 278 = .ok (.aload_n 0, 1) := dc_42 (by decide +kernel)
theorem dX35_tell_279 : decode cX35_tell 279 = .ok (.getfield 148, 3) := dc_180 (a := 0) (b := 148) (n := 148) (by decide +kernel)
theorem dX35_tell_282 : decode cX35_tell 282 = .ok (.iload_n 3, 1) := dc_29 (by decide +kernel)
theorem dX35_tell_283 : decode cX35_tell 283 = .ok (.iconst 1, 1) := dc_4 (by decide +kernel)
theorem dX35_tell_284 : decode cX35_tell 284 = .ok (.iadd, 1) := dc_96 (by decide +kernel)
theorem dX35_tell_285 : decode cX35_tell 285 = .ok (.iaload, 1) := dc_46 (by decide +kernel)
theorem dX35_tell_286 : decode cX35_tell 286 = .ok (.ifCond .ge 9, 3) := dc_156 (a := 0) (b := 9) (v := 9) (by decide +kernel)
theorem dX35_tell_289 : decode cX35_tell 289 = .ok (.ldc_w 903, 3) := dc_19 (a := 3) (b := 135) (n := 903) (by decide +kernel)
theorem dX35_tell_292 : decode cX35_tell 292 = .ok (.goto 11, 3) := dc_167 (a := 0) (b := 11) (v := 11) (by decide +kernel)
theorem dX35_tell_295 : decode cX35_tell 295 = .ok (.aload_n 0, 1) := dc_42 (by decide +kernel)
theorem dX35_tell_296 : decode cX35_tell 296 = .ok (.getfield 148, 3) := dc_180 (a := 0) (b := 148) (n := 148) (by decide +kernel)
theorem dX35_tell_299 : decode cX35_tell 299 = .ok (.iload_n 3, 1) := dc_29 (by decide +kernel)
theorem dX35_tell_300 : decode cX35_tell 300 = .ok (.iconst 3, 1) := dc_6 (by decide +kernel)
theorem dX35_tell_301 : decode cX35_tell 301 = .ok (.iadd, 1) := dc_96 (by decide +kernel)
theorem dX35_tell_302 : decode cX35_tell 302 = .ok (.iaload, 1) := dc_46 (by decide +kernel)
theorem dX35_tell_303 : decode cX35_tell 303 = .ok (.iconst 0, 1) := dc_3 (by decide +kernel)
theorem dX35_tell_304 : decode cX35_tell 304 = .ok (.iconst 0, 1) := dc_3 (by decide +kernel)
theorem dX35_tell_305 : decode cX35_tell 305 = .ok (.iconst 0, 1) := dc_3 (by decide +kernel)
theorem dX35_tell_306 : decode cX35_tell 306 = .ok (.ldc_w 903, 3) := dc_19 (a := 3) (b := 135) (n := 903) (by decide +kernel)
theorem dX35_tell_309 : decode cX35_tell 309 = .ok (.aload_n 0, 1) := dc_42 (by decide +kernel)
theorem dX35_tell_310 : decode cX35_tell 310 = .ok (.getfield 148, 3) := dc_180 (a := 0) (b := 148) (n := 148) (by decide +kernel)
theorem dX35_tell_313 : decode cX35_tell 313 = .ok (.iload_n 3, 1) := dc_29 (by decide +kernel)
theorem dX35_tell_314 : decode cX35_tell 314 = .ok (.iconst 2, 1) := dc_5 (by decide +kernel)
theorem dX35_tell_315 : decode cX35_tell 315 = .ok (.iadd, 1) := dc_96 (by decide +kernel)
theorem dX35_tell_316 : decode cX35_tell 316 = .ok (.iaload, 1) := dc_46 (by decide +kernel)
theorem dX35_tell_317 : decode cX35_tell 317 = .ok (.invokevirtual 899, 3) := dc_182 (a := 3) (b := 131) (n := 899) (by decide +kernel)
theorem dX35_tell_320 : decode cX35_tell 320 = .ok (.pop, 1) := dc_87 (by decide +kernel)
theorem dX35_tell_321 : decode cX35_tell 321 = .ok (.iinc 2 1, 3) := dc_132 (a := 2) (b := 1) (v := 1) (by decide +kernel)
theorem dX35_tell_324 : decode cX35_tell 324 = .ok (.goto (-314), 3) := dc_167 (a := 254) (b := 198) (v := -314) (by decide +kernel)
theorem dX35_tell_327 : decode cX35_tell 327 = .ok (.aload_n 0, 1) := dc_42 (by decide +kernel)
theorem dX35_tell_328 : decode cX35_tell 328 = .ok (.getfield 35, 3) := dc_180 (a := 0) (b := 35) (n := 35) (by decide +kernel)
theorem dX35_tell_331 : decode cX35_tell 331 = .ok (.getfield 904, 3) := dc_180 (a := 3) (b := 136) (n := 904) (by decide +kernel)
theorem dX35_tell_334 : decode cX35_tell 334 = .ok (.iconst 0, 1) := dc_3 (by decide +kernel)
theorem dX35_tell_335 : decode cX35_tell 335 = .ok (.aload_n 0, 1) := dc_42 (by decide +kernel)
theorem dX35_tell_336 : decode cX35_tell 336 = .ok (.sipush 256, 3) := dc_17 (a := 1) (b := 0) (v := 256) (by decide +kernel)
theorem dX35_tell_339 : decode cX35_tell 339 = .ok (.invokevirtual 907, 3) := dc_182 (a := 3) (b := 139) (n := 907) (by decide +kernel)
theorem dX35_tell_342 : decode cX35_tell 342 = .ok (.iconst (-1), 1) := dc_2 (by decide +kernel)
theorem dX35_tell_343 : decode cX35_tell 343 = .ok (.sipush 10000, 3) := dc_17 (a := 39) (b := 16) (v := 10000) (by decide +kernel)
theorem dX35_tell_346 : decode cX35_tell 346 = .ok (.invokestatic 910, 3) := dc_184 (a := 3) (b := 142) (n := 910) (by decide +kernel)
theorem dX35_tell_349 : decode cX35_tell 349 = .ok (.iastore, 1) := dc_79 (by decide +kernel)
theorem dX35_tell_350 : decode cX35_tell 350 = .ok (.aload_n 0, 1) := dc_42 (by decide +kernel)
theorem dX35_tell_351 : decode cX35_tell 351 = .ok (.getfield 35, 3) := dc_180 (a := 0) (b := 35) (n := 35) (by decide +kernel)
theorem dX35_tell_354 : decode cX35_tell 354 = .ok (.getfield 904, 3) := dc_180 (a := 3) (b := 136) (n := 904) (by decide +kernel)
theorem dX35_tell_357 : decode cX35_tell 357 = .ok (.iconst 1, 1) := dc_4 (by decide +kernel)
theorem dX35_tell_358 : decode cX35_tell 358 = .ok (.aload_n 0, 1) := dc_42 (by decide +kernel)
theorem dX35_tell_359 : decode cX35_tell 359 = .ok (.sipush 257, 3) := dc_17 (a := 1) (b := 1) (v := 257) (by decide +kernel)
theorem dX35_tell_362 : decode cX35_tell 362 = .ok (.invokevirtual 907, 3) := dc_182 (a := 3) (b := 139) (n := 907) (by decide +kernel)
theorem dX35_tell_365 : decode cX35_tell 365 = .ok (.iconst 0, 1) := dc_3 (by decide +kernel)
theorem dX35_tell_366 : decode cX35_tell 366 = .ok (.sipush 10000, 3) := dc_17 (a := 39) (b := 16) (v := 10000) (by decide +kernel)
theorem dX35_tell_369 : decode cX35_tell 369 = .ok (.invokestatic 910, 3) := dc_184 (a := 3) (b := 142) (n := 910) (by decide +kernel)
theorem dX35_tell_372 : decode cX35_tell 372 = .ok (.iastore, 1) := dc_79 (by decide +kernel)
theorem dX35_tell_373 : decode cX35_tell 373 = .ok (.aload_n 0, 1) := dc_42 (by decide +kernel)
theorem dX35_tell_374 : decode cX35_tell 374 = .ok (.getfield 35, 3) := dc_180 (a := 0) (b := 35) (n := 35) (by decide +kernel)
theorem dX35_tell_377 : decode cX35_tell 377 = .ok (.getfield 904, 3) := dc_180 (a := 3) (b := 136) (n := 904) (by decide +kernel)
theorem dX35_tell_380 : decode cX35_tell 380 = .ok (.iconst 2, 1) := dc_5 (by decide +kernel)
theorem dX35_tell_381 : decode cX35_tell 381 = .ok (.aload_n 0, 1) := dc_42 (by decide +kernel)
theorem dX35_tell_382 : decode cX35_tell 382 = .ok (.sipush 258, 3) := dc_17 (a := 1) (b := 2) (v := 258) (by decide +kernel)
theorem dX35_tell_385 : decode cX35_tell 385 = .ok (.invokevirtual 907, 3) := dc_182 (a := 3) (b := 139) (n := 907) (by decide +kernel)
theorem dX35_tell_388 : decode cX35_tell 388 = .ok (.sipush (-10000), 3) := dc_17 (a := 216) (b := 240) (v := -10000) (by decide +kernel)
theorem dX35_tell_391 : decode cX35_tell 391 = .ok (.sipush 10000, 3) := dc_17 (a := 39) (b := 16) (v := 10000) (by decide +kernel)
theorem dX35_tell_394 : decode cX35_tell 394 = .ok (.invokestatic 910, 3) := dc_184 (a := 3) (b := 142) (n := 910) (by decide +kernel)
theorem dX35_tell_397 : decode cX35_tell 397 = .ok (.iastore, 1) := dc_79 (by decide +kernel)
theorem dX35_tell_398 : decode cX35_tell 398 = .ok (.aload_n 0, 1) := dc_42 (by decide +kernel)
theorem dX35_tell_399 : decode cX35_tell 399 = .ok (.getfield 35, 3) := dc_180 (a := 0) (b := 35) (n := 35) (by decide +kernel)
theorem dX35_tell_402 : decode cX35_tell 402 = .ok (.getfield 904, 3) := dc_180 (a := 3) (b := 136) (n := 904) (by decide +kernel)
theorem dX35_tell_405 : decode cX35_tell 405 = .ok (.iconst 3, 1) := dc_6 (by decide +kernel)
theorem dX35_tell_406 : decode cX35_tell 406 = .ok (.aload_n 0, 1) := dc_42 (by decide +kernel)
theorem dX35_tell_407 : decode cX35_tell 407 = .ok (.sipush 259, 3) := dc_17 (a := 1) (b := 3) (v := 259) (by decide +kernel)
theorem dX35_tell_410 : decode cX35_tell 410 = .ok (.invokevirtual 907, 3) := dc_182 (a := 3) (b := 139) (n := 907) (by decide +kernel)
theorem dX35_tell_413 : decode cX35_tell 413 = .ok (.sipush (-10000), 3) := dc_17 (a := 216) (b := 240) (v := -10000) (by decide +kernel)
theorem dX35_tell_416 : decode cX35_tell 416 = .ok (.sipush 10000, 3) := dc_17 (a := 39) (b := 16) (v := 10000) (by decide +kernel)
theorem dX35_tell_419 : decode cX35_tell 419 = .ok (.invokestatic 910, 3) := dc_184 (a := 3) (b := 142) (n := 910) (by decide +kernel)
theorem dX35_tell_422 : decode cX35_tell 422 = .ok (.iastore, 1) := dc_79 (by decide +kernel)
theorem dX35_tell_423 : decode cX35_tell 423 = .ok (.aload_n 0, 1) := dc_42 (by decide +kernel)
theorem dX35_tell_424 : decode cX35_tell 424 = .ok (.getfield 35, 3) := dc_180 (a := 0) (b := 35) (n := 35) (by decide +kernel)
theorem dX35_tell_427 : decode cX35_tell 427 = .ok (.getfield 904, 3) := dc_180 (a := 3) (b := 136) (n := 904) (by decide +kernel)
theorem dX35_tell_430 : decode cX35_tell 430 = .ok (.iconst 4, 1) := dc_7 (by decide +kernel)
theorem dX35_tell_431 : decode cX35_tell 431 = .ok (.aload_n 0, 1) := dc_42 (by decide +kernel)
theorem dX35_tell_432 : decode cX35_tell 432 = .ok (.sipush 260, 3) := dc_17 (a := 1) (b := 4) (v := 260) (by decide +kernel)
theorem dX35_tell_435 : decode cX35_tell 435 = .ok (.invokevirtual 907, 3) := dc_182 (a := 3) (b := 139) (n := 907) (by decide +kernel)
theorem dX35_tell_438 : decode cX35_tell 438 = .ok (.sipush (-10000), 3) := dc_17 (a := 216) (b := 240) (v := -10000) (by decide +kernel)
theorem dX35_tell_441 : decode cX35_tell 441 = .ok (.sipush 10000, 3) := dc_17 (a := 39) (b := 16) (v := 10000) (by decide +kernel)
theorem dX35_tell_444 : decode cX35_tell 444 = .ok (.invokestatic 910, 3) := dc_184 (a := 3) (b := 142) (n := 910) (by decide +kernel)
theorem dX35_tell_447 : decode cX35_tell 447 = .ok (.iastore, 1) := dc_79 (by decide +kernel)
theorem dX35_tell_448 : decode cX35_tell 448 = .ok (.aload_n 0, 1) := dc_42 (by decide +kernel)
theorem dX35_tell_449 : decode cX35_tell 449 = .ok (.getfield 35, 3) := dc_180 (a := 0) (b := 35) (n := 35) (by decide +kernel)
theorem dX35_tell_452 : decode cX35_tell 452 = .ok (.getfield 904, 3) := dc_180 (a := 3) (b := 136) (n := 904) (by decide +kernel)
theorem dX35_tell_455 : decode cX35_tell 455 = .ok (.iconst 5, 1) := dc_8 (by decide +kernel)
theorem dX35_tell_456 : decode cX35_tell 456 = .ok (.aload_n 0, 1) := dc_42 (by decide +kernel)
theorem dX35_tell_457 : decode cX35_tell 457 = .ok (.sipush 266, 3) := dc_17 (a := 1) (b := 10) (v := 266) (by decide +kernel)
theorem dX35_tell_460 : decode cX35_tell 460 = .ok (.invokevirtual 907, 3) := dc_182 (a := 3) (b := 139) (n := 907) (by decide +kernel)
theorem dX35_tell_463 : decode cX35_tell 463 = .ok (.ldc_w 913, 3) := dc_19 (a := 3) (b := 145) (n := 913) (by decide +kernel)
theorem dX35_tell_466 : decode cX35_tell 466 = .ok (.ldc_w 914, 3) := dc_19 (a := 3) (b := 146) (n := 914) (by decide +kernel)
theorem dX35_tell_469 : decode cX35_tell 469 = .ok (.invokestatic 910, 3) := dc_184 (a := 3) (b := 142) (n := 910) (by decide +kernel)
theorem dX35_tell_472 : decode cX35_tell 472 = .ok (.iastore, 1) := dc_79 (by decide +kernel)
theorem dX35_tell_473 : decode cX35_tell 473 = .ok (.aload_n 0, 1) := dc_42 (by decide +kernel)
theorem dX35_tell_474 : decode cX35_tell 474 = .ok (.getfield 35, 3) := dc_180 (a := 0) (b := 35) (n := 35) (by decide +kernel)
theorem dX35_tell_477 : decode cX35_tell 477 = .ok (.getfield 904, 3) := dc_180 (a := 3) (b := 136) (n := 904) (by decide +kernel)
theorem dX35_tell_480 : decode cX35_tell 480 = .ok (.bipush 6, 2) := dc_16 (a := 6) (v := 6) (by decide +kernel)
theorem dX35_tell_482 : decode cX35_tell 482 = .ok (.aload_n 0, 1) := dc_42 (by decide +kernel)
theorem dX35_tell_483 : decode cX35_tell 483 = .ok (.sipush 267, 3) := dc_17 (a := 1) (b := 11) (v := 267) (by decide +kernel)
theorem dX35_tell_486 : decode cX35_tell 486 = .ok (.invokevirtual 907, 3) := dc_182 (a := 3) (b := 139) (n := 907) (by decide +kernel)
theorem dX35_tell_489 : decode cX35_tell 489 = .ok (.ldc_w 913, 3) := dc_19 (a := 3) (b := 145) (n := 913) (by decide +kernel)
theorem dX35_tell_492 : decode cX35_tell 492 = .ok (.ldc_w 914, 3) := dc_19 (a := 3) (b := 146) (n := 914) (by decide +kernel)
theorem dX35_tell_495 : decode cX35_tell 495 = .ok (.invokestatic 910, 3) := dc_184 (a := 3) (b := 142) (n := 910) (by decide +kernel)
theorem dX35_tell_498 : decode cX35_tell 498 = .ok (.iastore, 1) := dc_79 (by decide +kernel)
theorem dX35_tell_499 : decode cX35_tell 499 = .ok (.aload_n 0, 1) := dc_42 (by decide +kernel)
theorem dX35_tell_500 : decode cX35_tell 500 = .ok (.getfield 35, 3) := dc_180 (a := 0) (b := 35) (n := 35) (by decide +kernel)
theorem dX35_tell_503 : decode cX35_tell 503 = .ok (.getfield 904, 3) := dc_180 (a := 3) (b := 136) (n := 904) (by decide +kernel)
theorem dX35_tell_506 : decode cX35_tell 506 = .ok (.bipush 7, 2) := dc_16 (a := 7) (v := 7) (by decide +kernel)
theorem dX35_tell_508 : decode cX35_tell 508 = .ok (.aload_n 0, 1) := dc_42 (by decide +kernel)
theorem dX35_tell_509 : decode cX35_tell 509 = .ok (.sipush 265, 3) := dc_17 (a := 1) (b := 9) (v := 265) (by decide +kernel)
theorem dX35_tell_512 : decode cX35_tell 512 = .ok (.invokevirtual 907, 3) := dc_182 (a := 3) (b := 139) (n := 907) (by decide +kernel)
theorem dX35_tell_515 : decode cX35_tell 515 = .ok (.ldc_w 913, 3) := dc_19 (a := 3) (b := 145) (n := 913) (by decide +kernel)
theorem dX35_tell_518 : decode cX35_tell 518 = .ok (.ldc_w 914, 3) := dc_19 (a := 3) (b := 146) (n := 914) (by decide +kernel)
theorem dX35_tell_521 : decode cX35_tell 521 = .ok (.invokestatic 910, 3) := dc_184 (a := 3) (b := 142) (n := 910) (by decide +kernel)
theorem dX35_tell_524 : decode cX35_tell 524 = .ok (.iastore, 1) := dc_79 (by decide +kernel)
theorem dX35_tell_525 : decode cX35_tell 525 = .ok (.aload_n 0, 1) := dc_42 (by decide +kernel)
theorem dX35_tell_526 : decode cX35_tell 526 = .ok (.getfield 35, 3) := dc_180 (a := 0) (b := 35) (n := 35) (by decide +kernel)
theorem dX35_tell_529 : decode cX35_tell 529 = .ok (.getfield 904, 3) := dc_180 (a := 3) (b := 136) (n := 904) (by decide +kernel)
theorem dX35_tell_532 : decode cX35_tell 532 = .ok (.bipush 8, 2) := dc_16 (a := 8) (v := 8) (by decide +kernel)
theorem dX35_tell_534 : decode cX35_tell 534 = .ok (.aload_n 0, 1) := dc_42 (by decide +kernel)
theorem dX35_tell_535 : decode cX35_tell 535 = .ok (.sipush 2246, 3) := dc_17 (a := 8) (b := 198) (v := 2246) (by decide +kernel)
theorem dX35_tell_538 : decode cX35_tell 538 = .ok (.invokevirtual 431, 3) := dc_182 (a := 1) (b := 175) (n := 431) (by decide +kernel)
theorem dX35_tell_541 : decode cX35_tell 541 = .ok (.iconst 0, 1) := dc_3 (by decide +kernel)
theorem dX35_tell_542 : decode cX35_tell 542 = .ok (.ldc_w 388, 3) := dc_19 (a := 1) (b := 132) (n := 388) (by decide +kernel)
theorem dX35_tell_545 : decode cX35_tell 545 = .ok (.invokestatic 910, 3) := dc_184 (a := 3) (b := 142) (n := 910) (by decide +kernel)
theorem dX35_tell_548 : decode cX35_tell 548 = .ok (.iastore, 1) := dc_79 (by decide +kernel)
theorem dX35_tell_549 : decode cX35_tell 549 = .ok (.aload_n 0, 1) := dc_42 (by decide +kernel)
theorem dX35_tell_550 : decode cX35_tell 550 = .ok (.getfield 35, 3) := dc_180 (a := 0) (b := 35) (n := 35) (by decide +kernel)
theorem dX35_tell_553 : decode cX35_tell 553 = .ok (.getfield 904, 3) := dc_180 (a := 3) (b := 136) (n := 904) (by decide +kernel)
theorem dX35_tell_556 : decode cX35_tell 556 = .ok (.bipush 9, 2) := dc_16 (a := 9) (v := 9) (by decide +kernel)
theorem dX35_tell_558 : decode cX35_tell 558 = .ok (.aload_n 0, 1) := dc_42 (by decide +kernel)
theorem dX35_tell_559 : decode cX35_tell 559 = .ok (.sipush 268, 3) := dc_17 (a := 1) (b := 12) (v := 268) (by decide +kernel)
theorem dX35_tell_562 : decode cX35_tell 562 = .ok (.invokevirtual 907, 3) := dc_182 (a := 3) (b := 139) (n := 907) (by decide +kernel)
theorem dX35_tell_565 : decode cX35_tell 565 = .ok (.bipush (-100), 2) := dc_16 (a := 156) (v := -100) (by decide +kernel)
theorem dX35_tell_567 : decode cX35_tell 567 = .ok (.bipush 100, 2) := dc_16 (a := 100) (v := 100) (by decide +kernel)
theorem dX35_tell_569 : decode cX35_tell 569 = .ok (.invokestatic 910, 3) := dc_184 (a := 3) (b := 142) (n := 910) (by decide +kernel)
theorem dX35_tell_572 : decode cX35_tell 572 = .ok (.iastore, 1) := dc_79 (by decide +kernel)
theorem dX35_tell_573 : decode cX35_tell 573 = .ok (.aload_n 0, 1) := dc_42 (by decide +kernel)
theorem dX35_tell_574 : decode cX35_tell 574 = .ok (.iconst 0, 1) := dc_3 (by decide +kernel)
theorem dX35_tell_575 : decode cX35_tell 575 = .ok (.sipush 260, 3) := dc_17 (a := 1) (b := 4) (v := 260) (by decide +kernel)
theorem dX35_tell_578 : decode cX35_tell 578 = .ok (.invokevirtual 915, 3) := dc_182 (a := 3) (b := 147) (n := 915) (by decide +kernel)
theorem dX35_tell_581 : decode cX35_tell 581 = .ok (.aload_n 0, 1) := dc_42 (by decide +kernel)
theorem dX35_tell_582 : decode cX35_tell 582 = .ok (.iconst 1, 1) := dc_4 (by decide +kernel)
theorem dX35_tell_583 : decode cX35_tell 583 = .ok (.sipush 261, 3) := dc_17 (a := 1) (b := 5) (v := 261) (by decide +kernel)
theorem dX35_tell_586 : decode cX35_tell 586 = .ok (.invokevirtual 915, 3) := dc_182 (a := 3) (b := 147) (n := 915) (by decide +kernel)
theorem dX35_tell_589 : decode cX35_tell 589 = .ok (.aload_n 0, 1) := dc_42 (by decide +kernel)
theorem dX35_tell_590 : decode cX35_tell 590 = .ok (.iconst 2, 1) := dc_5 (by decide +kernel)
theorem dX35_tell_591 : decode cX35_tell 591 = .ok (.sipush 262, 3) := dc_17 (a := 1) (b := 6) (v := 262) (by decide +kernel)
theorem dX35_tell_594 : decode cX35_tell 594 = .ok (.invokevirtual 915, 3) := dc_182 (a := 3) (b := 147) (n := 915) (by decide +kernel)
theorem dX35_tell_597 : decode cX35_tell 597 = .ok (.aload_n 0, 1) := dc_42 (by decide +kernel)
theorem dX35_tell_598 : decode cX35_tell 598 = .ok (.getfield 35, 3) := dc_180 (a := 0) (b := 35) (n := 35) (by decide +kernel)
theorem dX35_tell_601 : decode cX35_tell 601 = .ok (.aload_n 0, 1) := dc_42 (by decide +kernel)
theorem dX35_tell_602 : decode cX35_tell 602 = .ok (.sipush 2241, 3) := dc_17 (a := 8) (b := 193) (v := 2241) (by decide +kernel)
theorem dX35_tell_605 : decode cX35_tell 605 = .ok (.invokevirtual 431, 3) := dc_182 (a := 1) (b := 175) (n := 431) (by decide +kernel)
theorem dX35_tell_608 : decode cX35_tell 608 = .ok (.putfield 918, 3) := dc_181 (a := 3) (b := 150) (n := 918) (by decide +kernel)
theorem dX35_tell_611 : decode cX35_tell 611 = .ok (.return_, 1) := dc_177 (by decide +kernel)
theorem GX35_148 {w : eW} {d : Nat} {Y : eY} {pc : Nat} {ls : eL} {st : List Value} {h : eH} {Q : eO → eH → Prop} {a : Nat} {x : Nat} (hf : g_A 34 h a 63 = some x) (hd : decode Y.2.1 pc = .ok (.getfield 148, 3)) (hY : Y.1.cls = RX35) (kk : wp w d Y (pc + 3) ls (.ref x :: st) h Q) : wp w d Y pc ls (.ref a :: st) h Q := x_gA (ci := 34) (k := 63) hf hd rfl (by decide) (by rw [hY]; exact q4565) kk
theorem GX35_904 {w : eW} {d : Nat} {Y : eY} {pc : Nat} {ls : eL} {st : List Value} {h : eH} {Q : eO → eH → Prop} {a : Nat} {x : Nat} (hf : g_A 36 h a 10 = some x) (hd : decode Y.2.1 pc = .ok (.getfield 904, 3)) (hY : Y.1.cls = RX35) (kk : wp w d Y (pc + 3) ls (.ref x :: st) h Q) : wp w d Y pc ls (.ref a :: st) h Q := x_gAN (ci := 36) (k := 10) hf hd rfl (by decide) (by rw [hY]; exact q4239) kk
theorem SX35_898 {w : eW} {d : Nat} {Y : eY} {pc : Nat} {ls : eL} {st : List Value} {h : eH} {Q : eO → eH → Prop} {a : Nat} {h' : eH} {x : Int32} (hf : p_V 36 h a 1 (.int x) = some h') (hd : decode Y.2.1 pc = .ok (.putfield 898, 3)) (hY : Y.1.cls = RX35) (kk : wp w d Y (pc + 3) ls st h' Q) : wp w d Y pc ls (.int x :: .ref a :: st) h Q := x_pIN (ci := 36) (k := 1) hf hd rfl (by decide) (by rw [hY]; exact q4229) rfl rfl kk
theorem SX35_918 {w : eW} {d : Nat} {Y : eY} {pc : Nat} {ls : eL} {st : List Value} {h : eH} {Q : eO → eH → Prop} {a : Nat} {h' : eH} {x : Int32} (hf : p_V 36 h a 11 (.int x) = some h') (hd : decode Y.2.1 pc = .ok (.putfield 918, 3)) (hY : Y.1.cls = RX35) (kk : wp w d Y (pc + 3) ls st h' Q) : wp w d Y pc ls (.int x :: .ref a :: st) h Q := x_pIN (ci := 36) (k := 11) hf hd rfl (by decide) (by rw [hY]; exact q4241) rfl rfl kk
def fX35_tell_b321 (N : Nat) (k10 : Nat → Int32 → Int32 → eH → Option (Unit × eH)) (l0 : Nat) (l1 : Int32) (l2 : Int32) (h : eH) : Option (Unit × eH) :=
  k10 l0 l1 (l2 + (1 : Int32)) h
theorem pX35_tell_b321 {w : eW} {d : Nat} (hd : 2 ≤ d + 1) {N : Nat} {k10 : Nat → Int32 → Int32 → eH → Option (Unit × eH)} (hk10 : ∀ l0 l1 l2 h q, k10 l0 l1 l2 h = some q → wp w (d + 1) YX35_tell 10 [some (.ref l0), some (.int l1), some (.int l2), none, none] [] h (e_is (e_rn c_V q))) {l0 : Nat} {l1 : Int32} {l2 : Int32} {h : eH} {q} (hf : fX35_tell_b321 N k10 l0 l1 l2 h = some q) : wp w (d + 1) YX35_tell 321 [some (.ref l0), some (.int l1), some (.int l2), none, none] [] h (e_is (e_rn c_V q)) := by
  unfold fX35_tell_b321 at hf
  refine w_iinc dX35_tell_321 (v := (l2 + (1 : Int32))) rfl rfl (by decide) (ls' := [some (.ref l0), some (.int l1), some (.int (l2 + (1 : Int32))), none, none]) rfl ?_
  refine w_goto 10 dX35_tell_324 (by decide) ?_
  exact (hk10 _ _ _ _ _ hf).to ⟨rfl, rfl, rfl, trivial⟩
def fX35_tell_b95 (N : Nat) (k10 : Nat → Int32 → Int32 → eH → Option (Unit × eH)) (l0 : Nat) (l1 : Int32) (l2 : Int32) (s0 : Nat) (s1 : Int32) (s2 : Int32) (h : eH) : Option (Unit × eH) :=
  (k_ok 36 h s0).bind fun _ =>
  (fX37_append s0 s1 s2 (0 : Int32) (0 : Int32) (0 : Int32) (0 : Int32) (0 : Int32) h).bind fun q2 =>
  fX35_tell_b321 N k10 l0 l1 l2 q2.2
theorem pX35_tell_b95 {w : eW} {d : Nat} (hd : 2 ≤ d + 1) {N : Nat} {k10 : Nat → Int32 → Int32 → eH → Option (Unit × eH)} (hk10 : ∀ l0 l1 l2 h q, k10 l0 l1 l2 h = some q → wp w (d + 1) YX35_tell 10 [some (.ref l0), some (.int l1), some (.int l2), none, none] [] h (e_is (e_rn c_V q))) {l0 : Nat} {l1 : Int32} {l2 : Int32} {s0 : Nat} {s1 : Int32} {s2 : Int32} {h : eH} {q} (hf : fX35_tell_b95 N k10 l0 l1 l2 s0 s1 s2 h = some q) : wp w (d + 1) YX35_tell 95 [some (.ref l0), some (.int l1), some (.int l2), none, none] [.int s2, .int s1, .ref s0] h (e_is (e_rn c_V q)) := by
  unfold fX35_tell_b95 at hf
  refine w_iconst dX35_tell_95 (v := 0) (by decide) ?_
  refine w_iconst dX35_tell_96 (v := 0) (by decide) ?_
  refine w_iconst dX35_tell_97 (v := 0) (by decide) ?_
  refine w_iconst dX35_tell_98 (v := 0) (by decide) ?_
  refine w_iconst dX35_tell_99 (v := 0) (by decide) ?_
  obtain ⟨_, b1, hf⟩ := Option.bind_eq_some_iff.mp hf
  refine x_cnI hf (e_stVN (Yc := YX37_append) (ci := 36) (av := [.int s1, .int s2, .int (0 : Int32), .int (0 : Int32), .int (0 : Int32), .int (0 : Int32), .int (0 : Int32)]) (st := []) dX35_tell_100 q5750 mX37_append rfl (k_ok_some b1).1 (k_ok_some b1).2) mX37_append.2.2.1 mX37_append.2.2.2.2.1 (Nat.le_of_ble_eq_true rfl) (Nat.le_of_ble_eq_true rfl) (fun q hq => pX37_append (by omega) hq) (fun q2 hf => ?_)
  refine w_pop dX35_tell_103 rfl ?_
  refine w_goto 321 dX35_tell_104 (by decide) ?_
  exact (pX35_tell_b321 hd hk10 hf).to ⟨rfl, rfl, rfl, trivial⟩
def fX35_tell_b222 (N : Nat) (k10 : Nat → Int32 → Int32 → eH → Option (Unit × eH)) (l0 : Nat) (l1 : Int32) (l2 : Int32) (l3 : Int32) (s0 : Nat) (s1 : Int32) (h : eH) : Option (Unit × eH) :=
  (g_A 34 h l0 63).bind fun a1 =>
  (r_I 100 h a1 (l3 + (1 : Int32))).bind fun x3 =>
  (k_ok 36 h s0).bind fun _ =>
  (fX37_append s0 s1 x3 (0 : Int32) (0 : Int32) (0 : Int32) (0 : Int32) (0 : Int32) h).bind fun q6 =>
  fX35_tell_b321 N k10 l0 l1 l2 q6.2
theorem pX35_tell_b222 {w : eW} {d : Nat} (hd : 2 ≤ d + 1) {N : Nat} {k10 : Nat → Int32 → Int32 → eH → Option (Unit × eH)} (hk10 : ∀ l0 l1 l2 h q, k10 l0 l1 l2 h = some q → wp w (d + 1) YX35_tell 10 [some (.ref l0), some (.int l1), some (.int l2), none, none] [] h (e_is (e_rn c_V q))) {l0 : Nat} {l1 : Int32} {l2 : Int32} {l3 : Int32} {s0 : Nat} {s1 : Int32} {h : eH} {q} (hf : fX35_tell_b222 N k10 l0 l1 l2 l3 s0 s1 h = some q) : wp w (d + 1) YX35_tell 222 [some (.ref l0), some (.int l1), some (.int l2), some (.int l3), none] [.int s1, .ref s0] h (e_is (e_rn c_V q)) := by
  unfold fX35_tell_b222 at hf
  refine w_aload_n dX35_tell_222 rfl rfl ?_
  obtain ⟨a1, b2, hf⟩ := Option.bind_eq_some_iff.mp hf
  refine GX35_148 b2 dX35_tell_223 rfl ?_
  refine w_iload_n dX35_tell_226 rfl rfl ?_
  refine w_iconst dX35_tell_227 (v := 1) (by decide) ?_
  refine w_iadd dX35_tell_228 ?_
  obtain ⟨x3, b4, hf⟩ := Option.bind_eq_some_iff.mp hf
  refine x_rI b4 dX35_tell_229 ?_
  refine w_iconst dX35_tell_230 (v := 0) (by decide) ?_
  refine w_iconst dX35_tell_231 (v := 0) (by decide) ?_
  refine w_iconst dX35_tell_232 (v := 0) (by decide) ?_
  refine w_iconst dX35_tell_233 (v := 0) (by decide) ?_
  refine w_iconst dX35_tell_234 (v := 0) (by decide) ?_
  obtain ⟨_, b5, hf⟩ := Option.bind_eq_some_iff.mp hf
  refine x_cnI hf (e_stVN (Yc := YX37_append) (ci := 36) (av := [.int s1, .int x3, .int (0 : Int32), .int (0 : Int32), .int (0 : Int32), .int (0 : Int32), .int (0 : Int32)]) (st := []) dX35_tell_235 q5750 mX37_append rfl (k_ok_some b5).1 (k_ok_some b5).2) mX37_append.2.2.1 mX37_append.2.2.2.2.1 (Nat.le_of_ble_eq_true rfl) (Nat.le_of_ble_eq_true rfl) (fun q hq => pX37_append (by omega) hq) (fun q6 hf => ?_)
  refine w_pop dX35_tell_238 rfl ?_
  refine w_goto 321 dX35_tell_239 (by decide) ?_
  exact (pX35_tell_b321 hd hk10 hf).to ⟨rfl, rfl, rfl, trivial⟩
def fX35_tell_b303 (N : Nat) (k10 : Nat → Int32 → Int32 → eH → Option (Unit × eH)) (l0 : Nat) (l1 : Int32) (l2 : Int32) (l3 : Int32) (s0 : Nat) (s1 : Int32) (s2 : Int32) (h : eH) : Option (Unit × eH) :=
  (g_A 34 h l0 63).bind fun a1 =>
  (r_I 100 h a1 (l3 + (2 : Int32))).bind fun x3 =>
  (k_ok 36 h s0).bind fun _ =>
  (fX37_append s0 s1 s2 (0 : Int32) (0 : Int32) (0 : Int32) (-2147483648 : Int32) x3 h).bind fun q6 =>
  fX35_tell_b321 N k10 l0 l1 l2 q6.2
theorem pX35_tell_b303 {w : eW} {d : Nat} (hd : 2 ≤ d + 1) {N : Nat} {k10 : Nat → Int32 → Int32 → eH → Option (Unit × eH)} (hk10 : ∀ l0 l1 l2 h q, k10 l0 l1 l2 h = some q → wp w (d + 1) YX35_tell 10 [some (.ref l0), some (.int l1), some (.int l2), none, none] [] h (e_is (e_rn c_V q))) {l0 : Nat} {l1 : Int32} {l2 : Int32} {l3 : Int32} {s0 : Nat} {s1 : Int32} {s2 : Int32} {h : eH} {q} (hf : fX35_tell_b303 N k10 l0 l1 l2 l3 s0 s1 s2 h = some q) : wp w (d + 1) YX35_tell 303 [some (.ref l0), some (.int l1), some (.int l2), some (.int l3), none] [.int s2, .int s1, .ref s0] h (e_is (e_rn c_V q)) := by
  unfold fX35_tell_b303 at hf
  refine w_iconst dX35_tell_303 (v := 0) (by decide) ?_
  refine w_iconst dX35_tell_304 (v := 0) (by decide) ?_
  refine w_iconst dX35_tell_305 (v := 0) (by decide) ?_
  refine w_ldc_w dX35_tell_306 q5754 ?_
  refine w_aload_n dX35_tell_309 rfl rfl ?_
  obtain ⟨a1, b2, hf⟩ := Option.bind_eq_some_iff.mp hf
  refine GX35_148 b2 dX35_tell_310 rfl ?_
  refine w_iload_n dX35_tell_313 rfl rfl ?_
  refine w_iconst dX35_tell_314 (v := 2) (by decide) ?_
  refine w_iadd dX35_tell_315 ?_
  obtain ⟨x3, b4, hf⟩ := Option.bind_eq_some_iff.mp hf
  refine x_rI b4 dX35_tell_316 ?_
  obtain ⟨_, b5, hf⟩ := Option.bind_eq_some_iff.mp hf
  refine x_cnI hf (e_stVN (Yc := YX37_append) (ci := 36) (av := [.int s1, .int s2, .int (0 : Int32), .int (0 : Int32), .int (0 : Int32), .int (-2147483648 : Int32), .int x3]) (st := []) dX35_tell_317 q5750 mX37_append rfl (k_ok_some b5).1 (k_ok_some b5).2) mX37_append.2.2.1 mX37_append.2.2.2.2.1 (Nat.le_of_ble_eq_true rfl) (Nat.le_of_ble_eq_true rfl) (fun q hq => pX37_append (by omega) hq) (fun q6 hf => ?_)
  refine w_pop dX35_tell_320 rfl ?_
  exact (pX35_tell_b321 hd hk10 hf).to ⟨rfl, rfl, rfl, trivial⟩
def fX35_tell_b10 (N : Nat) : Nat → Nat → Int32 → Int32 → eH → Option (Unit × eH)
  | 0, _, _, _, _ => none
  | n + 1, l0, l1, l2, h =>
    if l1 ≤ l2 then
      (g_A 34 h l0 6).bind fun a2 =>
      (g_A 36 h a2 10).bind fun a4 =>
      (k_ok 34 h l0).bind fun _ =>
      (fX35_counter l0 (256 : Int32) h).bind fun q7 =>
      (fX35_within q7.1 (-1 : Int32) (10000 : Int32) q7.2).bind fun q8 =>
      (q_V 100 q8.2 a4 (0 : Int32) (.int q8.1)).bind fun h9 =>
      (g_A 34 h9 l0 6).bind fun a11 =>
      (g_A 36 h9 a11 10).bind fun a13 =>
      (k_ok 34 h9 l0).bind fun _ =>
      (fX35_counter l0 (257 : Int32) h9).bind fun q16 =>
      (fX35_within q16.1 (0 : Int32) (10000 : Int32) q16.2).bind fun q17 =>
      (q_V 100 q17.2 a13 (1 : Int32) (.int q17.1)).bind fun h18 =>
      (g_A 34 h18 l0 6).bind fun a20 =>
      (g_A 36 h18 a20 10).bind fun a22 =>
      (k_ok 34 h18 l0).bind fun _ =>
      (fX35_counter l0 (258 : Int32) h18).bind fun q25 =>
      (fX35_within q25.1 (-10000 : Int32) (10000 : Int32) q25.2).bind fun q26 =>
      (q_V 100 q26.2 a22 (2 : Int32) (.int q26.1)).bind fun h27 =>
      (g_A 34 h27 l0 6).bind fun a29 =>
      (g_A 36 h27 a29 10).bind fun a31 =>
      (k_ok 34 h27 l0).bind fun _ =>
      (fX35_counter l0 (259 : Int32) h27).bind fun q34 =>
      (fX35_within q34.1 (-10000 : Int32) (10000 : Int32) q34.2).bind fun q35 =>
      (q_V 100 q35.2 a31 (3 : Int32) (.int q35.1)).bind fun h36 =>
      (g_A 34 h36 l0 6).bind fun a38 =>
      (g_A 36 h36 a38 10).bind fun a40 =>
      (k_ok 34 h36 l0).bind fun _ =>
      (fX35_counter l0 (260 : Int32) h36).bind fun q43 =>
      (fX35_within q43.1 (-10000 : Int32) (10000 : Int32) q43.2).bind fun q44 =>
      (q_V 100 q44.2 a40 (4 : Int32) (.int q44.1)).bind fun h45 =>
      (g_A 34 h45 l0 6).bind fun a47 =>
      (g_A 36 h45 a47 10).bind fun a49 =>
      (k_ok 34 h45 l0).bind fun _ =>
      (fX35_counter l0 (266 : Int32) h45).bind fun q52 =>
      (fX35_within q52.1 (-1000000 : Int32) (1000000 : Int32) q52.2).bind fun q53 =>
      (q_V 100 q53.2 a49 (5 : Int32) (.int q53.1)).bind fun h54 =>
      (g_A 34 h54 l0 6).bind fun a56 =>
      (g_A 36 h54 a56 10).bind fun a58 =>
      (k_ok 34 h54 l0).bind fun _ =>
      (fX35_counter l0 (267 : Int32) h54).bind fun q61 =>
      (fX35_within q61.1 (-1000000 : Int32) (1000000 : Int32) q61.2).bind fun q62 =>
      (q_V 100 q62.2 a58 (6 : Int32) (.int q62.1)).bind fun h63 =>
      (g_A 34 h63 l0 6).bind fun a65 =>
      (g_A 36 h63 a65 10).bind fun a67 =>
      (k_ok 34 h63 l0).bind fun _ =>
      (fX35_counter l0 (265 : Int32) h63).bind fun q70 =>
      (fX35_within q70.1 (-1000000 : Int32) (1000000 : Int32) q70.2).bind fun q71 =>
      (q_V 100 q71.2 a67 (7 : Int32) (.int q71.1)).bind fun h72 =>
      (g_A 34 h72 l0 6).bind fun a74 =>
      (g_A 36 h72 a74 10).bind fun a76 =>
      (k_ok 34 h72 l0).bind fun _ =>
      (fX35_now l0 (2246 : Int32) h72).bind fun q79 =>
      (fX35_within q79.1 (0 : Int32) (1073741823 : Int32) q79.2).bind fun q80 =>
      (q_V 100 q80.2 a76 (8 : Int32) (.int q80.1)).bind fun h81 =>
      (g_A 34 h81 l0 6).bind fun a83 =>
      (g_A 36 h81 a83 10).bind fun a85 =>
      (k_ok 34 h81 l0).bind fun _ =>
      (fX35_counter l0 (268 : Int32) h81).bind fun q88 =>
      (fX35_within q88.1 (-100 : Int32) (100 : Int32) q88.2).bind fun q89 =>
      (q_V 100 q89.2 a85 (9 : Int32) (.int q89.1)).bind fun h90 =>
      (k_ok 34 h90 l0).bind fun _ =>
      (fX35_around l0 (0 : Int32) (260 : Int32) h90).bind fun q93 =>
      (k_ok 34 q93.2 l0).bind fun _ =>
      (fX35_around l0 (1 : Int32) (261 : Int32) q93.2).bind fun q95 =>
      (k_ok 34 q95.2 l0).bind fun _ =>
      (fX35_around l0 (2 : Int32) (262 : Int32) q95.2).bind fun q97 =>
      (g_A 34 q97.2 l0 6).bind fun a98 =>
      (k_ok 34 q97.2 l0).bind fun _ =>
      (fX35_now l0 (2241 : Int32) q97.2).bind fun q101 =>
      (p_V 36 q101.2 a98 11 (.int q101.1)).bind fun h102 =>
      some ((), h102)
    else
      (g_A 34 h l0 63).bind fun a104 =>
      (r_I 100 h a104 ((6 : Int32) * l2)).bind fun x106 =>
      if ¬ x106 = 0 then
        if ¬ x106 = (1 : Int32) then
          if ¬ x106 = (5 : Int32) then
            if ¬ x106 = (2 : Int32) then
              if ¬ x106 = (3 : Int32) then
                if ¬ x106 = (4 : Int32) then
                  (g_A 34 h l0 6).bind fun a114 =>
                  (g_A 34 h l0 63).bind fun a116 =>
                  (r_I 100 h a116 (((6 : Int32) * l2) + (1 : Int32))).bind fun x118 =>
                  if 0 ≤ x118 then
                    (g_A 34 h l0 63).bind fun a121 =>
                    (r_I 100 h a121 (((6 : Int32) * l2) + (3 : Int32))).bind fun x123 =>
                    fX35_tell_b303 N (fX35_tell_b10 N n) l0 l1 l2 ((6 : Int32) * l2) a114 (5 : Int32) x123 h
                  else
                    fX35_tell_b303 N (fX35_tell_b10 N n) l0 l1 l2 ((6 : Int32) * l2) a114 (5 : Int32) (-2147483648 : Int32) h
                else
                  (g_A 34 h l0 6).bind fun a125 =>
                  (g_A 34 h l0 63).bind fun a127 =>
                  (r_I 100 h a127 (((6 : Int32) * l2) + (1 : Int32))).bind fun x129 =>
                  (k_ok 36 h a125).bind fun _ =>
                  (fX37_append a125 (4 : Int32) x129 (0 : Int32) (0 : Int32) (0 : Int32) (0 : Int32) (0 : Int32) h).bind fun q132 =>
                  fX35_tell_b321 N (fX35_tell_b10 N n) l0 l1 l2 q132.2
              else
                (g_A 34 h l0 6).bind fun a133 =>
                (g_A 34 h l0 63).bind fun a135 =>
                (r_I 100 h a135 (((6 : Int32) * l2) + (2 : Int32))).bind fun x137 =>
                if ¬ x137 = (1 : Int32) then
                  fX35_tell_b222 N (fX35_tell_b10 N n) l0 l1 l2 ((6 : Int32) * l2) a133 (2 : Int32) h
                else
                  fX35_tell_b222 N (fX35_tell_b10 N n) l0 l1 l2 ((6 : Int32) * l2) a133 (3 : Int32) h
            else
              (g_A 34 h l0 6).bind fun a140 =>
              (g_A 34 h l0 63).bind fun a142 =>
              (r_I 100 h a142 (((6 : Int32) * l2) + (1 : Int32))).bind fun x144 =>
              (g_A 34 h l0 63).bind fun a146 =>
              (r_I 100 h a146 (((6 : Int32) * l2) + (2 : Int32))).bind fun x148 =>
              (g_A 34 h l0 63).bind fun a150 =>
              (r_I 100 h a150 (((6 : Int32) * l2) + (3 : Int32))).bind fun x152 =>
              (g_A 34 h l0 63).bind fun a154 =>
              (r_I 100 h a154 (((6 : Int32) * l2) + (4 : Int32))).bind fun x156 =>
              (k_ok 36 h a140).bind fun _ =>
              (fX37_append a140 (1 : Int32) x144 x148 x152 x156 (0 : Int32) (0 : Int32) h).bind fun q159 =>
              fX35_tell_b321 N (fX35_tell_b10 N n) l0 l1 l2 q159.2
          else
            (g_A 34 h l0 6).bind fun a160 =>
            (g_A 34 h l0 68).bind fun a162 =>
            (g_A 34 h l0 63).bind fun a164 =>
            (r_I 100 h a164 (((6 : Int32) * l2) + (1 : Int32))).bind fun x166 =>
            (r_I 100 h a162 x166).bind fun x168 =>
            (k_ok 36 h a160).bind fun _ =>
            (fX37_append a160 (0 : Int32) x168 (0 : Int32) (0 : Int32) (0 : Int32) (0 : Int32) (0 : Int32) h).bind fun q171 =>
            fX35_tell_b321 N (fX35_tell_b10 N n) l0 l1 l2 q171.2
        else
          (g_A 34 h l0 6).bind fun a172 =>
          (g_A 34 h l0 63).bind fun a174 =>
          (r_I 100 h a174 (((6 : Int32) * l2) + (1 : Int32))).bind fun x176 =>
          if ¬ x176 = (-1073741824 : Int32) then
            (g_A 34 h l0 63).bind fun a179 =>
            (r_I 100 h a179 (((6 : Int32) * l2) + (1 : Int32))).bind fun x181 =>
            fX35_tell_b95 N (fX35_tell_b10 N n) l0 l1 l2 a172 (0 : Int32) x181 h
          else
            fX35_tell_b95 N (fX35_tell_b10 N n) l0 l1 l2 a172 (0 : Int32) (0 : Int32) h
      else
        (g_A 34 h l0 6).bind fun a183 =>
        (g_A 34 h l0 63).bind fun a185 =>
        (r_I 100 h a185 (((6 : Int32) * l2) + (3 : Int32))).bind fun x187 =>
        (k_ok 36 h a183).bind fun _ =>
        (fX37_append a183 (0 : Int32) x187 (0 : Int32) (0 : Int32) (0 : Int32) (0 : Int32) (0 : Int32) h).bind fun q190 =>
        fX35_tell_b321 N (fX35_tell_b10 N n) l0 l1 l2 q190.2
theorem pX35_tell_b10 {w : eW} {d : Nat} (hd : 2 ≤ d + 1) {N : Nat} : ∀ (n : Nat) l0 l1 l2 h q, fX35_tell_b10 N n l0 l1 l2 h = some q → wp w (d + 1) YX35_tell 10 [some (.ref l0), some (.int l1), some (.int l2), none, none] [] h (e_is (e_rn c_V q)) := by
  intro n
  induction n with
  | zero => intro l0 l1 l2 h q hf; simp [fX35_tell_b10] at hf
  | succ n ih =>
    intro l0 l1 l2 h q hf
    rw [fX35_tell_b10] at hf
    refine w_iload_n dX35_tell_10 rfl rfl ?_
    refine w_iload_n dX35_tell_11 rfl rfl ?_
    refine w_icmp_ge 327 dX35_tell_12 (by decide) (fun c1 => ?_) (fun c1 => ?_)
    · replace hf := (if_pos (show l1 ≤ l2 from c1)).symm.trans hf
      refine w_aload_n dX35_tell_327 rfl rfl ?_
      obtain ⟨a2, b3, hf⟩ := Option.bind_eq_some_iff.mp hf
      refine GX35_35 b3 dX35_tell_328 rfl ?_
      obtain ⟨a4, b5, hf⟩ := Option.bind_eq_some_iff.mp hf
      refine GX35_904 b5 dX35_tell_331 rfl ?_
      refine w_iconst dX35_tell_334 (v := 0) (by decide) ?_
      refine w_aload_n dX35_tell_335 rfl rfl ?_
      refine w_sipush dX35_tell_336 (v := 256) (by decide) ?_
      obtain ⟨_, b6, hf⟩ := Option.bind_eq_some_iff.mp hf
      refine x_cnI hf (e_stV (Yc := YX35_counter) (ci := 34) (av := [.int (256 : Int32)]) (st := [.int (0 : Int32), .ref a4]) dX35_tell_339 q5595 mX35_counter rfl (k_ok_some b6).1 (k_ok_some b6).2) mX35_counter.2.2.1 mX35_counter.2.2.2.2.1 (Nat.le_of_ble_eq_true rfl) (Nat.le_of_ble_eq_true rfl) (fun q hq => pX35_counter (by omega) hq) (fun q7 hf => ?_)
      refine w_iconst dX35_tell_342 (v := -1) (by decide) ?_
      refine w_sipush dX35_tell_343 (v := 10000) (by decide) ?_
      refine x_cnI hf (e_stS (Yc := YX35_within) (av := [.int q7.1, .int (-1 : Int32), .int (10000 : Int32)]) (st := [.int (0 : Int32), .ref a4]) dX35_tell_346 q5755 mX35_within) mX35_within.2.2.1 mX35_within.2.2.2.2.1 (Nat.le_of_ble_eq_true rfl) (Nat.le_of_ble_eq_true rfl) (fun q hq => pX35_within (by omega) hq) (fun q8 hf => ?_)
      obtain ⟨h9, b10, hf⟩ := Option.bind_eq_some_iff.mp hf
      refine x_qI b10 dX35_tell_349 ?_
      refine w_aload_n dX35_tell_350 rfl rfl ?_
      obtain ⟨a11, b12, hf⟩ := Option.bind_eq_some_iff.mp hf
      refine GX35_35 b12 dX35_tell_351 rfl ?_
      obtain ⟨a13, b14, hf⟩ := Option.bind_eq_some_iff.mp hf
      refine GX35_904 b14 dX35_tell_354 rfl ?_
      refine w_iconst dX35_tell_357 (v := 1) (by decide) ?_
      refine w_aload_n dX35_tell_358 rfl rfl ?_
      refine w_sipush dX35_tell_359 (v := 257) (by decide) ?_
      obtain ⟨_, b15, hf⟩ := Option.bind_eq_some_iff.mp hf
      refine x_cnI hf (e_stV (Yc := YX35_counter) (ci := 34) (av := [.int (257 : Int32)]) (st := [.int (1 : Int32), .ref a13]) dX35_tell_362 q5595 mX35_counter rfl (k_ok_some b15).1 (k_ok_some b15).2) mX35_counter.2.2.1 mX35_counter.2.2.2.2.1 (Nat.le_of_ble_eq_true rfl) (Nat.le_of_ble_eq_true rfl) (fun q hq => pX35_counter (by omega) hq) (fun q16 hf => ?_)
      refine w_iconst dX35_tell_365 (v := 0) (by decide) ?_
      refine w_sipush dX35_tell_366 (v := 10000) (by decide) ?_
      refine x_cnI hf (e_stS (Yc := YX35_within) (av := [.int q16.1, .int (0 : Int32), .int (10000 : Int32)]) (st := [.int (1 : Int32), .ref a13]) dX35_tell_369 q5755 mX35_within) mX35_within.2.2.1 mX35_within.2.2.2.2.1 (Nat.le_of_ble_eq_true rfl) (Nat.le_of_ble_eq_true rfl) (fun q hq => pX35_within (by omega) hq) (fun q17 hf => ?_)
      obtain ⟨h18, b19, hf⟩ := Option.bind_eq_some_iff.mp hf
      refine x_qI b19 dX35_tell_372 ?_
      refine w_aload_n dX35_tell_373 rfl rfl ?_
      obtain ⟨a20, b21, hf⟩ := Option.bind_eq_some_iff.mp hf
      refine GX35_35 b21 dX35_tell_374 rfl ?_
      obtain ⟨a22, b23, hf⟩ := Option.bind_eq_some_iff.mp hf
      refine GX35_904 b23 dX35_tell_377 rfl ?_
      refine w_iconst dX35_tell_380 (v := 2) (by decide) ?_
      refine w_aload_n dX35_tell_381 rfl rfl ?_
      refine w_sipush dX35_tell_382 (v := 258) (by decide) ?_
      obtain ⟨_, b24, hf⟩ := Option.bind_eq_some_iff.mp hf
      refine x_cnI hf (e_stV (Yc := YX35_counter) (ci := 34) (av := [.int (258 : Int32)]) (st := [.int (2 : Int32), .ref a22]) dX35_tell_385 q5595 mX35_counter rfl (k_ok_some b24).1 (k_ok_some b24).2) mX35_counter.2.2.1 mX35_counter.2.2.2.2.1 (Nat.le_of_ble_eq_true rfl) (Nat.le_of_ble_eq_true rfl) (fun q hq => pX35_counter (by omega) hq) (fun q25 hf => ?_)
      refine w_sipush dX35_tell_388 (v := -10000) (by decide) ?_
      refine w_sipush dX35_tell_391 (v := 10000) (by decide) ?_
      refine x_cnI hf (e_stS (Yc := YX35_within) (av := [.int q25.1, .int (-10000 : Int32), .int (10000 : Int32)]) (st := [.int (2 : Int32), .ref a22]) dX35_tell_394 q5755 mX35_within) mX35_within.2.2.1 mX35_within.2.2.2.2.1 (Nat.le_of_ble_eq_true rfl) (Nat.le_of_ble_eq_true rfl) (fun q hq => pX35_within (by omega) hq) (fun q26 hf => ?_)
      obtain ⟨h27, b28, hf⟩ := Option.bind_eq_some_iff.mp hf
      refine x_qI b28 dX35_tell_397 ?_
      refine w_aload_n dX35_tell_398 rfl rfl ?_
      obtain ⟨a29, b30, hf⟩ := Option.bind_eq_some_iff.mp hf
      refine GX35_35 b30 dX35_tell_399 rfl ?_
      obtain ⟨a31, b32, hf⟩ := Option.bind_eq_some_iff.mp hf
      refine GX35_904 b32 dX35_tell_402 rfl ?_
      refine w_iconst dX35_tell_405 (v := 3) (by decide) ?_
      refine w_aload_n dX35_tell_406 rfl rfl ?_
      refine w_sipush dX35_tell_407 (v := 259) (by decide) ?_
      obtain ⟨_, b33, hf⟩ := Option.bind_eq_some_iff.mp hf
      refine x_cnI hf (e_stV (Yc := YX35_counter) (ci := 34) (av := [.int (259 : Int32)]) (st := [.int (3 : Int32), .ref a31]) dX35_tell_410 q5595 mX35_counter rfl (k_ok_some b33).1 (k_ok_some b33).2) mX35_counter.2.2.1 mX35_counter.2.2.2.2.1 (Nat.le_of_ble_eq_true rfl) (Nat.le_of_ble_eq_true rfl) (fun q hq => pX35_counter (by omega) hq) (fun q34 hf => ?_)
      refine w_sipush dX35_tell_413 (v := -10000) (by decide) ?_
      refine w_sipush dX35_tell_416 (v := 10000) (by decide) ?_
      refine x_cnI hf (e_stS (Yc := YX35_within) (av := [.int q34.1, .int (-10000 : Int32), .int (10000 : Int32)]) (st := [.int (3 : Int32), .ref a31]) dX35_tell_419 q5755 mX35_within) mX35_within.2.2.1 mX35_within.2.2.2.2.1 (Nat.le_of_ble_eq_true rfl) (Nat.le_of_ble_eq_true rfl) (fun q hq => pX35_within (by omega) hq) (fun q35 hf => ?_)
      obtain ⟨h36, b37, hf⟩ := Option.bind_eq_some_iff.mp hf
      refine x_qI b37 dX35_tell_422 ?_
      refine w_aload_n dX35_tell_423 rfl rfl ?_
      obtain ⟨a38, b39, hf⟩ := Option.bind_eq_some_iff.mp hf
      refine GX35_35 b39 dX35_tell_424 rfl ?_
      obtain ⟨a40, b41, hf⟩ := Option.bind_eq_some_iff.mp hf
      refine GX35_904 b41 dX35_tell_427 rfl ?_
      refine w_iconst dX35_tell_430 (v := 4) (by decide) ?_
      refine w_aload_n dX35_tell_431 rfl rfl ?_
      refine w_sipush dX35_tell_432 (v := 260) (by decide) ?_
      obtain ⟨_, b42, hf⟩ := Option.bind_eq_some_iff.mp hf
      refine x_cnI hf (e_stV (Yc := YX35_counter) (ci := 34) (av := [.int (260 : Int32)]) (st := [.int (4 : Int32), .ref a40]) dX35_tell_435 q5595 mX35_counter rfl (k_ok_some b42).1 (k_ok_some b42).2) mX35_counter.2.2.1 mX35_counter.2.2.2.2.1 (Nat.le_of_ble_eq_true rfl) (Nat.le_of_ble_eq_true rfl) (fun q hq => pX35_counter (by omega) hq) (fun q43 hf => ?_)
      refine w_sipush dX35_tell_438 (v := -10000) (by decide) ?_
      refine w_sipush dX35_tell_441 (v := 10000) (by decide) ?_
      refine x_cnI hf (e_stS (Yc := YX35_within) (av := [.int q43.1, .int (-10000 : Int32), .int (10000 : Int32)]) (st := [.int (4 : Int32), .ref a40]) dX35_tell_444 q5755 mX35_within) mX35_within.2.2.1 mX35_within.2.2.2.2.1 (Nat.le_of_ble_eq_true rfl) (Nat.le_of_ble_eq_true rfl) (fun q hq => pX35_within (by omega) hq) (fun q44 hf => ?_)
      obtain ⟨h45, b46, hf⟩ := Option.bind_eq_some_iff.mp hf
      refine x_qI b46 dX35_tell_447 ?_
      refine w_aload_n dX35_tell_448 rfl rfl ?_
      obtain ⟨a47, b48, hf⟩ := Option.bind_eq_some_iff.mp hf
      refine GX35_35 b48 dX35_tell_449 rfl ?_
      obtain ⟨a49, b50, hf⟩ := Option.bind_eq_some_iff.mp hf
      refine GX35_904 b50 dX35_tell_452 rfl ?_
      refine w_iconst dX35_tell_455 (v := 5) (by decide) ?_
      refine w_aload_n dX35_tell_456 rfl rfl ?_
      refine w_sipush dX35_tell_457 (v := 266) (by decide) ?_
      obtain ⟨_, b51, hf⟩ := Option.bind_eq_some_iff.mp hf
      refine x_cnI hf (e_stV (Yc := YX35_counter) (ci := 34) (av := [.int (266 : Int32)]) (st := [.int (5 : Int32), .ref a49]) dX35_tell_460 q5595 mX35_counter rfl (k_ok_some b51).1 (k_ok_some b51).2) mX35_counter.2.2.1 mX35_counter.2.2.2.2.1 (Nat.le_of_ble_eq_true rfl) (Nat.le_of_ble_eq_true rfl) (fun q hq => pX35_counter (by omega) hq) (fun q52 hf => ?_)
      refine w_ldc_w dX35_tell_463 q5758 ?_
      refine w_ldc_w dX35_tell_466 q5759 ?_
      refine x_cnI hf (e_stS (Yc := YX35_within) (av := [.int q52.1, .int (-1000000 : Int32), .int (1000000 : Int32)]) (st := [.int (5 : Int32), .ref a49]) dX35_tell_469 q5755 mX35_within) mX35_within.2.2.1 mX35_within.2.2.2.2.1 (Nat.le_of_ble_eq_true rfl) (Nat.le_of_ble_eq_true rfl) (fun q hq => pX35_within (by omega) hq) (fun q53 hf => ?_)
      obtain ⟨h54, b55, hf⟩ := Option.bind_eq_some_iff.mp hf
      refine x_qI b55 dX35_tell_472 ?_
      refine w_aload_n dX35_tell_473 rfl rfl ?_
      obtain ⟨a56, b57, hf⟩ := Option.bind_eq_some_iff.mp hf
      refine GX35_35 b57 dX35_tell_474 rfl ?_
      obtain ⟨a58, b59, hf⟩ := Option.bind_eq_some_iff.mp hf
      refine GX35_904 b59 dX35_tell_477 rfl ?_
      refine w_bipush dX35_tell_480 (v := 6) (by decide) ?_
      refine w_aload_n dX35_tell_482 rfl rfl ?_
      refine w_sipush dX35_tell_483 (v := 267) (by decide) ?_
      obtain ⟨_, b60, hf⟩ := Option.bind_eq_some_iff.mp hf
      refine x_cnI hf (e_stV (Yc := YX35_counter) (ci := 34) (av := [.int (267 : Int32)]) (st := [.int (6 : Int32), .ref a58]) dX35_tell_486 q5595 mX35_counter rfl (k_ok_some b60).1 (k_ok_some b60).2) mX35_counter.2.2.1 mX35_counter.2.2.2.2.1 (Nat.le_of_ble_eq_true rfl) (Nat.le_of_ble_eq_true rfl) (fun q hq => pX35_counter (by omega) hq) (fun q61 hf => ?_)
      refine w_ldc_w dX35_tell_489 q5758 ?_
      refine w_ldc_w dX35_tell_492 q5759 ?_
      refine x_cnI hf (e_stS (Yc := YX35_within) (av := [.int q61.1, .int (-1000000 : Int32), .int (1000000 : Int32)]) (st := [.int (6 : Int32), .ref a58]) dX35_tell_495 q5755 mX35_within) mX35_within.2.2.1 mX35_within.2.2.2.2.1 (Nat.le_of_ble_eq_true rfl) (Nat.le_of_ble_eq_true rfl) (fun q hq => pX35_within (by omega) hq) (fun q62 hf => ?_)
      obtain ⟨h63, b64, hf⟩ := Option.bind_eq_some_iff.mp hf
      refine x_qI b64 dX35_tell_498 ?_
      refine w_aload_n dX35_tell_499 rfl rfl ?_
      obtain ⟨a65, b66, hf⟩ := Option.bind_eq_some_iff.mp hf
      refine GX35_35 b66 dX35_tell_500 rfl ?_
      obtain ⟨a67, b68, hf⟩ := Option.bind_eq_some_iff.mp hf
      refine GX35_904 b68 dX35_tell_503 rfl ?_
      refine w_bipush dX35_tell_506 (v := 7) (by decide) ?_
      refine w_aload_n dX35_tell_508 rfl rfl ?_
      refine w_sipush dX35_tell_509 (v := 265) (by decide) ?_
      obtain ⟨_, b69, hf⟩ := Option.bind_eq_some_iff.mp hf
      refine x_cnI hf (e_stV (Yc := YX35_counter) (ci := 34) (av := [.int (265 : Int32)]) (st := [.int (7 : Int32), .ref a67]) dX35_tell_512 q5595 mX35_counter rfl (k_ok_some b69).1 (k_ok_some b69).2) mX35_counter.2.2.1 mX35_counter.2.2.2.2.1 (Nat.le_of_ble_eq_true rfl) (Nat.le_of_ble_eq_true rfl) (fun q hq => pX35_counter (by omega) hq) (fun q70 hf => ?_)
      refine w_ldc_w dX35_tell_515 q5758 ?_
      refine w_ldc_w dX35_tell_518 q5759 ?_
      refine x_cnI hf (e_stS (Yc := YX35_within) (av := [.int q70.1, .int (-1000000 : Int32), .int (1000000 : Int32)]) (st := [.int (7 : Int32), .ref a67]) dX35_tell_521 q5755 mX35_within) mX35_within.2.2.1 mX35_within.2.2.2.2.1 (Nat.le_of_ble_eq_true rfl) (Nat.le_of_ble_eq_true rfl) (fun q hq => pX35_within (by omega) hq) (fun q71 hf => ?_)
      obtain ⟨h72, b73, hf⟩ := Option.bind_eq_some_iff.mp hf
      refine x_qI b73 dX35_tell_524 ?_
      refine w_aload_n dX35_tell_525 rfl rfl ?_
      obtain ⟨a74, b75, hf⟩ := Option.bind_eq_some_iff.mp hf
      refine GX35_35 b75 dX35_tell_526 rfl ?_
      obtain ⟨a76, b77, hf⟩ := Option.bind_eq_some_iff.mp hf
      refine GX35_904 b77 dX35_tell_529 rfl ?_
      refine w_bipush dX35_tell_532 (v := 8) (by decide) ?_
      refine w_aload_n dX35_tell_534 rfl rfl ?_
      refine w_sipush dX35_tell_535 (v := 2246) (by decide) ?_
      obtain ⟨_, b78, hf⟩ := Option.bind_eq_some_iff.mp hf
      refine x_cnI hf (e_stV (Yc := YX35_now) (ci := 34) (av := [.int (2246 : Int32)]) (st := [.int (8 : Int32), .ref a76]) dX35_tell_538 q5097 mX35_now rfl (k_ok_some b78).1 (k_ok_some b78).2) mX35_now.2.2.1 mX35_now.2.2.2.2.1 (Nat.le_of_ble_eq_true rfl) (Nat.le_of_ble_eq_true rfl) (fun q hq => pX35_now (by omega) hq) (fun q79 hf => ?_)
      refine w_iconst dX35_tell_541 (v := 0) (by decide) ?_
      refine w_ldc_w dX35_tell_542 q4479 ?_
      refine x_cnI hf (e_stS (Yc := YX35_within) (av := [.int q79.1, .int (0 : Int32), .int (1073741823 : Int32)]) (st := [.int (8 : Int32), .ref a76]) dX35_tell_545 q5755 mX35_within) mX35_within.2.2.1 mX35_within.2.2.2.2.1 (Nat.le_of_ble_eq_true rfl) (Nat.le_of_ble_eq_true rfl) (fun q hq => pX35_within (by omega) hq) (fun q80 hf => ?_)
      obtain ⟨h81, b82, hf⟩ := Option.bind_eq_some_iff.mp hf
      refine x_qI b82 dX35_tell_548 ?_
      refine w_aload_n dX35_tell_549 rfl rfl ?_
      obtain ⟨a83, b84, hf⟩ := Option.bind_eq_some_iff.mp hf
      refine GX35_35 b84 dX35_tell_550 rfl ?_
      obtain ⟨a85, b86, hf⟩ := Option.bind_eq_some_iff.mp hf
      refine GX35_904 b86 dX35_tell_553 rfl ?_
      refine w_bipush dX35_tell_556 (v := 9) (by decide) ?_
      refine w_aload_n dX35_tell_558 rfl rfl ?_
      refine w_sipush dX35_tell_559 (v := 268) (by decide) ?_
      obtain ⟨_, b87, hf⟩ := Option.bind_eq_some_iff.mp hf
      refine x_cnI hf (e_stV (Yc := YX35_counter) (ci := 34) (av := [.int (268 : Int32)]) (st := [.int (9 : Int32), .ref a85]) dX35_tell_562 q5595 mX35_counter rfl (k_ok_some b87).1 (k_ok_some b87).2) mX35_counter.2.2.1 mX35_counter.2.2.2.2.1 (Nat.le_of_ble_eq_true rfl) (Nat.le_of_ble_eq_true rfl) (fun q hq => pX35_counter (by omega) hq) (fun q88 hf => ?_)
      refine w_bipush dX35_tell_565 (v := -100) (by decide) ?_
      refine w_bipush dX35_tell_567 (v := 100) (by decide) ?_
      refine x_cnI hf (e_stS (Yc := YX35_within) (av := [.int q88.1, .int (-100 : Int32), .int (100 : Int32)]) (st := [.int (9 : Int32), .ref a85]) dX35_tell_569 q5755 mX35_within) mX35_within.2.2.1 mX35_within.2.2.2.2.1 (Nat.le_of_ble_eq_true rfl) (Nat.le_of_ble_eq_true rfl) (fun q hq => pX35_within (by omega) hq) (fun q89 hf => ?_)
      obtain ⟨h90, b91, hf⟩ := Option.bind_eq_some_iff.mp hf
      refine x_qI b91 dX35_tell_572 ?_
      refine w_aload_n dX35_tell_573 rfl rfl ?_
      refine w_iconst dX35_tell_574 (v := 0) (by decide) ?_
      refine w_sipush dX35_tell_575 (v := 260) (by decide) ?_
      obtain ⟨_, b92, hf⟩ := Option.bind_eq_some_iff.mp hf
      refine x_cnV hf (e_stV (Yc := YX35_around) (ci := 34) (av := [.int (0 : Int32), .int (260 : Int32)]) (st := []) dX35_tell_578 q5760 mX35_around rfl (k_ok_some b92).1 (k_ok_some b92).2) mX35_around.2.2.1 mX35_around.2.2.2.2.1 (Nat.le_of_ble_eq_true rfl) (Nat.le_of_ble_eq_true rfl) (fun q hq => pX35_around (by omega) hq) (fun q93 hf => ?_)
      refine w_aload_n dX35_tell_581 rfl rfl ?_
      refine w_iconst dX35_tell_582 (v := 1) (by decide) ?_
      refine w_sipush dX35_tell_583 (v := 261) (by decide) ?_
      obtain ⟨_, b94, hf⟩ := Option.bind_eq_some_iff.mp hf
      refine x_cnV hf (e_stV (Yc := YX35_around) (ci := 34) (av := [.int (1 : Int32), .int (261 : Int32)]) (st := []) dX35_tell_586 q5760 mX35_around rfl (k_ok_some b94).1 (k_ok_some b94).2) mX35_around.2.2.1 mX35_around.2.2.2.2.1 (Nat.le_of_ble_eq_true rfl) (Nat.le_of_ble_eq_true rfl) (fun q hq => pX35_around (by omega) hq) (fun q95 hf => ?_)
      refine w_aload_n dX35_tell_589 rfl rfl ?_
      refine w_iconst dX35_tell_590 (v := 2) (by decide) ?_
      refine w_sipush dX35_tell_591 (v := 262) (by decide) ?_
      obtain ⟨_, b96, hf⟩ := Option.bind_eq_some_iff.mp hf
      refine x_cnV hf (e_stV (Yc := YX35_around) (ci := 34) (av := [.int (2 : Int32), .int (262 : Int32)]) (st := []) dX35_tell_594 q5760 mX35_around rfl (k_ok_some b96).1 (k_ok_some b96).2) mX35_around.2.2.1 mX35_around.2.2.2.2.1 (Nat.le_of_ble_eq_true rfl) (Nat.le_of_ble_eq_true rfl) (fun q hq => pX35_around (by omega) hq) (fun q97 hf => ?_)
      refine w_aload_n dX35_tell_597 rfl rfl ?_
      obtain ⟨a98, b99, hf⟩ := Option.bind_eq_some_iff.mp hf
      refine GX35_35 b99 dX35_tell_598 rfl ?_
      refine w_aload_n dX35_tell_601 rfl rfl ?_
      refine w_sipush dX35_tell_602 (v := 2241) (by decide) ?_
      obtain ⟨_, b100, hf⟩ := Option.bind_eq_some_iff.mp hf
      refine x_cnI hf (e_stV (Yc := YX35_now) (ci := 34) (av := [.int (2241 : Int32)]) (st := [.ref a98]) dX35_tell_605 q5097 mX35_now rfl (k_ok_some b100).1 (k_ok_some b100).2) mX35_now.2.2.1 mX35_now.2.2.2.2.1 (Nat.le_of_ble_eq_true rfl) (Nat.le_of_ble_eq_true rfl) (fun q hq => pX35_now (by omega) hq) (fun q101 hf => ?_)
      obtain ⟨h102, b103, hf⟩ := Option.bind_eq_some_iff.mp hf
      refine SX35_918 b103 dX35_tell_608 rfl ?_
      cases hf
      exact w_vret dX35_tell_611 rfl rfl
    · replace hf := (if_neg (show ¬ (l1 ≤ l2) from c1)).symm.trans hf
      refine w_bipush dX35_tell_15 (v := 6) (by decide) ?_
      refine w_iload_n dX35_tell_17 rfl rfl ?_
      refine w_imul dX35_tell_18 ?_
      refine w_istore_n dX35_tell_19 rfl (by decide) (ls' := [some (.ref l0), some (.int l1), some (.int l2), some (.int ((6 : Int32) * l2)), none]) rfl ?_
      refine w_aload_n dX35_tell_20 rfl rfl ?_
      obtain ⟨a104, b105, hf⟩ := Option.bind_eq_some_iff.mp hf
      refine GX35_148 b105 dX35_tell_21 rfl ?_
      refine w_iload_n dX35_tell_24 rfl rfl ?_
      obtain ⟨x106, b107, hf⟩ := Option.bind_eq_some_iff.mp hf
      refine x_rI b107 dX35_tell_25 ?_
      refine w_istore dX35_tell_26 (by decide) (ls' := [some (.ref l0), some (.int l1), some (.int l2), some (.int ((6 : Int32) * l2)), some (.int x106)]) rfl ?_
      refine w_iload dX35_tell_28 rfl ?_
      refine w_if_ne 58 dX35_tell_30 (by decide) (fun c108 => ?_) (fun c108 => ?_)
      · replace hf := (if_pos (show ¬ x106 = 0 from c108)).symm.trans hf
        refine w_iload dX35_tell_58 rfl ?_
        refine w_iconst dX35_tell_60 (v := 1) (by decide) ?_
        refine w_icmp_ne 107 dX35_tell_61 (by decide) (fun c109 => ?_) (fun c109 => ?_)
        · replace hf := (if_pos (show ¬ x106 = (1 : Int32) from c109)).symm.trans hf
          refine w_iload dX35_tell_107 rfl ?_
          refine w_iconst dX35_tell_109 (v := 5) (by decide) ?_
          refine w_icmp_ne 143 dX35_tell_110 (by decide) (fun c110 => ?_) (fun c110 => ?_)
          · replace hf := (if_pos (show ¬ x106 = (5 : Int32) from c110)).symm.trans hf
            refine w_iload dX35_tell_143 rfl ?_
            refine w_iconst dX35_tell_145 (v := 2) (by decide) ?_
            refine w_icmp_ne 195 dX35_tell_146 (by decide) (fun c111 => ?_) (fun c111 => ?_)
            · replace hf := (if_pos (show ¬ x106 = (2 : Int32) from c111)).symm.trans hf
              refine w_iload dX35_tell_195 rfl ?_
              refine w_iconst dX35_tell_197 (v := 3) (by decide) ?_
              refine w_icmp_ne 242 dX35_tell_198 (by decide) (fun c112 => ?_) (fun c112 => ?_)
              · replace hf := (if_pos (show ¬ x106 = (3 : Int32) from c112)).symm.trans hf
                refine w_iload dX35_tell_242 rfl ?_
                refine w_iconst dX35_tell_244 (v := 4) (by decide) ?_
                refine w_icmp_ne 273 dX35_tell_245 (by decide) (fun c113 => ?_) (fun c113 => ?_)
                · replace hf := (if_pos (show ¬ x106 = (4 : Int32) from c113)).symm.trans hf
                  refine w_aload_n dX35_tell_273 rfl rfl ?_
                  obtain ⟨a114, b115, hf⟩ := Option.bind_eq_some_iff.mp hf
                  refine GX35_35 b115 dX35_tell_274 rfl ?_
                  refine w_iconst dX35_tell_277 (v := 5) (by decide) ?_
                  refine w_aload_n dX35_tell_278 rfl rfl ?_
                  obtain ⟨a116, b117, hf⟩ := Option.bind_eq_some_iff.mp hf
                  refine GX35_148 b117 dX35_tell_279 rfl ?_
                  refine w_iload_n dX35_tell_282 rfl rfl ?_
                  refine w_iconst dX35_tell_283 (v := 1) (by decide) ?_
                  refine w_iadd dX35_tell_284 ?_
                  obtain ⟨x118, b119, hf⟩ := Option.bind_eq_some_iff.mp hf
                  refine x_rI b119 dX35_tell_285 ?_
                  refine w_if_ge 295 dX35_tell_286 (by decide) (fun c120 => ?_) (fun c120 => ?_)
                  · replace hf := (if_pos (show 0 ≤ x118 from c120)).symm.trans hf
                    refine w_aload_n dX35_tell_295 rfl rfl ?_
                    obtain ⟨a121, b122, hf⟩ := Option.bind_eq_some_iff.mp hf
                    refine GX35_148 b122 dX35_tell_296 rfl ?_
                    refine w_iload_n dX35_tell_299 rfl rfl ?_
                    refine w_iconst dX35_tell_300 (v := 3) (by decide) ?_
                    refine w_iadd dX35_tell_301 ?_
                    obtain ⟨x123, b124, hf⟩ := Option.bind_eq_some_iff.mp hf
                    refine x_rI b124 dX35_tell_302 ?_
                    exact (pX35_tell_b303 hd ih hf).to ⟨rfl, rfl, rfl, rfl, trivial⟩
                  · replace hf := (if_neg (show ¬ (0 ≤ x118) from c120)).symm.trans hf
                    refine w_ldc_w dX35_tell_289 q5754 ?_
                    refine w_goto 303 dX35_tell_292 (by decide) ?_
                    exact (pX35_tell_b303 hd ih hf).to ⟨rfl, rfl, rfl, rfl, trivial⟩
                · replace hf := (if_neg (show ¬ (¬ x106 = (4 : Int32)) from (fun z => z c113))).symm.trans hf
                  refine w_aload_n dX35_tell_248 rfl rfl ?_
                  obtain ⟨a125, b126, hf⟩ := Option.bind_eq_some_iff.mp hf
                  refine GX35_35 b126 dX35_tell_249 rfl ?_
                  refine w_iconst dX35_tell_252 (v := 4) (by decide) ?_
                  refine w_aload_n dX35_tell_253 rfl rfl ?_
                  obtain ⟨a127, b128, hf⟩ := Option.bind_eq_some_iff.mp hf
                  refine GX35_148 b128 dX35_tell_254 rfl ?_
                  refine w_iload_n dX35_tell_257 rfl rfl ?_
                  refine w_iconst dX35_tell_258 (v := 1) (by decide) ?_
                  refine w_iadd dX35_tell_259 ?_
                  obtain ⟨x129, b130, hf⟩ := Option.bind_eq_some_iff.mp hf
                  refine x_rI b130 dX35_tell_260 ?_
                  refine w_iconst dX35_tell_261 (v := 0) (by decide) ?_
                  refine w_iconst dX35_tell_262 (v := 0) (by decide) ?_
                  refine w_iconst dX35_tell_263 (v := 0) (by decide) ?_
                  refine w_iconst dX35_tell_264 (v := 0) (by decide) ?_
                  refine w_iconst dX35_tell_265 (v := 0) (by decide) ?_
                  obtain ⟨_, b131, hf⟩ := Option.bind_eq_some_iff.mp hf
                  refine x_cnI hf (e_stVN (Yc := YX37_append) (ci := 36) (av := [.int (4 : Int32), .int x129, .int (0 : Int32), .int (0 : Int32), .int (0 : Int32), .int (0 : Int32), .int (0 : Int32)]) (st := []) dX35_tell_266 q5750 mX37_append rfl (k_ok_some b131).1 (k_ok_some b131).2) mX37_append.2.2.1 mX37_append.2.2.2.2.1 (Nat.le_of_ble_eq_true rfl) (Nat.le_of_ble_eq_true rfl) (fun q hq => pX37_append (by omega) hq) (fun q132 hf => ?_)
                  refine w_pop dX35_tell_269 rfl ?_
                  refine w_goto 321 dX35_tell_270 (by decide) ?_
                  exact (pX35_tell_b321 hd ih hf).to ⟨rfl, rfl, rfl, trivial⟩
              · replace hf := (if_neg (show ¬ (¬ x106 = (3 : Int32)) from (fun z => z c112))).symm.trans hf
                refine w_aload_n dX35_tell_201 rfl rfl ?_
                obtain ⟨a133, b134, hf⟩ := Option.bind_eq_some_iff.mp hf
                refine GX35_35 b134 dX35_tell_202 rfl ?_
                refine w_aload_n dX35_tell_205 rfl rfl ?_
                obtain ⟨a135, b136, hf⟩ := Option.bind_eq_some_iff.mp hf
                refine GX35_148 b136 dX35_tell_206 rfl ?_
                refine w_iload_n dX35_tell_209 rfl rfl ?_
                refine w_iconst dX35_tell_210 (v := 2) (by decide) ?_
                refine w_iadd dX35_tell_211 ?_
                obtain ⟨x137, b138, hf⟩ := Option.bind_eq_some_iff.mp hf
                refine x_rI b138 dX35_tell_212 ?_
                refine w_iconst dX35_tell_213 (v := 1) (by decide) ?_
                refine w_icmp_ne 221 dX35_tell_214 (by decide) (fun c139 => ?_) (fun c139 => ?_)
                · replace hf := (if_pos (show ¬ x137 = (1 : Int32) from c139)).symm.trans hf
                  refine w_iconst dX35_tell_221 (v := 2) (by decide) ?_
                  exact (pX35_tell_b222 hd ih hf).to ⟨rfl, rfl, rfl, rfl, trivial⟩
                · replace hf := (if_neg (show ¬ (¬ x137 = (1 : Int32)) from (fun z => z c139))).symm.trans hf
                  refine w_iconst dX35_tell_217 (v := 3) (by decide) ?_
                  refine w_goto 222 dX35_tell_218 (by decide) ?_
                  exact (pX35_tell_b222 hd ih hf).to ⟨rfl, rfl, rfl, rfl, trivial⟩
            · replace hf := (if_neg (show ¬ (¬ x106 = (2 : Int32)) from (fun z => z c111))).symm.trans hf
              refine w_aload_n dX35_tell_149 rfl rfl ?_
              obtain ⟨a140, b141, hf⟩ := Option.bind_eq_some_iff.mp hf
              refine GX35_35 b141 dX35_tell_150 rfl ?_
              refine w_iconst dX35_tell_153 (v := 1) (by decide) ?_
              refine w_aload_n dX35_tell_154 rfl rfl ?_
              obtain ⟨a142, b143, hf⟩ := Option.bind_eq_some_iff.mp hf
              refine GX35_148 b143 dX35_tell_155 rfl ?_
              refine w_iload_n dX35_tell_158 rfl rfl ?_
              refine w_iconst dX35_tell_159 (v := 1) (by decide) ?_
              refine w_iadd dX35_tell_160 ?_
              obtain ⟨x144, b145, hf⟩ := Option.bind_eq_some_iff.mp hf
              refine x_rI b145 dX35_tell_161 ?_
              refine w_aload_n dX35_tell_162 rfl rfl ?_
              obtain ⟨a146, b147, hf⟩ := Option.bind_eq_some_iff.mp hf
              refine GX35_148 b147 dX35_tell_163 rfl ?_
              refine w_iload_n dX35_tell_166 rfl rfl ?_
              refine w_iconst dX35_tell_167 (v := 2) (by decide) ?_
              refine w_iadd dX35_tell_168 ?_
              obtain ⟨x148, b149, hf⟩ := Option.bind_eq_some_iff.mp hf
              refine x_rI b149 dX35_tell_169 ?_
              refine w_aload_n dX35_tell_170 rfl rfl ?_
              obtain ⟨a150, b151, hf⟩ := Option.bind_eq_some_iff.mp hf
              refine GX35_148 b151 dX35_tell_171 rfl ?_
              refine w_iload_n dX35_tell_174 rfl rfl ?_
              refine w_iconst dX35_tell_175 (v := 3) (by decide) ?_
              refine w_iadd dX35_tell_176 ?_
              obtain ⟨x152, b153, hf⟩ := Option.bind_eq_some_iff.mp hf
              refine x_rI b153 dX35_tell_177 ?_
              refine w_aload_n dX35_tell_178 rfl rfl ?_
              obtain ⟨a154, b155, hf⟩ := Option.bind_eq_some_iff.mp hf
              refine GX35_148 b155 dX35_tell_179 rfl ?_
              refine w_iload_n dX35_tell_182 rfl rfl ?_
              refine w_iconst dX35_tell_183 (v := 4) (by decide) ?_
              refine w_iadd dX35_tell_184 ?_
              obtain ⟨x156, b157, hf⟩ := Option.bind_eq_some_iff.mp hf
              refine x_rI b157 dX35_tell_185 ?_
              refine w_iconst dX35_tell_186 (v := 0) (by decide) ?_
              refine w_iconst dX35_tell_187 (v := 0) (by decide) ?_
              obtain ⟨_, b158, hf⟩ := Option.bind_eq_some_iff.mp hf
              refine x_cnI hf (e_stVN (Yc := YX37_append) (ci := 36) (av := [.int (1 : Int32), .int x144, .int x148, .int x152, .int x156, .int (0 : Int32), .int (0 : Int32)]) (st := []) dX35_tell_188 q5750 mX37_append rfl (k_ok_some b158).1 (k_ok_some b158).2) mX37_append.2.2.1 mX37_append.2.2.2.2.1 (Nat.le_of_ble_eq_true rfl) (Nat.le_of_ble_eq_true rfl) (fun q hq => pX37_append (by omega) hq) (fun q159 hf => ?_)
              refine w_pop dX35_tell_191 rfl ?_
              refine w_goto 321 dX35_tell_192 (by decide) ?_
              exact (pX35_tell_b321 hd ih hf).to ⟨rfl, rfl, rfl, trivial⟩
          · replace hf := (if_neg (show ¬ (¬ x106 = (5 : Int32)) from (fun z => z c110))).symm.trans hf
            refine w_aload_n dX35_tell_113 rfl rfl ?_
            obtain ⟨a160, b161, hf⟩ := Option.bind_eq_some_iff.mp hf
            refine GX35_35 b161 dX35_tell_114 rfl ?_
            refine w_iconst dX35_tell_117 (v := 0) (by decide) ?_
            refine w_aload_n dX35_tell_118 rfl rfl ?_
            obtain ⟨a162, b163, hf⟩ := Option.bind_eq_some_iff.mp hf
            refine GX35_157 b163 dX35_tell_119 rfl ?_
            refine w_aload_n dX35_tell_122 rfl rfl ?_
            obtain ⟨a164, b165, hf⟩ := Option.bind_eq_some_iff.mp hf
            refine GX35_148 b165 dX35_tell_123 rfl ?_
            refine w_iload_n dX35_tell_126 rfl rfl ?_
            refine w_iconst dX35_tell_127 (v := 1) (by decide) ?_
            refine w_iadd dX35_tell_128 ?_
            obtain ⟨x166, b167, hf⟩ := Option.bind_eq_some_iff.mp hf
            refine x_rI b167 dX35_tell_129 ?_
            obtain ⟨x168, b169, hf⟩ := Option.bind_eq_some_iff.mp hf
            refine x_rI b169 dX35_tell_130 ?_
            refine w_iconst dX35_tell_131 (v := 0) (by decide) ?_
            refine w_iconst dX35_tell_132 (v := 0) (by decide) ?_
            refine w_iconst dX35_tell_133 (v := 0) (by decide) ?_
            refine w_iconst dX35_tell_134 (v := 0) (by decide) ?_
            refine w_iconst dX35_tell_135 (v := 0) (by decide) ?_
            obtain ⟨_, b170, hf⟩ := Option.bind_eq_some_iff.mp hf
            refine x_cnI hf (e_stVN (Yc := YX37_append) (ci := 36) (av := [.int (0 : Int32), .int x168, .int (0 : Int32), .int (0 : Int32), .int (0 : Int32), .int (0 : Int32), .int (0 : Int32)]) (st := []) dX35_tell_136 q5750 mX37_append rfl (k_ok_some b170).1 (k_ok_some b170).2) mX37_append.2.2.1 mX37_append.2.2.2.2.1 (Nat.le_of_ble_eq_true rfl) (Nat.le_of_ble_eq_true rfl) (fun q hq => pX37_append (by omega) hq) (fun q171 hf => ?_)
            refine w_pop dX35_tell_139 rfl ?_
            refine w_goto 321 dX35_tell_140 (by decide) ?_
            exact (pX35_tell_b321 hd ih hf).to ⟨rfl, rfl, rfl, trivial⟩
        · replace hf := (if_neg (show ¬ (¬ x106 = (1 : Int32)) from (fun z => z c109))).symm.trans hf
          refine w_aload_n dX35_tell_64 rfl rfl ?_
          obtain ⟨a172, b173, hf⟩ := Option.bind_eq_some_iff.mp hf
          refine GX35_35 b173 dX35_tell_65 rfl ?_
          refine w_iconst dX35_tell_68 (v := 0) (by decide) ?_
          refine w_aload_n dX35_tell_69 rfl rfl ?_
          obtain ⟨a174, b175, hf⟩ := Option.bind_eq_some_iff.mp hf
          refine GX35_148 b175 dX35_tell_70 rfl ?_
          refine w_iload_n dX35_tell_73 rfl rfl ?_
          refine w_iconst dX35_tell_74 (v := 1) (by decide) ?_
          refine w_iadd dX35_tell_75 ?_
          obtain ⟨x176, b177, hf⟩ := Option.bind_eq_some_iff.mp hf
          refine x_rI b177 dX35_tell_76 ?_
          refine w_ldc_w dX35_tell_77 q5562 ?_
          refine w_icmp_ne 87 dX35_tell_80 (by decide) (fun c178 => ?_) (fun c178 => ?_)
          · replace hf := (if_pos (show ¬ x176 = (-1073741824 : Int32) from c178)).symm.trans hf
            refine w_aload_n dX35_tell_87 rfl rfl ?_
            obtain ⟨a179, b180, hf⟩ := Option.bind_eq_some_iff.mp hf
            refine GX35_148 b180 dX35_tell_88 rfl ?_
            refine w_iload_n dX35_tell_91 rfl rfl ?_
            refine w_iconst dX35_tell_92 (v := 1) (by decide) ?_
            refine w_iadd dX35_tell_93 ?_
            obtain ⟨x181, b182, hf⟩ := Option.bind_eq_some_iff.mp hf
            refine x_rI b182 dX35_tell_94 ?_
            exact (pX35_tell_b95 hd ih hf).to ⟨rfl, rfl, rfl, trivial⟩
          · replace hf := (if_neg (show ¬ (¬ x176 = (-1073741824 : Int32)) from (fun z => z c178))).symm.trans hf
            refine w_iconst dX35_tell_83 (v := 0) (by decide) ?_
            refine w_goto 95 dX35_tell_84 (by decide) ?_
            exact (pX35_tell_b95 hd ih hf).to ⟨rfl, rfl, rfl, trivial⟩
      · replace hf := (if_neg (show ¬ (¬ x106 = 0) from (fun z => z c108))).symm.trans hf
        refine w_aload_n dX35_tell_33 rfl rfl ?_
        obtain ⟨a183, b184, hf⟩ := Option.bind_eq_some_iff.mp hf
        refine GX35_35 b184 dX35_tell_34 rfl ?_
        refine w_iconst dX35_tell_37 (v := 0) (by decide) ?_
        refine w_aload_n dX35_tell_38 rfl rfl ?_
        obtain ⟨a185, b186, hf⟩ := Option.bind_eq_some_iff.mp hf
        refine GX35_148 b186 dX35_tell_39 rfl ?_
        refine w_iload_n dX35_tell_42 rfl rfl ?_
        refine w_iconst dX35_tell_43 (v := 3) (by decide) ?_
        refine w_iadd dX35_tell_44 ?_
        obtain ⟨x187, b188, hf⟩ := Option.bind_eq_some_iff.mp hf
        refine x_rI b188 dX35_tell_45 ?_
        refine w_iconst dX35_tell_46 (v := 0) (by decide) ?_
        refine w_iconst dX35_tell_47 (v := 0) (by decide) ?_
        refine w_iconst dX35_tell_48 (v := 0) (by decide) ?_
        refine w_iconst dX35_tell_49 (v := 0) (by decide) ?_
        refine w_iconst dX35_tell_50 (v := 0) (by decide) ?_
        obtain ⟨_, b189, hf⟩ := Option.bind_eq_some_iff.mp hf
        refine x_cnI hf (e_stVN (Yc := YX37_append) (ci := 36) (av := [.int (0 : Int32), .int x187, .int (0 : Int32), .int (0 : Int32), .int (0 : Int32), .int (0 : Int32), .int (0 : Int32)]) (st := []) dX35_tell_51 q5750 mX37_append rfl (k_ok_some b189).1 (k_ok_some b189).2) mX37_append.2.2.1 mX37_append.2.2.2.2.1 (Nat.le_of_ble_eq_true rfl) (Nat.le_of_ble_eq_true rfl) (fun q hq => pX37_append (by omega) hq) (fun q190 hf => ?_)
        refine w_pop dX35_tell_54 rfl ?_
        refine w_goto 321 dX35_tell_55 (by decide) ?_
        exact (pX35_tell_b321 hd ih hf).to ⟨rfl, rfl, rfl, trivial⟩
def fX35_tell (N : Nat) (this : Nat) (p0 : Int32) (h : eH) : Option (Unit × eH) :=
  (g_A 34 h this 6).bind fun a1 =>
  (p_V 36 h a1 1 (.int (0 : Int32))).bind fun h3 =>
  fX35_tell_b10 N N this p0 (0 : Int32) h3
theorem pX35_tell {w : eW} {d : Nat} (hd : 2 ≤ d) {N : Nat} {this : Nat} {p0 : Int32} {h : eH} {q} (hf : fX35_tell N this p0 h = some q) : wm w d YX35_tell [.ref this, .int p0] h (e_is (e_rn c_V q)) := by
  obtain ⟨d, rfl⟩ : ∃ e, d = e + 1 := ⟨d - 1, by omega⟩
  show wp w (d + 1) YX35_tell 0 [some (.ref this), some (.int p0), none, none, none] [] h _
  unfold fX35_tell at hf
  refine w_aload_n dX35_tell_0 rfl rfl ?_
  obtain ⟨a1, b2, hf⟩ := Option.bind_eq_some_iff.mp hf
  refine GX35_35 b2 dX35_tell_1 rfl ?_
  refine w_iconst dX35_tell_4 (v := 0) (by decide) ?_
  obtain ⟨h3, b4, hf⟩ := Option.bind_eq_some_iff.mp hf
  refine SX35_898 b4 dX35_tell_5 rfl ?_
  refine w_iconst dX35_tell_8 (v := 0) (by decide) ?_
  refine w_istore_n dX35_tell_9 rfl (by decide) (ls' := [some (.ref this), some (.int p0), some (.int (0 : Int32)), none, none]) rfl ?_
  exact (pX35_tell_b10 hd N _ _ _ _ _ hf).to ⟨rfl, rfl, rfl, trivial⟩
abbrev cX37_without : ByteArray := prog_38_method_25_code
def yX37_without : MethodName := ⟨RX37, "without", "(I)J"⟩
def YX37_without : eY := (yX37_without, cX37_without, 1, (Option.some FieldType.long), [])
theorem mX37_without : e_ms YX37_without 1 := ⟨q5773, q468, q5774, by decide, by decide +kernel, (e_sig (by decide +kernel))⟩
theorem dX37_without_0 : decode cX37_without 0 = .ok (.iload_n 0, 1) := dc_26 (by decide +kernel)
theorem dX37_without_1 : decode cX37_without 1 = .ok (.ldc 111, 2) := dc_18 (a := 111) (by decide +kernel)
theorem dX37_without_3 : decode cX37_without 3 = .ok (.if_icmp .ne 7, 3) := dc_160 (a := 0) (b := 7) (v := 7) (by decide +kernel)
theorem dX37_without_6 : decode cX37_without 6 = .ok (.lconst 0, 1) := dc_9 (by decide +kernel)
theorem dX37_without_7 : decode cX37_without 7 = .ok (.goto 15, 3) := dc_167 (a := 0) (b := 15) (v := 15) (by decide +kernel)
theorem dX37_without_10 : decode cX37_without 10 = .ok (.iload_n 0, 1) := dc_26 (by decide +kernel)
theorem dX37_without_11 : decode cX37_without 11 = .ok (.ifCond .ge 9, 3) := dc_156 (a := 0) (b := 9) (v := 9) (by decide +kernel)
theorem dX37_without_14 : decode cX37_without 14 = .ok (.iload_n 0, 1) := dc_26 (by decide +kernel)
theorem dX37_without_15 : decode cX37_without 15 = .ok (.i2l, 1) := dc_133 (by decide +kernel)
theorem dX37_without_16 : decode cX37_without 16 = .ok (.lneg, 1) := dc_117 (by decide +kernel)
theorem dX37_without_17 : decode cX37_without 17 = .ok (.goto 5, 3) := dc_167 (a := 0) (b := 5) (v := 5) (by decide +kernel)
theorem dX37_without_20 : decode cX37_without 20 = .ok (.iload_n 0, 1) := dc_26 (by decide +kernel)
theorem dX37_without_21 : decode cX37_without 21 = .ok (.i2l, 1) := dc_133 (by decide +kernel)
theorem dX37_without_22 : decode cX37_without 22 = .ok (.lreturn, 1) := dc_173 (by decide +kernel)
def fX37_without_b22 (s0 : Int64) (h : eH) : Option (Int64 × eH) :=
  some (s0, h)
theorem pX37_without_b22 {w : eW} {d : Nat} (hd : 0 ≤ d) {s0 : Int64} {h : eH} {q} (hf : fX37_without_b22 s0 h = some q) : wp w d YX37_without 22 [none] [.long s0] h (e_is (e_rn c_J q)) := by
  unfold fX37_without_b22 at hf
  cases hf
  exact w_lret dX37_without_22 rfl rfl
def fX37_without (p0 : Int32) (h : eH) : Option (Int64 × eH) :=
  if ¬ p0 = (-2147483648 : Int32) then
    if 0 ≤ p0 then
      fX37_without_b22 (p0).toInt64 h
    else
      fX37_without_b22 (-(p0).toInt64) h
  else
    fX37_without_b22 (0 : Int64) h
theorem pX37_without {w : eW} {d : Nat} (hd : 0 ≤ d) {p0 : Int32} {h : eH} {q} (hf : fX37_without p0 h = some q) : wm w d YX37_without [.int p0] h (e_is (e_rn c_J q)) := by
  show wp w d YX37_without 0 [some (.int p0)] [] h _
  unfold fX37_without at hf
  refine w_iload_n dX37_without_0 rfl rfl ?_
  refine w_ldc dX37_without_1 q5775 ?_
  refine w_icmp_ne 10 dX37_without_3 (by decide) (fun c1 => ?_) (fun c1 => ?_)
  · replace hf := (if_pos (show ¬ p0 = (-2147483648 : Int32) from c1)).symm.trans hf
    refine w_iload_n dX37_without_10 rfl rfl ?_
    refine w_if_ge 20 dX37_without_11 (by decide) (fun c2 => ?_) (fun c2 => ?_)
    · replace hf := (if_pos (show 0 ≤ p0 from c2)).symm.trans hf
      refine w_iload_n dX37_without_20 rfl rfl ?_
      refine w_i2l dX37_without_21 ?_
      exact (pX37_without_b22 hd hf).to trivial
    · replace hf := (if_neg (show ¬ (0 ≤ p0) from c2)).symm.trans hf
      refine w_iload_n dX37_without_14 rfl rfl ?_
      refine w_i2l dX37_without_15 ?_
      refine w_lneg dX37_without_16 ?_
      refine w_goto 22 dX37_without_17 (by decide) ?_
      exact (pX37_without_b22 hd hf).to trivial
  · replace hf := (if_neg (show ¬ (¬ p0 = (-2147483648 : Int32)) from (fun z => z c1))).symm.trans hf
    refine w_lconst dX37_without_6 (v := 0) (by decide) ?_
    refine w_goto 22 dX37_without_7 (by decide) ?_
    exact (pX37_without_b22 hd hf).to trivial
