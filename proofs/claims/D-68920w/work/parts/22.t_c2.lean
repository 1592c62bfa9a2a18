set_option maxRecDepth 100000
set_option maxHeartbeats 4000000
theorem q427 : (Jvm.Cond.initialized "TypeHouse$FontFile") ∈ lw_all := lw_g (lw_at lw_m1 2 rfl) rfl
theorem q428 : (Jvm.Cond.initialized "TypeHouse$Press") ∈ lw_all := lw_g (lw_at lw_m1 3 rfl) rfl
theorem q480 : (Jvm.Cond.initialized "java/lang/IndexOutOfBoundsException") ∈ lw_all := lw_g (lw_at lw_m1 55 rfl) rfl
theorem q487 : (Jvm.Cond.instanceMethod ({ cls := "TypeHouse", name := "<init>", desc := "()V" } : Jvm.MethodName)) ∈ lw_all := lw_g (lw_at lw_m1 62 rfl) rfl
theorem q488 : (Jvm.Cond.code ({ cls := "TypeHouse", name := "<init>", desc := "()V" } : Jvm.MethodName) prog_1_method_9_code (1 : Nat) (Option.none : Option Jvm.ClassFile.FieldType)) ∈ lw_all := lw_g (lw_at lw_m1 63 rfl) rfl
theorem q489 : (Jvm.Cond.methodLink "TypeHouse" (24 : Nat) ({ cls := "java/lang/Object", name := "<init>", desc := "()V" } : Jvm.MethodName)) ∈ lw_all := lw_g (lw_at lw_m1 64 rfl) rfl
theorem q492 : (Jvm.Cond.constant "TypeHouse" (30 : Nat) (65536 : Int32)) ∈ lw_all := lw_g (lw_at lw_m1 67 rfl) rfl
theorem q493 : (Jvm.Cond.classLink "TypeHouse" (35 : Nat) "TypeHouse$FontFile") ∈ lw_all := lw_g (lw_at lw_m1 68 rfl) rfl
theorem q494 : (Jvm.Cond.instantiable "TypeHouse$FontFile" (2 : Nat)) ∈ lw_all := lw_g (lw_at lw_m1 69 rfl) rfl
theorem q495 : (Jvm.Cond.methodLinkNest "TypeHouse" (37 : Nat) ({ cls := "TypeHouse$FontFile", name := "<init>", desc := "()V" } : Jvm.MethodName) "TypeHouse") ∈ lw_tbl := lw_at lw_m1 70 rfl
theorem q500 : (Jvm.Cond.fieldLink "TypeHouse$FontFile" (21 : Nat) "TypeHouse$FontFile" "size" "I") ∈ lw_all := lw_g (lw_at lw_m1 75 rfl) rfl
theorem q501 : (Jvm.Cond.fieldLinkNest "TypeHouse$Font" (40 : Nat) "TypeHouse$FontFile" "size" "I" "TypeHouse") ∈ lw_tbl := lw_at lw_m1 76 rfl
theorem q508 : (Jvm.Cond.classLink "TypeHouse" (42 : Nat) "TypeHouse$Press") ∈ lw_all := lw_g (lw_at lw_m1 83 rfl) rfl
theorem q509 : (Jvm.Cond.instantiable "TypeHouse$Press" (37 : Nat)) ∈ lw_all := lw_g (lw_at lw_m1 84 rfl) rfl
theorem q510 : (Jvm.Cond.methodLinkNest "TypeHouse" (44 : Nat) ({ cls := "TypeHouse$Press", name := "<init>", desc := "()V" } : Jvm.MethodName) "TypeHouse") ∈ lw_tbl := lw_at lw_m1 85 rfl
theorem q521 : (Jvm.Cond.fieldLinkNest "TypeHouse$Expander" (137 : Nat) "TypeHouse$Trouble" "fault" "I" "TypeHouse") ∈ lw_tbl := lw_at lw_m1 96 rfl
theorem q548 : (Jvm.Cond.fieldLink "TypeHouse$Font" (25 : Nat) "TypeHouse$Font" "first" "I") ∈ lw_all := lw_g (lw_at lw_m1 123 rfl) rfl
theorem q549 : (Jvm.Cond.fieldLink "TypeHouse$Font" (29 : Nat) "TypeHouse$Font" "last" "I") ∈ lw_all := lw_g (lw_at lw_m1 124 rfl) rfl
theorem q555 : (Jvm.Cond.fieldLink "TypeHouse$Font" (81 : Nat) "TypeHouse$Font" "edge" "I") ∈ lw_all := lw_g (lw_at lw_m1 130 rfl) rfl
theorem q557 : (Jvm.Cond.fieldLink "TypeHouse$Font" (84 : Nat) "TypeHouse$Font" "edgeProgram" "I") ∈ lw_all := lw_g (lw_at lw_m1 132 rfl) rfl
theorem q589 : (Jvm.Cond.fieldLink "TypeHouse$FontTable" (39 : Nat) "TypeHouse$FontTable" "count" "I") ∈ lw_all := lw_g (lw_at lw_m1 164 rfl) rfl
theorem q594 : (Jvm.Cond.fieldLink "TypeHouse$FontTable" (43 : Nat) "TypeHouse$FontTable" "told" "I") ∈ lw_all := lw_g (lw_at lw_m1 169 rfl) rfl
theorem q626 : (Jvm.Cond.fieldLinkNest "TypeHouse$Press" (187 : Nat) "TypeHouse$Pool" "size" "I" "TypeHouse") ∈ lw_tbl := lw_at lw_m1 201 rfl
theorem q657 : (Jvm.Cond.fieldLinkNest "TypeHouse" (150 : Nat) "TypeHouse$Settings" "cells" "[I" "TypeHouse") ∈ lw_tbl := lw_at lw_m1 232 rfl
theorem q744 : (Jvm.Cond.fieldLink "TypeHouse$SourceLines" (28 : Nat) "TypeHouse$SourceLines" "next" "I") ∈ lw_all := lw_g (lw_at lw_m2 79 rfl) rfl
theorem q745 : (Jvm.Cond.fieldLink "TypeHouse$SourceLines" (32 : Nat) "TypeHouse$SourceLines" "at" "I") ∈ lw_all := lw_g (lw_at lw_m2 80 rfl) rfl
theorem q746 : (Jvm.Cond.fieldLink "TypeHouse$SourceLines" (35 : Nat) "TypeHouse$SourceLines" "end" "I") ∈ lw_all := lw_g (lw_at lw_m2 81 rfl) rfl
theorem q748 : (Jvm.Cond.fieldLink "TypeHouse$SourceLines" (38 : Nat) "TypeHouse$SourceLines" "line" "I") ∈ lw_all := lw_g (lw_at lw_m2 83 rfl) rfl
theorem q782 : (Jvm.Cond.fieldLinkNest "TypeHouse$Expander" (114 : Nat) "TypeHouse$Macros" "used" "I" "TypeHouse") ∈ lw_tbl := lw_at lw_m2 117 rfl
theorem q793 : (Jvm.Cond.fieldLinkNest "TypeHouse$Expander" (118 : Nat) "TypeHouse$Macros" "count" "I" "TypeHouse") ∈ lw_tbl := lw_at lw_m2 128 rfl
theorem q820 : (Jvm.Cond.fieldLink "TypeHouse$Tokens" (23 : Nat) "TypeHouse$Tokens" "pending" "I") ∈ lw_all := lw_g (lw_at lw_m2 155 rfl) rfl
theorem q842 : (Jvm.Cond.fieldLink "TypeHouse$Expander" (122 : Nat) "TypeHouse$Expander" "ticks" "I") ∈ lw_all := lw_g (lw_at lw_m2 177 rfl) rfl
theorem q846 : (Jvm.Cond.fieldLink "TypeHouse$Expander" (125 : Nat) "TypeHouse$Expander" "nested" "I") ∈ lw_all := lw_g (lw_at lw_m2 181 rfl) rfl
theorem q847 : (Jvm.Cond.fieldLinkNest "TypeHouse$Press" (215 : Nat) "TypeHouse$Expander" "vertical" "Z" "TypeHouse") ∈ lw_tbl := lw_at lw_m2 182 rfl
theorem q852 : (Jvm.Cond.fieldLink "TypeHouse$Expander" (128 : Nat) "TypeHouse$Expander" "conditions" "I") ∈ lw_all := lw_g (lw_at lw_m2 187 rfl) rfl
theorem q860 : (Jvm.Cond.fieldLink "TypeHouse$Expander" (131 : Nat) "TypeHouse$Expander" "madeSize" "I") ∈ lw_all := lw_g (lw_at lw_m2 195 rfl) rfl
theorem q862 : (Jvm.Cond.fieldLink "TypeHouse$Expander" (134 : Nat) "TypeHouse$Expander" "heldSize" "I") ∈ lw_all := lw_g (lw_at lw_m2 197 rfl) rfl
theorem q974 : (Jvm.Cond.fieldLinkNest "TypeHouse$Hyphenator" (97 : Nat) "TypeHouse$Trie" "patterns" "I" "TypeHouse") ∈ lw_tbl := lw_at lw_m3 69 rfl
theorem q1047 : (Jvm.Cond.fieldLink "TypeHouse$ToldWords" (36 : Nat) "TypeHouse$ToldWords" "count" "I") ∈ lw_all := lw_g (lw_at lw_m3 142 rfl) rfl
theorem q1048 : (Jvm.Cond.fieldLinkNest "TypeHouse$Hyphenator" (107 : Nat) "TypeHouse$ToldWords" "count" "I" "TypeHouse") ∈ lw_tbl := lw_at lw_m3 143 rfl
theorem q1049 : (Jvm.Cond.fieldLink "TypeHouse$ToldWords" (40 : Nat) "TypeHouse$ToldWords" "used" "I") ∈ lw_all := lw_g (lw_at lw_m3 144 rfl) rfl
theorem q1410 : (Jvm.Cond.fieldLinkNest "TypeHouse$Press" (202 : Nat) "TypeHouse$Pass" "looks" "I" "TypeHouse") ∈ lw_tbl := lw_at lw_m5 25 rfl
theorem q1455 : (Jvm.Cond.fieldLinkNest "TypeHouse$Press" (198 : Nat) "TypeHouse$Breaker" "pass" "LTypeHouse$Pass;" "TypeHouse") ∈ lw_tbl := lw_at lw_m5 70 rfl
theorem q1509 : (Jvm.Cond.fieldLinkNest "TypeHouse$Press" (194 : Nat) "TypeHouse$PageItems" "size" "I" "TypeHouse") ∈ lw_tbl := lw_at lw_m5 124 rfl
theorem q1632 : (Jvm.Cond.fieldLink "TypeHouse$PageBuilder" (102 : Nat) "TypeHouse$PageBuilder" "at" "I") ∈ lw_all := lw_g (lw_at lw_m6 7 rfl) rfl
theorem q1673 : (Jvm.Cond.fieldLinkNest "TypeHouse$Writer" (66 : Nat) "TypeHouse$FileBytes" "size" "I" "TypeHouse") ∈ lw_tbl := lw_at lw_m6 48 rfl
theorem q1724 : (Jvm.Cond.fieldLink "TypeHouse$Writer" (69 : Nat) "TypeHouse$Writer" "marks" "I") ∈ lw_all := lw_g (lw_at lw_m6 99 rfl) rfl
theorem q1728 : (Jvm.Cond.fieldLink "TypeHouse$Writer" (60 : Nat) "TypeHouse$Writer" "comment" "I") ∈ lw_all := lw_g (lw_at lw_m6 103 rfl) rfl
theorem q1729 : (Jvm.Cond.fieldLink "TypeHouse$Writer" (63 : Nat) "TypeHouse$Writer" "commentSize" "I") ∈ lw_all := lw_g (lw_at lw_m6 104 rfl) rfl
theorem q1730 : (Jvm.Cond.fieldLink "TypeHouse$Writer" (72 : Nat) "TypeHouse$Writer" "pages" "I") ∈ lw_all := lw_g (lw_at lw_m6 105 rfl) rfl
theorem q1733 : (Jvm.Cond.fieldLink "TypeHouse$Writer" (75 : Nat) "TypeHouse$Writer" "greatestV" "I") ∈ lw_all := lw_g (lw_at lw_m6 108 rfl) rfl
theorem q1734 : (Jvm.Cond.fieldLink "TypeHouse$Writer" (78 : Nat) "TypeHouse$Writer" "greatestH" "I") ∈ lw_all := lw_g (lw_at lw_m6 109 rfl) rfl
theorem q1735 : (Jvm.Cond.fieldLink "TypeHouse$Writer" (81 : Nat) "TypeHouse$Writer" "closed" "Z") ∈ lw_all := lw_g (lw_at lw_m6 110 rfl) rfl
theorem q1781 : (Jvm.Cond.fieldLinkNest "TypeHouse$Press" (210 : Nat) "TypeHouse$Lists" "size" "I" "TypeHouse") ∈ lw_tbl := lw_at lw_m6 156 rfl
theorem q1792 : (Jvm.Cond.fieldLink "TypeHouse$Press" (191 : Nat) "TypeHouse$Press" "boxCount" "I") ∈ lw_all := lw_g (lw_at lw_m6 167 rfl) rfl
theorem q1796 : (Jvm.Cond.fieldLinkNest "TypeHouse" (146 : Nat) "TypeHouse$Press" "settings" "LTypeHouse$Settings;" "TypeHouse") ∈ lw_tbl := lw_at lw_m6 171 rfl
theorem q1798 : (Jvm.Cond.fieldLinkNest "TypeHouse" (85 : Nat) "TypeHouse$Press" "hyphenator" "LTypeHouse$Hyphenator;" "TypeHouse") ∈ lw_tbl := lw_at lw_m6 173 rfl
theorem q1819 : (Jvm.Cond.fieldLink "TypeHouse$Press" (211 : Nat) "TypeHouse$Press" "top" "I") ∈ lw_all := lw_g (lw_at lw_m6 194 rfl) rfl
theorem q1822 : (Jvm.Cond.fieldLink "TypeHouse$Press" (219 : Nat) "TypeHouse$Press" "wordSize" "I") ∈ lw_all := lw_g (lw_at lw_m6 197 rfl) rfl
theorem q1827 : (Jvm.Cond.fieldLink "TypeHouse$Press" (222 : Nat) "TypeHouse$Press" "stopped" "Z") ∈ lw_all := lw_g (lw_at lw_m6 202 rfl) rfl
theorem q1829 : (Jvm.Cond.fieldLinkNest "TypeHouse" (142 : Nat) "TypeHouse$Press" "abouts" "[I" "TypeHouse") ∈ lw_tbl := lw_at lw_m6 204 rfl
theorem q1905 : (Jvm.Cond.constant "TypeHouse" (49 : Nat) (100000 : Int32)) ∈ lw_all := lw_g (lw_at lw_m7 40 rfl) rfl
theorem q1906 : (Jvm.Cond.methodLinkNest "TypeHouse" (54 : Nat) ({ cls := "TypeHouse$Press", name := "begin", desc := "()V" } : Jvm.MethodName) "TypeHouse") ∈ lw_tbl := lw_at lw_m7 41 rfl
theorem q1908 : (Jvm.Cond.instanceMethod ({ cls := "TypeHouse$Press", name := "begin", desc := "()V" } : Jvm.MethodName)) ∈ lw_all := lw_g (lw_at lw_m7 43 rfl) rfl
theorem q1909 : (Jvm.Cond.code ({ cls := "TypeHouse$Press", name := "begin", desc := "()V" } : Jvm.MethodName) prog_26_method_2_code (1 : Nat) (Option.none : Option Jvm.ClassFile.FieldType)) ∈ lw_all := lw_g (lw_at lw_m7 44 rfl) rfl
theorem q1910 : (Jvm.Cond.methodLinkNest "TypeHouse$Press" (181 : Nat) ({ cls := "TypeHouse$Expander", name := "begin", desc := "()V" } : Jvm.MethodName) "TypeHouse") ∈ lw_tbl := lw_at lw_m7 45 rfl
theorem q1912 : (Jvm.Cond.instanceMethod ({ cls := "TypeHouse$Expander", name := "begin", desc := "()V" } : Jvm.MethodName)) ∈ lw_all := lw_g (lw_at lw_m7 47 rfl) rfl
theorem q1913 : (Jvm.Cond.code ({ cls := "TypeHouse$Expander", name := "begin", desc := "()V" } : Jvm.MethodName) prog_4_method_2_code (2 : Nat) (Option.none : Option Jvm.ClassFile.FieldType)) ∈ lw_all := lw_g (lw_at lw_m7 48 rfl) rfl
theorem q1914 : (Jvm.Cond.methodLink "TypeHouse$Expander" (97 : Nat) ({ cls := "TypeHouse$Names", name := "clear", desc := "()V" } : Jvm.MethodName)) ∈ lw_all := lw_g (lw_at lw_m7 49 rfl) rfl
theorem q1918 : (Jvm.Cond.methodLinkNest "TypeHouse$Expander" (100 : Nat) ({ cls := "TypeHouse$Settings", name := "clear", desc := "()V" } : Jvm.MethodName) "TypeHouse") ∈ lw_tbl := lw_at lw_m7 53 rfl
theorem q1941 : (Jvm.Cond.methodLink "TypeHouse$Expander" (103 : Nat) ({ cls := "TypeHouse$Names", name := "enter", desc := "(Ljava/lang/String;)V" } : Jvm.MethodName)) ∈ lw_all := lw_g (lw_at lw_m7 76 rfl) rfl
theorem q1942 : (Jvm.Cond.instanceMethod ({ cls := "TypeHouse$Names", name := "enter", desc := "(Ljava/lang/String;)V" } : Jvm.MethodName)) ∈ lw_all := lw_g (lw_at lw_m7 77 rfl) rfl
theorem q1943 : (Jvm.Cond.selects "TypeHouse$Names" ({ cls := "TypeHouse$Names", name := "enter", desc := "(Ljava/lang/String;)V" } : Jvm.MethodName) ({ cls := "TypeHouse$Names", name := "enter", desc := "(Ljava/lang/String;)V" } : Jvm.MethodName)) ∈ lw_all := lw_g (lw_at lw_m7 78 rfl) rfl
theorem q1944 : (Jvm.Cond.code ({ cls := "TypeHouse$Names", name := "enter", desc := "(Ljava/lang/String;)V" } : Jvm.MethodName) prog_17_method_10_code (3 : Nat) (Option.none : Option Jvm.ClassFile.FieldType)) ∈ lw_all := lw_g (lw_at lw_m7 79 rfl) rfl
theorem q1945 : (Jvm.Cond.methodLink "TypeHouse$Names" (70 : Nat) ({ cls := "TypeHouse$Names", name := "open", desc := "()V" } : Jvm.MethodName)) ∈ lw_all := lw_g (lw_at lw_m7 80 rfl) rfl
theorem q1949 : (Jvm.Cond.methodLink "TypeHouse$Names" (73 : Nat) ({ cls := "java/lang/String", name := "length", desc := "()I" } : Jvm.MethodName)) ∈ lw_all := lw_g (lw_at lw_m7 84 rfl) rfl
theorem q1959 : (Jvm.Cond.methodLink "TypeHouse$Names" (78 : Nat) ({ cls := "java/lang/String", name := "charAt", desc := "(I)C" } : Jvm.MethodName)) ∈ lw_all := lw_g (lw_at lw_m7 94 rfl) rfl
theorem q1997 : (Jvm.Cond.methodLink "TypeHouse$Names" (62 : Nat) ({ cls := "TypeHouse$Names", name := "seek", desc := "()I" } : Jvm.MethodName)) ∈ lw_all := lw_g (lw_at lw_m7 132 rfl) rfl
theorem q1999 : (Jvm.Cond.instanceMethod ({ cls := "TypeHouse$Names", name := "seek", desc := "()I" } : Jvm.MethodName)) ∈ lw_all := lw_g (lw_at lw_m7 134 rfl) rfl
theorem q2000 : (Jvm.Cond.code ({ cls := "TypeHouse$Names", name := "seek", desc := "()I" } : Jvm.MethodName) prog_17_method_6_code (3 : Nat) (Option.some Jvm.ClassFile.FieldType.int)) ∈ lw_all := lw_g (lw_at lw_m7 135 rfl) rfl
theorem q2001 : (Jvm.Cond.methodLink "TypeHouse$Names" (48 : Nat) ({ cls := "TypeHouse$Names", name := "matches", desc := "(I)Z" } : Jvm.MethodName)) ∈ lw_all := lw_g (lw_at lw_m7 136 rfl) rfl
theorem q2003 : (Jvm.Cond.instanceMethod ({ cls := "TypeHouse$Names", name := "matches", desc := "(I)Z" } : Jvm.MethodName)) ∈ lw_all := lw_g (lw_at lw_m7 138 rfl) rfl
theorem q2004 : (Jvm.Cond.code ({ cls := "TypeHouse$Names", name := "matches", desc := "(I)Z" } : Jvm.MethodName) prog_17_method_5_code (4 : Nat) (Option.some Jvm.ClassFile.FieldType.boolean)) ∈ lw_all := lw_g (lw_at lw_m7 139 rfl) rfl
theorem q2005 : (Jvm.Cond.methodLink "TypeHouse$Names" (66 : Nat) ({ cls := "TypeHouse$Names", name := "make", desc := "(I)V" } : Jvm.MethodName)) ∈ lw_all := lw_g (lw_at lw_m7 140 rfl) rfl
theorem q2007 : (Jvm.Cond.instanceMethod ({ cls := "TypeHouse$Names", name := "make", desc := "(I)V" } : Jvm.MethodName)) ∈ lw_all := lw_g (lw_at lw_m7 142 rfl) rfl
theorem q2008 : (Jvm.Cond.code ({ cls := "TypeHouse$Names", name := "make", desc := "(I)V" } : Jvm.MethodName) prog_17_method_7_code (3 : Nat) (Option.none : Option Jvm.ClassFile.FieldType)) ∈ lw_all := lw_g (lw_at lw_m7 143 rfl) rfl
theorem q2009 : (Jvm.Cond.methodLinkNest "TypeHouse$Names" (52 : Nat) ({ cls := "TypeHouse", name := "grown", desc := "([II)[I" } : Jvm.MethodName) "TypeHouse") ∈ lw_tbl := lw_at lw_m7 144 rfl
theorem q2010 : (Jvm.Cond.methodLink "TypeHouse$Names" (56 : Nat) ({ cls := "java/lang/System", name := "arraycopy", desc := "(Ljava/lang/Object;ILjava/lang/Object;II)V" } : Jvm.MethodName)) ∈ lw_all := lw_g (lw_at lw_m7 145 rfl) rfl
theorem q2011 : (Jvm.Cond.methodLink "TypeHouse$Expander" (107 : Nat) ({ cls := "TypeHouse$Settings", name := "mean", desc := "(IIIZ)V" } : Jvm.MethodName)) ∈ lw_all := lw_g (lw_at lw_m7 146 rfl) rfl
theorem q2012 : (Jvm.Cond.instanceMethod ({ cls := "TypeHouse$Settings", name := "mean", desc := "(IIIZ)V" } : Jvm.MethodName)) ∈ lw_all := lw_g (lw_at lw_m7 147 rfl) rfl
theorem q2013 : (Jvm.Cond.selects "TypeHouse$Settings" ({ cls := "TypeHouse$Settings", name := "mean", desc := "(IIIZ)V" } : Jvm.MethodName) ({ cls := "TypeHouse$Settings", name := "mean", desc := "(IIIZ)V" } : Jvm.MethodName)) ∈ lw_all := lw_g (lw_at lw_m7 148 rfl) rfl
theorem q2014 : (Jvm.Cond.code ({ cls := "TypeHouse$Settings", name := "mean", desc := "(IIIZ)V" } : Jvm.MethodName) prog_28_method_8_code (5 : Nat) (Option.none : Option Jvm.ClassFile.FieldType)) ∈ lw_all := lw_g (lw_at lw_m7 149 rfl) rfl
theorem q2015 : (Jvm.Cond.methodLink "TypeHouse$Settings" (80 : Nat) ({ cls := "TypeHouse$Settings", name := "save", desc := "(IIIII)I" } : Jvm.MethodName)) ∈ lw_all := lw_g (lw_at lw_m7 150 rfl) rfl
theorem q2017 : (Jvm.Cond.instanceMethod ({ cls := "TypeHouse$Settings", name := "save", desc := "(IIIII)I" } : Jvm.MethodName)) ∈ lw_all := lw_g (lw_at lw_m7 152 rfl) rfl
theorem q2018 : (Jvm.Cond.code ({ cls := "TypeHouse$Settings", name := "save", desc := "(IIIII)I" } : Jvm.MethodName) prog_28_method_7_code (7 : Nat) (Option.some Jvm.ClassFile.FieldType.int)) ∈ lw_all := lw_g (lw_at lw_m7 153 rfl) rfl
theorem q2019 : (Jvm.Cond.methodLink "TypeHouse$Settings" (72 : Nat) ({ cls := "TypeHouse$Settings", name := "place", desc := "(II)I" } : Jvm.MethodName)) ∈ lw_all := lw_g (lw_at lw_m7 154 rfl) rfl
theorem q2021 : (Jvm.Cond.instanceMethod ({ cls := "TypeHouse$Settings", name := "place", desc := "(II)I" } : Jvm.MethodName)) ∈ lw_all := lw_g (lw_at lw_m7 156 rfl) rfl
theorem q2022 : (Jvm.Cond.code ({ cls := "TypeHouse$Settings", name := "place", desc := "(II)I" } : Jvm.MethodName) prog_28_method_6_code (4 : Nat) (Option.some Jvm.ClassFile.FieldType.int)) ∈ lw_all := lw_g (lw_at lw_m7 157 rfl) rfl
theorem q2023 : (Jvm.Cond.methodLink "TypeHouse$Settings" (68 : Nat) ({ cls := "TypeHouse$Settings", name := "isOf", desc := "(II)Z" } : Jvm.MethodName)) ∈ lw_all := lw_g (lw_at lw_m7 158 rfl) rfl
theorem q2025 : (Jvm.Cond.instanceMethod ({ cls := "TypeHouse$Settings", name := "isOf", desc := "(II)Z" } : Jvm.MethodName)) ∈ lw_all := lw_g (lw_at lw_m7 160 rfl) rfl
theorem q2026 : (Jvm.Cond.code ({ cls := "TypeHouse$Settings", name := "isOf", desc := "(II)Z" } : Jvm.MethodName) prog_28_method_5_code (3 : Nat) (Option.some Jvm.ClassFile.FieldType.boolean)) ∈ lw_all := lw_g (lw_at lw_m7 161 rfl) rfl
theorem q2027 : (Jvm.Cond.methodLinkNest "TypeHouse$Settings" (76 : Nat) ({ cls := "TypeHouse", name := "grown", desc := "([II)[I" } : Jvm.MethodName) "TypeHouse") ∈ lw_tbl := lw_at lw_m7 162 rfl
theorem q2028 : (Jvm.Cond.methodLink "TypeHouse$Expander" (111 : Nat) ({ cls := "TypeHouse$SourceLines", name := "begin", desc := "()V" } : Jvm.MethodName)) ∈ lw_all := lw_g (lw_at lw_m7 163 rfl) rfl
theorem q2029 : (Jvm.Cond.instanceMethod ({ cls := "TypeHouse$SourceLines", name := "begin", desc := "()V" } : Jvm.MethodName)) ∈ lw_all := lw_g (lw_at lw_m7 164 rfl) rfl
theorem q2030 : (Jvm.Cond.selects "TypeHouse$SourceLines" ({ cls := "TypeHouse$SourceLines", name := "begin", desc := "()V" } : Jvm.MethodName) ({ cls := "TypeHouse$SourceLines", name := "begin", desc := "()V" } : Jvm.MethodName)) ∈ lw_all := lw_g (lw_at lw_m7 165 rfl) rfl
theorem q2031 : (Jvm.Cond.code ({ cls := "TypeHouse$SourceLines", name := "begin", desc := "()V" } : Jvm.MethodName) prog_29_method_2_code (1 : Nat) (Option.none : Option Jvm.ClassFile.FieldType)) ∈ lw_all := lw_g (lw_at lw_m7 166 rfl) rfl
theorem q2032 : (Jvm.Cond.methodLink "TypeHouse$Expander" (121 : Nat) ({ cls := "TypeHouse$Tokens", name := "clear", desc := "()V" } : Jvm.MethodName)) ∈ lw_all := lw_g (lw_at lw_m7 167 rfl) rfl
theorem q2033 : (Jvm.Cond.instanceMethod ({ cls := "TypeHouse$Tokens", name := "clear", desc := "()V" } : Jvm.MethodName)) ∈ lw_all := lw_g (lw_at lw_m7 168 rfl) rfl
theorem q2034 : (Jvm.Cond.selects "TypeHouse$Tokens" ({ cls := "TypeHouse$Tokens", name := "clear", desc := "()V" } : Jvm.MethodName) ({ cls := "TypeHouse$Tokens", name := "clear", desc := "()V" } : Jvm.MethodName)) ∈ lw_all := lw_g (lw_at lw_m7 169 rfl) rfl
theorem q2035 : (Jvm.Cond.code ({ cls := "TypeHouse$Tokens", name := "clear", desc := "()V" } : Jvm.MethodName) prog_31_method_2_code (1 : Nat) (Option.none : Option Jvm.ClassFile.FieldType)) ∈ lw_all := lw_g (lw_at lw_m7 170 rfl) rfl
theorem q2036 : (Jvm.Cond.methodLink "TypeHouse$Press" (184 : Nat) ({ cls := "TypeHouse$FontTable", name := "clear", desc := "()V" } : Jvm.MethodName)) ∈ lw_all := lw_g (lw_at lw_m7 171 rfl) rfl
theorem q2037 : (Jvm.Cond.instanceMethod ({ cls := "TypeHouse$FontTable", name := "clear", desc := "()V" } : Jvm.MethodName)) ∈ lw_all := lw_g (lw_at lw_m7 172 rfl) rfl
theorem q2038 : (Jvm.Cond.selects "TypeHouse$FontTable" ({ cls := "TypeHouse$FontTable", name := "clear", desc := "()V" } : Jvm.MethodName) ({ cls := "TypeHouse$FontTable", name := "clear", desc := "()V" } : Jvm.MethodName)) ∈ lw_all := lw_g (lw_at lw_m7 173 rfl) rfl
theorem q2039 : (Jvm.Cond.code ({ cls := "TypeHouse$FontTable", name := "clear", desc := "()V" } : Jvm.MethodName) prog_9_method_2_code (1 : Nat) (Option.none : Option Jvm.ClassFile.FieldType)) ∈ lw_all := lw_g (lw_at lw_m7 174 rfl) rfl
theorem q2040 : (Jvm.Cond.methodLink "TypeHouse$FontTable" (46 : Nat) ({ cls := "java/util/Arrays", name := "fill", desc := "([ZZ)V" } : Jvm.MethodName)) ∈ lw_all := lw_g (lw_at lw_m7 175 rfl) rfl
theorem q2043 : (Jvm.Cond.methodLink "TypeHouse$Press" (195 : Nat) ({ cls := "TypeHouse$PageBuilder", name := "restart", desc := "()V" } : Jvm.MethodName)) ∈ lw_all := lw_g (lw_at lw_m7 178 rfl) rfl
theorem q2044 : (Jvm.Cond.instanceMethod ({ cls := "TypeHouse$PageBuilder", name := "restart", desc := "()V" } : Jvm.MethodName)) ∈ lw_all := lw_g (lw_at lw_m7 179 rfl) rfl
theorem q2045 : (Jvm.Cond.selects "TypeHouse$PageBuilder" ({ cls := "TypeHouse$PageBuilder", name := "restart", desc := "()V" } : Jvm.MethodName) ({ cls := "TypeHouse$PageBuilder", name := "restart", desc := "()V" } : Jvm.MethodName)) ∈ lw_all := lw_g (lw_at lw_m7 180 rfl) rfl
theorem q2046 : (Jvm.Cond.code ({ cls := "TypeHouse$PageBuilder", name := "restart", desc := "()V" } : Jvm.MethodName) prog_21_method_10_code (1 : Nat) (Option.none : Option Jvm.ClassFile.FieldType)) ∈ lw_all := lw_g (lw_at lw_m7 181 rfl) rfl
theorem q2047 : (Jvm.Cond.methodLink "TypeHouse$Press" (207 : Nat) ({ cls := "TypeHouse$Writer", name := "begin", desc := "(II)V" } : Jvm.MethodName)) ∈ lw_all := lw_g (lw_at lw_m7 182 rfl) rfl
theorem q2048 : (Jvm.Cond.instanceMethod ({ cls := "TypeHouse$Writer", name := "begin", desc := "(II)V" } : Jvm.MethodName)) ∈ lw_all := lw_g (lw_at lw_m7 183 rfl) rfl
theorem q2049 : (Jvm.Cond.selects "TypeHouse$Writer" ({ cls := "TypeHouse$Writer", name := "begin", desc := "(II)V" } : Jvm.MethodName) ({ cls := "TypeHouse$Writer", name := "begin", desc := "(II)V" } : Jvm.MethodName)) ∈ lw_all := lw_g (lw_at lw_m7 184 rfl) rfl
theorem q2050 : (Jvm.Cond.code ({ cls := "TypeHouse$Writer", name := "begin", desc := "(II)V" } : Jvm.MethodName) prog_35_method_2_code (3 : Nat) (Option.none : Option Jvm.ClassFile.FieldType)) ∈ lw_all := lw_g (lw_at lw_m7 185 rfl) rfl
theorem q2051 : (Jvm.Cond.methodLink "TypeHouse$Writer" (85 : Nat) ({ cls := "TypeHouse$FontTable", name := "clear", desc := "()V" } : Jvm.MethodName)) ∈ lw_all := lw_g (lw_at lw_m7 186 rfl) rfl
theorem q2052 : (Jvm.Cond.constant "TypeHouse$Press" (214 : Nat) (-2147483648 : Int32)) ∈ lw_all := lw_g (lw_at lw_m7 187 rfl) rfl
theorem q2053 : (Jvm.Cond.methodLink "TypeHouse$Press" (225 : Nat) ({ cls := "java/util/Arrays", name := "fill", desc := "([II)V" } : Jvm.MethodName)) ∈ lw_all := lw_g (lw_at lw_m7 188 rfl) rfl
theorem q2054 : (Jvm.Cond.fieldLink "TypeHouse" (31 : Nat) "TypeHouse" "tape" "[B") ∈ lw_all := lw_g (lw_at lw_m7 189 rfl) rfl
theorem q2056 : (Jvm.Cond.fieldLink "TypeHouse" (38 : Nat) "TypeHouse" "file" "LTypeHouse$FontFile;") ∈ lw_all := lw_g (lw_at lw_m7 191 rfl) rfl
theorem q2057 : (Jvm.Cond.fieldLink "TypeHouse" (45 : Nat) "TypeHouse" "press" "LTypeHouse$Press;") ∈ lw_all := lw_g (lw_at lw_m7 192 rfl) rfl
theorem q2058 : (Jvm.Cond.fieldLink "TypeHouse" (50 : Nat) "TypeHouse" "fuel" "I") ∈ lw_all := lw_g (lw_at lw_m7 193 rfl) rfl
theorem q2071 : (Jvm.Cond.instanceMethod ({ cls := "TypeHouse", name := "clear", desc := "(Z)I" } : Jvm.MethodName)) ∈ lw_all := lw_g (lw_at lw_m7 206 rfl) rfl
theorem q2072 : (Jvm.Cond.selects "TypeHouse" ({ cls := "TypeHouse", name := "clear", desc := "(Z)I" } : Jvm.MethodName) ({ cls := "TypeHouse", name := "clear", desc := "(Z)I" } : Jvm.MethodName)) ∈ lw_all := lw_g (lw_at lw_m7 207 rfl) rfl
theorem q2073 : (Jvm.Cond.code ({ cls := "TypeHouse", name := "clear", desc := "(Z)I" } : Jvm.MethodName) prog_1_method_15_code (2 : Nat) (Option.some Jvm.ClassFile.FieldType.int)) ∈ lw_all := lw_g (lw_at lw_m7 208 rfl) rfl
theorem q2074 : (Jvm.Cond.methodLink "TypeHouse" (119 : Nat) ({ cls := "TypeHouse$Hyphenator", name := "clear", desc := "(Z)I" } : Jvm.MethodName)) ∈ lw_all := lw_g (lw_at lw_m7 209 rfl) rfl
theorem q2075 : (Jvm.Cond.instanceMethod ({ cls := "TypeHouse$Hyphenator", name := "clear", desc := "(Z)I" } : Jvm.MethodName)) ∈ lw_all := lw_g (lw_at lw_m7 210 rfl) rfl
theorem q2076 : (Jvm.Cond.selects "TypeHouse$Hyphenator" ({ cls := "TypeHouse$Hyphenator", name := "clear", desc := "(Z)I" } : Jvm.MethodName) ({ cls := "TypeHouse$Hyphenator", name := "clear", desc := "(Z)I" } : Jvm.MethodName)) ∈ lw_all := lw_g (lw_at lw_m7 211 rfl) rfl
theorem q2077 : (Jvm.Cond.code ({ cls := "TypeHouse$Hyphenator", name := "clear", desc := "(Z)I" } : Jvm.MethodName) prog_10_method_13_code (3 : Nat) (Option.some Jvm.ClassFile.FieldType.int)) ∈ lw_all := lw_g (lw_at lw_m7 212 rfl) rfl
theorem q2078 : (Jvm.Cond.methodLink "TypeHouse$Hyphenator" (132 : Nat) ({ cls := "TypeHouse$ToldWords", name := "clear", desc := "()V" } : Jvm.MethodName)) ∈ lw_all := lw_g (lw_at lw_m7 213 rfl) rfl
theorem q2079 : (Jvm.Cond.instanceMethod ({ cls := "TypeHouse$ToldWords", name := "clear", desc := "()V" } : Jvm.MethodName)) ∈ lw_all := lw_g (lw_at lw_m7 214 rfl) rfl
theorem q2080 : (Jvm.Cond.selects "TypeHouse$ToldWords" ({ cls := "TypeHouse$ToldWords", name := "clear", desc := "()V" } : Jvm.MethodName) ({ cls := "TypeHouse$ToldWords", name := "clear", desc := "()V" } : Jvm.MethodName)) ∈ lw_all := lw_g (lw_at lw_m7 215 rfl) rfl
theorem q2081 : (Jvm.Cond.code ({ cls := "TypeHouse$ToldWords", name := "clear", desc := "()V" } : Jvm.MethodName) prog_32_method_2_code (2 : Nat) (Option.none : Option Jvm.ClassFile.FieldType)) ∈ lw_all := lw_g (lw_at lw_m7 216 rfl) rfl
theorem q2082 : (Jvm.Cond.methodLink "TypeHouse$Hyphenator" (133 : Nat) ({ cls := "TypeHouse$Trie", name := "clear", desc := "()V" } : Jvm.MethodName)) ∈ lw_all := lw_g (lw_at lw_m7 217 rfl) rfl
theorem q2200 : (Jvm.Cond.instanceMethod ({ cls := "TypeHouse$FontFile", name := "take", desc := "([BI)Z" } : Jvm.MethodName)) ∈ lw_all := lw_g (lw_at lw_m8 95 rfl) rfl
theorem q2201 : (Jvm.Cond.selects "TypeHouse$FontFile" ({ cls := "TypeHouse$FontFile", name := "take", desc := "([BI)Z" } : Jvm.MethodName) ({ cls := "TypeHouse$FontFile", name := "take", desc := "([BI)Z" } : Jvm.MethodName)) ∈ lw_all := lw_g (lw_at lw_m8 96 rfl) rfl
theorem q2202 : (Jvm.Cond.code ({ cls := "TypeHouse$FontFile", name := "take", desc := "([BI)Z" } : Jvm.MethodName) prog_8_method_2_code (3 : Nat) (Option.some Jvm.ClassFile.FieldType.boolean)) ∈ lw_all := lw_g (lw_at lw_m8 97 rfl) rfl
theorem q2203 : (Jvm.Cond.methodLink "TypeHouse$FontFile" (15 : Nat) ({ cls := "java/lang/System", name := "arraycopy", desc := "(Ljava/lang/Object;ILjava/lang/Object;II)V" } : Jvm.MethodName)) ∈ lw_all := lw_g (lw_at lw_m8 98 rfl) rfl
theorem q2210 : (Jvm.Cond.instanceMethod ({ cls := "TypeHouse$Font", name := "check", desc := "(LTypeHouse$FontFile;)I" } : Jvm.MethodName)) ∈ lw_all := lw_g (lw_at lw_m8 105 rfl) rfl
theorem q2211 : (Jvm.Cond.code ({ cls := "TypeHouse$Font", name := "check", desc := "(LTypeHouse$FontFile;)I" } : Jvm.MethodName) prog_7_method_21_code (3 : Nat) (Option.some Jvm.ClassFile.FieldType.int)) ∈ lw_all := lw_g (lw_at lw_m8 106 rfl) rfl
theorem q2212 : (Jvm.Cond.methodLink "TypeHouse$Font" (90 : Nat) ({ cls := "TypeHouse$Font", name := "layOut", desc := "(LTypeHouse$FontFile;)I" } : Jvm.MethodName)) ∈ lw_all := lw_g (lw_at lw_m8 107 rfl) rfl
theorem q2214 : (Jvm.Cond.instanceMethod ({ cls := "TypeHouse$Font", name := "layOut", desc := "(LTypeHouse$FontFile;)I" } : Jvm.MethodName)) ∈ lw_all := lw_g (lw_at lw_m8 109 rfl) rfl
theorem q2215 : (Jvm.Cond.code ({ cls := "TypeHouse$Font", name := "layOut", desc := "(LTypeHouse$FontFile;)I" } : Jvm.MethodName) prog_7_method_9_code (6 : Nat) (Option.some Jvm.ClassFile.FieldType.int)) ∈ lw_all := lw_g (lw_at lw_m8 110 rfl) rfl
theorem q2216 : (Jvm.Cond.methodLink "TypeHouse$Font" (45 : Nat) ({ cls := "TypeHouse$FontFile", name := "half", desc := "(I)I" } : Jvm.MethodName)) ∈ lw_all := lw_g (lw_at lw_m8 111 rfl) rfl
theorem q2217 : (Jvm.Cond.instanceMethod ({ cls := "TypeHouse$FontFile", name := "half", desc := "(I)I" } : Jvm.MethodName)) ∈ lw_all := lw_g (lw_at lw_m8 112 rfl) rfl
theorem q2218 : (Jvm.Cond.selects "TypeHouse$FontFile" ({ cls := "TypeHouse$FontFile", name := "half", desc := "(I)I" } : Jvm.MethodName) ({ cls := "TypeHouse$FontFile", name := "half", desc := "(I)I" } : Jvm.MethodName)) ∈ lw_all := lw_g (lw_at lw_m8 113 rfl) rfl
theorem q2219 : (Jvm.Cond.code ({ cls := "TypeHouse$FontFile", name := "half", desc := "(I)I" } : Jvm.MethodName) prog_8_method_5_code (2 : Nat) (Option.some Jvm.ClassFile.FieldType.int)) ∈ lw_all := lw_g (lw_at lw_m8 114 rfl) rfl
theorem q2220 : (Jvm.Cond.methodLink "TypeHouse$FontFile" (25 : Nat) ({ cls := "TypeHouse$FontFile", name := "at", desc := "(II)I" } : Jvm.MethodName)) ∈ lw_all := lw_g (lw_at lw_m8 115 rfl) rfl
theorem q2221 : (Jvm.Cond.instanceMethod ({ cls := "TypeHouse$FontFile", name := "at", desc := "(II)I" } : Jvm.MethodName)) ∈ lw_all := lw_g (lw_at lw_m8 116 rfl) rfl
theorem q2222 : (Jvm.Cond.selects "TypeHouse$FontFile" ({ cls := "TypeHouse$FontFile", name := "at", desc := "(II)I" } : Jvm.MethodName) ({ cls := "TypeHouse$FontFile", name := "at", desc := "(II)I" } : Jvm.MethodName)) ∈ lw_all := lw_g (lw_at lw_m8 117 rfl) rfl
theorem q2223 : (Jvm.Cond.code ({ cls := "TypeHouse$FontFile", name := "at", desc := "(II)I" } : Jvm.MethodName) prog_8_method_4_code (3 : Nat) (Option.some Jvm.ClassFile.FieldType.int)) ∈ lw_all := lw_g (lw_at lw_m8 118 rfl) rfl
theorem q2224 : (Jvm.Cond.constant "TypeHouse$Font" (48 : Nat) (32768 : Int32)) ∈ lw_all := lw_g (lw_at lw_m8 119 rfl) rfl
theorem q2225 : (Jvm.Cond.methodLink "TypeHouse$Font" (49 : Nat) ({ cls := "TypeHouse$FontFile", name := "whole", desc := "(I)I" } : Jvm.MethodName)) ∈ lw_all := lw_g (lw_at lw_m8 120 rfl) rfl
theorem q2226 : (Jvm.Cond.instanceMethod ({ cls := "TypeHouse$FontFile", name := "whole", desc := "(I)I" } : Jvm.MethodName)) ∈ lw_all := lw_g (lw_at lw_m8 121 rfl) rfl
theorem q2227 : (Jvm.Cond.selects "TypeHouse$FontFile" ({ cls := "TypeHouse$FontFile", name := "whole", desc := "(I)I" } : Jvm.MethodName) ({ cls := "TypeHouse$FontFile", name := "whole", desc := "(I)I" } : Jvm.MethodName)) ∈ lw_all := lw_g (lw_at lw_m8 122 rfl) rfl
theorem q2228 : (Jvm.Cond.code ({ cls := "TypeHouse$FontFile", name := "whole", desc := "(I)I" } : Jvm.MethodName) prog_8_method_6_code (2 : Nat) (Option.some Jvm.ClassFile.FieldType.int)) ∈ lw_all := lw_g (lw_at lw_m8 123 rfl) rfl
theorem q2229 : (Jvm.Cond.methodLink "TypeHouse$Font" (32 : Nat) ({ cls := "TypeHouse$Font", name := "word", desc := "(II)I" } : Jvm.MethodName)) ∈ lw_all := lw_g (lw_at lw_m8 124 rfl) rfl
theorem q2231 : (Jvm.Cond.instanceMethod ({ cls := "TypeHouse$Font", name := "word", desc := "(II)I" } : Jvm.MethodName)) ∈ lw_all := lw_g (lw_at lw_m8 126 rfl) rfl
theorem q2232 : (Jvm.Cond.code ({ cls := "TypeHouse$Font", name := "word", desc := "(II)I" } : Jvm.MethodName) prog_7_method_2_code (3 : Nat) (Option.some Jvm.ClassFile.FieldType.int)) ∈ lw_all := lw_g (lw_at lw_m8 127 rfl) rfl
theorem q2233 : (Jvm.Cond.constant "TypeHouse$Font" (52 : Nat) (1048576 : Int32)) ∈ lw_all := lw_g (lw_at lw_m8 128 rfl) rfl
theorem q2234 : (Jvm.Cond.methodLink "TypeHouse$Font" (94 : Nat) ({ cls := "TypeHouse$Font", name := "areSizesRight", desc := "()Z" } : Jvm.MethodName)) ∈ lw_all := lw_g (lw_at lw_m8 129 rfl) rfl
theorem q2236 : (Jvm.Cond.instanceMethod ({ cls := "TypeHouse$Font", name := "areSizesRight", desc := "()Z" } : Jvm.MethodName)) ∈ lw_all := lw_g (lw_at lw_m8 131 rfl) rfl
theorem q2237 : (Jvm.Cond.code ({ cls := "TypeHouse$Font", name := "areSizesRight", desc := "()Z" } : Jvm.MethodName) prog_7_method_11_code (4 : Nat) (Option.some Jvm.ClassFile.FieldType.boolean)) ∈ lw_all := lw_g (lw_at lw_m8 132 rfl) rfl
theorem q2238 : (Jvm.Cond.methodLink "TypeHouse$Font" (36 : Nat) ({ cls := "TypeHouse$Font", name := "a", desc := "(I)I" } : Jvm.MethodName)) ∈ lw_all := lw_g (lw_at lw_m8 133 rfl) rfl
theorem q2239 : (Jvm.Cond.static ({ cls := "TypeHouse$Font", name := "a", desc := "(I)I" } : Jvm.MethodName)) ∈ lw_all := lw_g (lw_at lw_m8 134 rfl) rfl
theorem q2240 : (Jvm.Cond.code ({ cls := "TypeHouse$Font", name := "a", desc := "(I)I" } : Jvm.MethodName) prog_7_method_3_code (1 : Nat) (Option.some Jvm.ClassFile.FieldType.int)) ∈ lw_all := lw_g (lw_at lw_m8 135 rfl) rfl
theorem q2241 : (Jvm.Cond.methodLink "TypeHouse$Font" (53 : Nat) ({ cls := "TypeHouse$Font", name := "b", desc := "(I)I" } : Jvm.MethodName)) ∈ lw_all := lw_g (lw_at lw_m8 136 rfl) rfl
theorem q2242 : (Jvm.Cond.static ({ cls := "TypeHouse$Font", name := "b", desc := "(I)I" } : Jvm.MethodName)) ∈ lw_all := lw_g (lw_at lw_m8 137 rfl) rfl
theorem q2243 : (Jvm.Cond.code ({ cls := "TypeHouse$Font", name := "b", desc := "(I)I" } : Jvm.MethodName) prog_7_method_4_code (1 : Nat) (Option.some Jvm.ClassFile.FieldType.int)) ∈ lw_all := lw_g (lw_at lw_m8 138 rfl) rfl
theorem q2244 : (Jvm.Cond.methodLink "TypeHouse$Font" (56 : Nat) ({ cls := "TypeHouse$Font", name := "c", desc := "(I)I" } : Jvm.MethodName)) ∈ lw_all := lw_g (lw_at lw_m8 139 rfl) rfl
theorem q2245 : (Jvm.Cond.static ({ cls := "TypeHouse$Font", name := "c", desc := "(I)I" } : Jvm.MethodName)) ∈ lw_all := lw_g (lw_at lw_m8 140 rfl) rfl
theorem q2246 : (Jvm.Cond.code ({ cls := "TypeHouse$Font", name := "c", desc := "(I)I" } : Jvm.MethodName) prog_7_method_5_code (1 : Nat) (Option.some Jvm.ClassFile.FieldType.int)) ∈ lw_all := lw_g (lw_at lw_m8 141 rfl) rfl
theorem q2247 : (Jvm.Cond.methodLink "TypeHouse$Font" (98 : Nat) ({ cls := "TypeHouse$Font", name := "areTagsRight", desc := "()Z" } : Jvm.MethodName)) ∈ lw_all := lw_g (lw_at lw_m8 142 rfl) rfl
theorem q2249 : (Jvm.Cond.instanceMethod ({ cls := "TypeHouse$Font", name := "areTagsRight", desc := "()Z" } : Jvm.MethodName)) ∈ lw_all := lw_g (lw_at lw_m8 144 rfl) rfl
theorem q2250 : (Jvm.Cond.code ({ cls := "TypeHouse$Font", name := "areTagsRight", desc := "()Z" } : Jvm.MethodName) prog_7_method_15_code (4 : Nat) (Option.some Jvm.ClassFile.FieldType.boolean)) ∈ lw_all := lw_g (lw_at lw_m8 145 rfl) rfl
theorem q2251 : (Jvm.Cond.methodLink "TypeHouse$Font" (65 : Nat) ({ cls := "TypeHouse$Font", name := "has", desc := "(I)Z" } : Jvm.MethodName)) ∈ lw_all := lw_g (lw_at lw_m8 146 rfl) rfl
theorem q2252 : (Jvm.Cond.instanceMethod ({ cls := "TypeHouse$Font", name := "has", desc := "(I)Z" } : Jvm.MethodName)) ∈ lw_all := lw_g (lw_at lw_m8 147 rfl) rfl
theorem q2253 : (Jvm.Cond.selects "TypeHouse$Font" ({ cls := "TypeHouse$Font", name := "has", desc := "(I)Z" } : Jvm.MethodName) ({ cls := "TypeHouse$Font", name := "has", desc := "(I)Z" } : Jvm.MethodName)) ∈ lw_all := lw_g (lw_at lw_m8 148 rfl) rfl
theorem q2254 : (Jvm.Cond.code ({ cls := "TypeHouse$Font", name := "has", desc := "(I)Z" } : Jvm.MethodName) prog_7_method_8_code (2 : Nat) (Option.some Jvm.ClassFile.FieldType.boolean)) ∈ lw_all := lw_g (lw_at lw_m8 149 rfl) rfl
theorem q2255 : (Jvm.Cond.methodLink "TypeHouse$Font" (69 : Nat) ({ cls := "TypeHouse$Font", name := "tag", desc := "(I)I" } : Jvm.MethodName)) ∈ lw_all := lw_g (lw_at lw_m8 150 rfl) rfl
theorem q2257 : (Jvm.Cond.instanceMethod ({ cls := "TypeHouse$Font", name := "tag", desc := "(I)I" } : Jvm.MethodName)) ∈ lw_all := lw_g (lw_at lw_m8 152 rfl) rfl
theorem q2258 : (Jvm.Cond.code ({ cls := "TypeHouse$Font", name := "tag", desc := "(I)I" } : Jvm.MethodName) prog_7_method_12_code (2 : Nat) (Option.some Jvm.ClassFile.FieldType.int)) ∈ lw_all := lw_g (lw_at lw_m8 153 rfl) rfl
theorem q2259 : (Jvm.Cond.methodLink "TypeHouse$Font" (62 : Nat) ({ cls := "TypeHouse$Font", name := "rest", desc := "(I)I" } : Jvm.MethodName)) ∈ lw_all := lw_g (lw_at lw_m8 154 rfl) rfl
theorem q2261 : (Jvm.Cond.instanceMethod ({ cls := "TypeHouse$Font", name := "rest", desc := "(I)I" } : Jvm.MethodName)) ∈ lw_all := lw_g (lw_at lw_m8 156 rfl) rfl
theorem q2262 : (Jvm.Cond.code ({ cls := "TypeHouse$Font", name := "rest", desc := "(I)I" } : Jvm.MethodName) prog_7_method_13_code (2 : Nat) (Option.some Jvm.ClassFile.FieldType.int)) ∈ lw_all := lw_g (lw_at lw_m8 157 rfl) rfl
theorem q2263 : (Jvm.Cond.methodLink "TypeHouse$Font" (59 : Nat) ({ cls := "TypeHouse$Font", name := "d", desc := "(I)I" } : Jvm.MethodName)) ∈ lw_all := lw_g (lw_at lw_m8 158 rfl) rfl
theorem q2264 : (Jvm.Cond.static ({ cls := "TypeHouse$Font", name := "d", desc := "(I)I" } : Jvm.MethodName)) ∈ lw_all := lw_g (lw_at lw_m8 159 rfl) rfl
theorem q2265 : (Jvm.Cond.code ({ cls := "TypeHouse$Font", name := "d", desc := "(I)I" } : Jvm.MethodName) prog_7_method_6_code (1 : Nat) (Option.some Jvm.ClassFile.FieldType.int)) ∈ lw_all := lw_g (lw_at lw_m8 160 rfl) rfl
theorem q2266 : (Jvm.Cond.methodLink "TypeHouse$Font" (72 : Nat) ({ cls := "TypeHouse$Font", name := "isChainRight", desc := "(I)Z" } : Jvm.MethodName)) ∈ lw_all := lw_g (lw_at lw_m8 161 rfl) rfl
theorem q2268 : (Jvm.Cond.instanceMethod ({ cls := "TypeHouse$Font", name := "isChainRight", desc := "(I)Z" } : Jvm.MethodName)) ∈ lw_all := lw_g (lw_at lw_m8 163 rfl) rfl
theorem q2269 : (Jvm.Cond.code ({ cls := "TypeHouse$Font", name := "isChainRight", desc := "(I)Z" } : Jvm.MethodName) prog_7_method_14_code (4 : Nat) (Option.some Jvm.ClassFile.FieldType.boolean)) ∈ lw_all := lw_g (lw_at lw_m8 164 rfl) rfl
theorem q2270 : (Jvm.Cond.methodLink "TypeHouse$Font" (101 : Nat) ({ cls := "TypeHouse$Font", name := "areFractions", desc := "()Z" } : Jvm.MethodName)) ∈ lw_all := lw_g (lw_at lw_m8 165 rfl) rfl
theorem q2272 : (Jvm.Cond.instanceMethod ({ cls := "TypeHouse$Font", name := "areFractions", desc := "()Z" } : Jvm.MethodName)) ∈ lw_all := lw_g (lw_at lw_m8 167 rfl) rfl
theorem q2273 : (Jvm.Cond.code ({ cls := "TypeHouse$Font", name := "areFractions", desc := "()Z" } : Jvm.MethodName) prog_7_method_16_code (4 : Nat) (Option.some Jvm.ClassFile.FieldType.boolean)) ∈ lw_all := lw_g (lw_at lw_m8 168 rfl) rfl
theorem q2274 : (Jvm.Cond.methodLink "TypeHouse$Font" (75 : Nat) ({ cls := "TypeHouse$Font", name := "isFraction", desc := "(I)Z" } : Jvm.MethodName)) ∈ lw_all := lw_g (lw_at lw_m8 169 rfl) rfl
theorem q2276 : (Jvm.Cond.instanceMethod ({ cls := "TypeHouse$Font", name := "isFraction", desc := "(I)Z" } : Jvm.MethodName)) ∈ lw_all := lw_g (lw_at lw_m8 171 rfl) rfl
theorem q2277 : (Jvm.Cond.code ({ cls := "TypeHouse$Font", name := "isFraction", desc := "(I)Z" } : Jvm.MethodName) prog_7_method_10_code (2 : Nat) (Option.some Jvm.ClassFile.FieldType.boolean)) ∈ lw_all := lw_g (lw_at lw_m8 172 rfl) rfl
theorem q2278 : (Jvm.Cond.methodLink "TypeHouse$Font" (104 : Nat) ({ cls := "TypeHouse$Font", name := "isProgramRight", desc := "()Z" } : Jvm.MethodName)) ∈ lw_all := lw_g (lw_at lw_m8 173 rfl) rfl
theorem q2280 : (Jvm.Cond.instanceMethod ({ cls := "TypeHouse$Font", name := "isProgramRight", desc := "()Z" } : Jvm.MethodName)) ∈ lw_all := lw_g (lw_at lw_m8 175 rfl) rfl
theorem q2281 : (Jvm.Cond.code ({ cls := "TypeHouse$Font", name := "isProgramRight", desc := "()Z" } : Jvm.MethodName) prog_7_method_18_code (4 : Nat) (Option.some Jvm.ClassFile.FieldType.boolean)) ∈ lw_all := lw_g (lw_at lw_m8 176 rfl) rfl
theorem q2282 : (Jvm.Cond.methodLink "TypeHouse$Font" (78 : Nat) ({ cls := "TypeHouse$Font", name := "far", desc := "(I)I" } : Jvm.MethodName)) ∈ lw_all := lw_g (lw_at lw_m8 177 rfl) rfl
theorem q2283 : (Jvm.Cond.static ({ cls := "TypeHouse$Font", name := "far", desc := "(I)I" } : Jvm.MethodName)) ∈ lw_all := lw_g (lw_at lw_m8 178 rfl) rfl
theorem q2284 : (Jvm.Cond.code ({ cls := "TypeHouse$Font", name := "far", desc := "(I)I" } : Jvm.MethodName) prog_7_method_7_code (1 : Nat) (Option.some Jvm.ClassFile.FieldType.int)) ∈ lw_all := lw_g (lw_at lw_m8 179 rfl) rfl
theorem q2285 : (Jvm.Cond.constant "TypeHouse$Font" (24 : Nat) (65535 : Int32)) ∈ lw_all := lw_g (lw_at lw_m8 180 rfl) rfl
theorem q2286 : (Jvm.Cond.methodLink "TypeHouse$Font" (87 : Nat) ({ cls := "TypeHouse$Font", name := "isStepRight", desc := "(I)Z" } : Jvm.MethodName)) ∈ lw_all := lw_g (lw_at lw_m8 181 rfl) rfl
theorem q2288 : (Jvm.Cond.instanceMethod ({ cls := "TypeHouse$Font", name := "isStepRight", desc := "(I)Z" } : Jvm.MethodName)) ∈ lw_all := lw_g (lw_at lw_m8 183 rfl) rfl
theorem q2289 : (Jvm.Cond.code ({ cls := "TypeHouse$Font", name := "isStepRight", desc := "(I)Z" } : Jvm.MethodName) prog_7_method_17_code (5 : Nat) (Option.some Jvm.ClassFile.FieldType.boolean)) ∈ lw_all := lw_g (lw_at lw_m8 184 rfl) rfl
theorem q2290 : (Jvm.Cond.methodLink "TypeHouse$Font" (107 : Nat) ({ cls := "TypeHouse$Font", name := "areRecipesRight", desc := "()Z" } : Jvm.MethodName)) ∈ lw_all := lw_g (lw_at lw_m8 185 rfl) rfl
theorem q2292 : (Jvm.Cond.instanceMethod ({ cls := "TypeHouse$Font", name := "areRecipesRight", desc := "()Z" } : Jvm.MethodName)) ∈ lw_all := lw_g (lw_at lw_m8 187 rfl) rfl
theorem q2293 : (Jvm.Cond.code ({ cls := "TypeHouse$Font", name := "areRecipesRight", desc := "()Z" } : Jvm.MethodName) prog_7_method_19_code (4 : Nat) (Option.some Jvm.ClassFile.FieldType.boolean)) ∈ lw_all := lw_g (lw_at lw_m8 188 rfl) rfl
theorem q2294 : (Jvm.Cond.methodLink "TypeHouse$Font" (110 : Nat) ({ cls := "TypeHouse$Font", name := "areParametersRight", desc := "()Z" } : Jvm.MethodName)) ∈ lw_all := lw_g (lw_at lw_m8 189 rfl) rfl
theorem q2296 : (Jvm.Cond.instanceMethod ({ cls := "TypeHouse$Font", name := "areParametersRight", desc := "()Z" } : Jvm.MethodName)) ∈ lw_all := lw_g (lw_at lw_m8 191 rfl) rfl
theorem q2297 : (Jvm.Cond.code ({ cls := "TypeHouse$Font", name := "areParametersRight", desc := "()Z" } : Jvm.MethodName) prog_7_method_20_code (3 : Nat) (Option.some Jvm.ClassFile.FieldType.boolean)) ∈ lw_all := lw_g (lw_at lw_m8 192 rfl) rfl
theorem q2523 : (Jvm.Cond.static ({ cls := "TypeHouse", name := "category", desc := "(I)I" } : Jvm.MethodName)) ∈ lw_all := lw_g (lw_at lw_m9 178 rfl) rfl
theorem q2524 : (Jvm.Cond.code ({ cls := "TypeHouse", name := "category", desc := "(I)I" } : Jvm.MethodName) prog_1_method_5_code (1 : Nat) (Option.some Jvm.ClassFile.FieldType.int)) ∈ lw_all := lw_g (lw_at lw_m9 179 rfl) rfl
theorem q4080 : (Jvm.Cond.classLink "TypeHouse" (136 : Nat) "java/lang/IndexOutOfBoundsException") ∈ lw_all := lw_g (lw_at lw_m16 55 rfl) rfl
theorem q4081 : (Jvm.Cond.instantiable "java/lang/IndexOutOfBoundsException" (6 : Nat)) ∈ lw_all := lw_g (lw_at lw_m16 56 rfl) rfl
theorem q4089 : (Jvm.Cond.methodLink "TypeHouse" (138 : Nat) ({ cls := "java/lang/IndexOutOfBoundsException", name := "<init>", desc := "()V" } : Jvm.MethodName)) ∈ lw_all := lw_g (lw_at lw_m16 64 rfl) rfl
theorem q4103 : (Jvm.Cond.instanceMethod ({ cls := "TypeHouse", name := "about", desc := "(I)I" } : Jvm.MethodName)) ∈ lw_all := lw_g (lw_at lw_m16 78 rfl) rfl
theorem q4104 : (Jvm.Cond.selects "TypeHouse" ({ cls := "TypeHouse", name := "about", desc := "(I)I" } : Jvm.MethodName) ({ cls := "TypeHouse", name := "about", desc := "(I)I" } : Jvm.MethodName)) ∈ lw_all := lw_g (lw_at lw_m16 79 rfl) rfl
theorem q4105 : (Jvm.Cond.code ({ cls := "TypeHouse", name := "about", desc := "(I)I" } : Jvm.MethodName) prog_1_method_18_code (2 : Nat) (Option.some Jvm.ClassFile.FieldType.int)) ∈ lw_all := lw_g (lw_at lw_m16 80 rfl) rfl
theorem q4110 : (Jvm.Cond.instanceMethod ({ cls := "TypeHouse", name := "count", desc := "(I)I" } : Jvm.MethodName)) ∈ lw_all := lw_g (lw_at lw_m16 85 rfl) rfl
theorem q4111 : (Jvm.Cond.selects "TypeHouse" ({ cls := "TypeHouse", name := "count", desc := "(I)I" } : Jvm.MethodName) ({ cls := "TypeHouse", name := "count", desc := "(I)I" } : Jvm.MethodName)) ∈ lw_all := lw_g (lw_at lw_m16 86 rfl) rfl
theorem q4112 : (Jvm.Cond.code ({ cls := "TypeHouse", name := "count", desc := "(I)I" } : Jvm.MethodName) prog_1_method_19_code (2 : Nat) (Option.some Jvm.ClassFile.FieldType.int)) ∈ lw_all := lw_g (lw_at lw_m16 87 rfl) rfl
abbrev cX10_matches : ByteArray := prog_17_method_5_code
def yX10_matches : MethodName := ⟨RX10, "matches", "(I)Z"⟩
def YX10_matches : eY := (yX10_matches, cX10_matches, 4, (Option.some FieldType.boolean), [])
theorem mX10_matches : e_mv YX10_matches RX10 1 := ⟨q2003, qs8, q2004, by decide, by decide +kernel, (e_sig (by decide +kernel))⟩
theorem dX10_matches_0 : decode cX10_matches 0 = .ok (.aload_n 0, 1) := dc_42 (by decide +kernel)
theorem dX10_matches_1 : decode cX10_matches 1 = .ok (.getfield 18, 3) := dc_180 (a := 0) (b := 18) (n := 18) (by decide +kernel)
theorem dX10_matches_4 : decode cX10_matches 4 = .ok (.iload_n 1, 1) := dc_27 (by decide +kernel)
theorem dX10_matches_5 : decode cX10_matches 5 = .ok (.iaload, 1) := dc_46 (by decide +kernel)
theorem dX10_matches_6 : decode cX10_matches 6 = .ok (.aload_n 0, 1) := dc_42 (by decide +kernel)
theorem dX10_matches_7 : decode cX10_matches 7 = .ok (.getfield 39, 3) := dc_180 (a := 0) (b := 39) (n := 39) (by decide +kernel)
theorem dX10_matches_10 : decode cX10_matches 10 = .ok (.if_icmp .ne 7, 3) := dc_160 (a := 0) (b := 7) (v := 7) (by decide +kernel)
theorem dX10_matches_13 : decode cX10_matches 13 = .ok (.iconst 1, 1) := dc_4 (by decide +kernel)
theorem dX10_matches_14 : decode cX10_matches 14 = .ok (.goto 4, 3) := dc_167 (a := 0) (b := 4) (v := 4) (by decide +kernel)
theorem dX10_matches_17 : decode cX10_matches 17 = .ok (.iconst 0, 1) := dc_3 (by decide +kernel)
theorem dX10_matches_18 : decode cX10_matches 18 = .ok (.istore_n 2, 1) := dc_61 (by decide +kernel)
theorem dX10_matches_19 : decode cX10_matches 19 = .ok (.iconst 0, 1) := dc_3 (by decide +kernel)
theorem dX10_matches_20 : decode cX10_matches 20 = .ok (.istore_n 3, 1) := dc_62 (by decide +kernel)
theorem dX10_matches_21 : decode cX10_matches 21 = .ok (.iload_n 2, 1) := dc_28 (by decide +kernel)
theorem dX10_matches_22 : decode cX10_matches 22 = .ok (.ifCond .eq 45, 3) := dc_153 (a := 0) (b := 45) (v := 45) (by decide +kernel)
theorem dX10_matches_25 : decode cX10_matches 25 = .ok (.iload_n 3, 1) := dc_29 (by decide +kernel)
theorem dX10_matches_26 : decode cX10_matches 26 = .ok (.aload_n 0, 1) := dc_42 (by decide +kernel)
theorem dX10_matches_27 : decode cX10_matches 27 = .ok (.getfield 39, 3) := dc_180 (a := 0) (b := 39) (n := 39) (by decide +kernel)
theorem dX10_matches_30 : decode cX10_matches 30 = .ok (.if_icmp .ge 37, 3) := dc_162 (a := 0) (b := 37) (v := 37) (by decide +kernel)
theorem dX10_matches_33 : decode cX10_matches 33 = .ok (.aload_n 0, 1) := dc_42 (by decide +kernel)
theorem dX10_matches_34 : decode cX10_matches 34 = .ok (.getfield 21, 3) := dc_180 (a := 0) (b := 21) (n := 21) (by decide +kernel)
theorem dX10_matches_37 : decode cX10_matches 37 = .ok (.aload_n 0, 1) := dc_42 (by decide +kernel)
theorem dX10_matches_38 : decode cX10_matches 38 = .ok (.getfield 15, 3) := dc_180 (a := 0) (b := 15) (n := 15) (by decide +kernel)
theorem dX10_matches_41 : decode cX10_matches 41 = .ok (.iload_n 1, 1) := dc_27 (by decide +kernel)
theorem dX10_matches_42 : decode cX10_matches 42 = .ok (.iaload, 1) := dc_46 (by decide +kernel)
theorem dX10_matches_43 : decode cX10_matches 43 = .ok (.iload_n 3, 1) := dc_29 (by decide +kernel)
theorem dX10_matches_44 : decode cX10_matches 44 = .ok (.iadd, 1) := dc_96 (by decide +kernel)
theorem dX10_matches_45 : decode cX10_matches 45 = .ok (.baload, 1) := dc_51 (by decide +kernel)
theorem dX10_matches_46 : decode cX10_matches 46 = .ok (.aload_n 0, 1) := dc_42 (by decide +kernel)
theorem dX10_matches_47 : decode cX10_matches 47 = .ok (.getfield 25, 3) := dc_180 (a := 0) (b := 25) (n := 25) (by decide +kernel)
theorem dX10_matches_50 : decode cX10_matches 50 = .ok (.iload_n 3, 1) := dc_29 (by decide +kernel)
theorem dX10_matches_51 : decode cX10_matches 51 = .ok (.baload, 1) := dc_51 (by decide +kernel)
theorem dX10_matches_52 : decode cX10_matches 52 = .ok (.if_icmp .ne 7, 3) := dc_160 (a := 0) (b := 7) (v := 7) (by decide +kernel)
theorem dX10_matches_55 : decode cX10_matches 55 = .ok (.iconst 1, 1) := dc_4 (by decide +kernel)
theorem dX10_matches_56 : decode cX10_matches 56 = .ok (.goto 4, 3) := dc_167 (a := 0) (b := 4) (v := 4) (by decide +kernel)
theorem dX10_matches_59 : decode cX10_matches 59 = .ok (.iconst 0, 1) := dc_3 (by decide +kernel)
theorem dX10_matches_60 : decode cX10_matches 60 = .ok (.istore_n 2, 1) := dc_61 (by decide +kernel)
theorem dX10_matches_61 : decode cX10_matches 61 = .ok (.iinc 3 1, 3) := dc_132 (a := 3) (b := 1) (v := 1) (by decide +kernel)
theorem dX10_matches_64 : decode cX10_matches 64 = .ok (.goto (-43), 3) := dc_167 (a := 255) (b := 213) (v := -43) (by decide +kernel)
theorem dX10_matches_67 : decode cX10_matches 67 = .ok (.iload_n 2, 1) := dc_28 (by decide +kernel)
theorem dX10_matches_68 : decode cX10_matches 68 = .ok (.ireturn, 1) := dc_172 (by decide +kernel)
theorem GX10_15 {w : eW} {d : Nat} {Y : eY} {pc : Nat} {ls : eL} {st : List Value} {h : eH} {Q : eO → eH → Prop} {a : Nat} {x : Nat} (hf : g_A 9 h a 2 = some x) (hd : decode Y.2.1 pc = .ok (.getfield 15, 3)) (hY : Y.1.cls = RX10) (kk : wp w d Y (pc + 3) ls (.ref x :: st) h Q) : wp w d Y pc ls (.ref a :: st) h Q := x_gA (ci := 9) (k := 2) hf hd rfl (by decide) (by rw [hY]; exact q702) kk
theorem GX10_18 {w : eW} {d : Nat} {Y : eY} {pc : Nat} {ls : eL} {st : List Value} {h : eH} {Q : eO → eH → Prop} {a : Nat} {x : Nat} (hf : g_A 9 h a 3 = some x) (hd : decode Y.2.1 pc = .ok (.getfield 18, 3)) (hY : Y.1.cls = RX10) (kk : wp w d Y (pc + 3) ls (.ref x :: st) h Q) : wp w d Y pc ls (.ref a :: st) h Q := x_gA (ci := 9) (k := 3) hf hd rfl (by decide) (by rw [hY]; exact q703) kk
theorem GX10_21 {w : eW} {d : Nat} {Y : eY} {pc : Nat} {ls : eL} {st : List Value} {h : eH} {Q : eO → eH → Prop} {a : Nat} {x : Nat} (hf : g_A 9 h a 4 = some x) (hd : decode Y.2.1 pc = .ok (.getfield 21, 3)) (hY : Y.1.cls = RX10) (kk : wp w d Y (pc + 3) ls (.ref x :: st) h Q) : wp w d Y pc ls (.ref a :: st) h Q := x_gA (ci := 9) (k := 4) hf hd rfl (by decide) (by rw [hY]; exact q705) kk
theorem GX10_25 {w : eW} {d : Nat} {Y : eY} {pc : Nat} {ls : eL} {st : List Value} {h : eH} {Q : eO → eH → Prop} {a : Nat} {x : Nat} (hf : g_A 9 h a 7 = some x) (hd : decode Y.2.1 pc = .ok (.getfield 25, 3)) (hY : Y.1.cls = RX10) (kk : wp w d Y (pc + 3) ls (.ref x :: st) h Q) : wp w d Y pc ls (.ref a :: st) h Q := x_gA (ci := 9) (k := 7) hf hd rfl (by decide) (by rw [hY]; exact q709) kk
theorem GX10_39 {w : eW} {d : Nat} {Y : eY} {pc : Nat} {ls : eL} {st : List Value} {h : eH} {Q : eO → eH → Prop} {a : Nat} {x : Int32} (hf : g_I 9 h a 8 = some x) (hd : decode Y.2.1 pc = .ok (.getfield 39, 3)) (hY : Y.1.cls = RX10) (kk : wp w d Y (pc + 3) ls (.int x :: st) h Q) : wp w d Y pc ls (.ref a :: st) h Q := x_gI (ci := 9) (k := 8) hf hd rfl (by decide) (by rw [hY]; exact q710) kk
def fX10_matches_b60 (N : Nat) (k21 : Nat → Int32 → Int32 → Int32 → eH → Option (Int32 × eH)) (l0 : Nat) (l1 : Int32) (l3 : Int32) (s0 : Int32) (h : eH) : Option (Int32 × eH) :=
  k21 l0 l1 s0 (l3 + (1 : Int32)) h
theorem pX10_matches_b60 {w : eW} {d : Nat} (hd : 0 ≤ d) {N : Nat} {k21 : Nat → Int32 → Int32 → Int32 → eH → Option (Int32 × eH)} (hk21 : ∀ l0 l1 l2 l3 h q, k21 l0 l1 l2 l3 h = some q → wp w d YX10_matches 21 [some (.ref l0), some (.int l1), some (.int l2), some (.int l3)] [] h (e_is (e_rn c_I q))) {l0 : Nat} {l1 : Int32} {l3 : Int32} {s0 : Int32} {h : eH} {q} (hf : fX10_matches_b60 N k21 l0 l1 l3 s0 h = some q) : wp w d YX10_matches 60 [some (.ref l0), some (.int l1), none, some (.int l3)] [.int s0] h (e_is (e_rn c_I q)) := by
  unfold fX10_matches_b60 at hf
  refine w_istore_n dX10_matches_60 rfl (by decide) (ls' := [some (.ref l0), some (.int l1), some (.int s0), some (.int l3)]) rfl ?_
  refine w_iinc dX10_matches_61 (v := (l3 + (1 : Int32))) rfl rfl (by decide) (ls' := [some (.ref l0), some (.int l1), some (.int s0), some (.int (l3 + (1 : Int32)))]) rfl ?_
  refine w_goto 21 dX10_matches_64 (by decide) ?_
  exact (hk21 _ _ _ _ _ _ hf).to ⟨rfl, rfl, rfl, rfl, trivial⟩
def fX10_matches_b67 (N : Nat) (l2 : Int32) (h : eH) : Option (Int32 × eH) :=
  z_r l2 (l2, h)
theorem pX10_matches_b67 {w : eW} {d : Nat} (hd : 0 ≤ d) {N : Nat} {l2 : Int32} {h : eH} {q} (hf : fX10_matches_b67 N l2 h = some q) : wp w d YX10_matches 67 [none, none, some (.int l2), none] [] h (e_is (e_rn c_I q)) := by
  unfold fX10_matches_b67 at hf
  refine w_iload_n dX10_matches_67 rfl rfl ?_
  obtain ⟨b1, rfl⟩ := z_r_some hf
  exact w_iret dX10_matches_68 rfl b1 rfl
def fX10_matches_b21 (N : Nat) : Nat → Nat → Int32 → Int32 → Int32 → eH → Option (Int32 × eH)
  | 0, _, _, _, _, _ => none
  | n + 1, l0, l1, l2, l3, h =>
    if l2 = 0 then
      fX10_matches_b67 N l2 h
    else
      (g_I 9 h l0 8).bind fun x2 =>
      if x2 ≤ l3 then
        fX10_matches_b67 N l2 h
      else
        (g_A 9 h l0 4).bind fun a5 =>
        (g_A 9 h l0 2).bind fun a7 =>
        (r_I 100 h a7 l1).bind fun x9 =>
        (r_I 102 h a5 (x9 + l3)).bind fun x11 =>
        (g_A 9 h l0 7).bind fun a13 =>
        (r_I 102 h a13 l3).bind fun x15 =>
        if ¬ x11 = x15 then
          fX10_matches_b60 N (fX10_matches_b21 N n) l0 l1 l3 (0 : Int32) h
        else
          fX10_matches_b60 N (fX10_matches_b21 N n) l0 l1 l3 (1 : Int32) h
theorem pX10_matches_b21 {w : eW} {d : Nat} (hd : 0 ≤ d) {N : Nat} : ∀ (n : Nat) l0 l1 l2 l3 h q, fX10_matches_b21 N n l0 l1 l2 l3 h = some q → wp w d YX10_matches 21 [some (.ref l0), some (.int l1), some (.int l2), some (.int l3)] [] h (e_is (e_rn c_I q)) := by
  intro n
  induction n with
  | zero => intro l0 l1 l2 l3 h q hf; simp [fX10_matches_b21] at hf
  | succ n ih =>
    intro l0 l1 l2 l3 h q hf
    rw [fX10_matches_b21] at hf
    refine w_iload_n dX10_matches_21 rfl rfl ?_
    refine w_if_eq 67 dX10_matches_22 (by decide) (fun c1 => ?_) (fun c1 => ?_)
    · replace hf := (if_pos (show l2 = 0 from c1)).symm.trans hf
      exact (pX10_matches_b67 hd hf).to ⟨rfl, trivial⟩
    · replace hf := (if_neg (show ¬ (l2 = 0) from c1)).symm.trans hf
      refine w_iload_n dX10_matches_25 rfl rfl ?_
      refine w_aload_n dX10_matches_26 rfl rfl ?_
      obtain ⟨x2, b3, hf⟩ := Option.bind_eq_some_iff.mp hf
      refine GX10_39 b3 dX10_matches_27 rfl ?_
      refine w_icmp_ge 67 dX10_matches_30 (by decide) (fun c4 => ?_) (fun c4 => ?_)
      · replace hf := (if_pos (show x2 ≤ l3 from c4)).symm.trans hf
        exact (pX10_matches_b67 hd hf).to ⟨rfl, trivial⟩
      · replace hf := (if_neg (show ¬ (x2 ≤ l3) from c4)).symm.trans hf
        refine w_aload_n dX10_matches_33 rfl rfl ?_
        obtain ⟨a5, b6, hf⟩ := Option.bind_eq_some_iff.mp hf
        refine GX10_21 b6 dX10_matches_34 rfl ?_
        refine w_aload_n dX10_matches_37 rfl rfl ?_
        obtain ⟨a7, b8, hf⟩ := Option.bind_eq_some_iff.mp hf
        refine GX10_15 b8 dX10_matches_38 rfl ?_
        refine w_iload_n dX10_matches_41 rfl rfl ?_
        obtain ⟨x9, b10, hf⟩ := Option.bind_eq_some_iff.mp hf
        refine x_rI b10 dX10_matches_42 ?_
        refine w_iload_n dX10_matches_43 rfl rfl ?_
        refine w_iadd dX10_matches_44 ?_
        obtain ⟨x11, b12, hf⟩ := Option.bind_eq_some_iff.mp hf
        refine x_rB b12 dX10_matches_45 ?_
        refine w_aload_n dX10_matches_46 rfl rfl ?_
        obtain ⟨a13, b14, hf⟩ := Option.bind_eq_some_iff.mp hf
        refine GX10_25 b14 dX10_matches_47 rfl ?_
        refine w_iload_n dX10_matches_50 rfl rfl ?_
        obtain ⟨x15, b16, hf⟩ := Option.bind_eq_some_iff.mp hf
        refine x_rB b16 dX10_matches_51 ?_
        refine w_icmp_ne 59 dX10_matches_52 (by decide) (fun c17 => ?_) (fun c17 => ?_)
        · replace hf := (if_pos (show ¬ x11 = x15 from c17)).symm.trans hf
          refine w_iconst dX10_matches_59 (v := 0) (by decide) ?_
          exact (pX10_matches_b60 hd ih hf).to ⟨rfl, rfl, rfl, trivial⟩
        · replace hf := (if_neg (show ¬ (¬ x11 = x15) from (fun z => z c17))).symm.trans hf
          refine w_iconst dX10_matches_55 (v := 1) (by decide) ?_
          refine w_goto 60 dX10_matches_56 (by decide) ?_
          exact (pX10_matches_b60 hd ih hf).to ⟨rfl, rfl, rfl, trivial⟩
def fX10_matches_b18 (N : Nat) (l0 : Nat) (l1 : Int32) (s0 : Int32) (h : eH) : Option (Int32 × eH) :=
  fX10_matches_b21 N N l0 l1 s0 (0 : Int32) h
theorem pX10_matches_b18 {w : eW} {d : Nat} (hd : 0 ≤ d) {N : Nat} {l0 : Nat} {l1 : Int32} {s0 : Int32} {h : eH} {q} (hf : fX10_matches_b18 N l0 l1 s0 h = some q) : wp w d YX10_matches 18 [some (.ref l0), some (.int l1), none, none] [.int s0] h (e_is (e_rn c_I q)) := by
  unfold fX10_matches_b18 at hf
  refine w_istore_n dX10_matches_18 rfl (by decide) (ls' := [some (.ref l0), some (.int l1), some (.int s0), none]) rfl ?_
  refine w_iconst dX10_matches_19 (v := 0) (by decide) ?_
  refine w_istore_n dX10_matches_20 rfl (by decide) (ls' := [some (.ref l0), some (.int l1), some (.int s0), some (.int (0 : Int32))]) rfl ?_
  exact (pX10_matches_b21 hd N _ _ _ _ _ _ hf).to ⟨rfl, rfl, rfl, rfl, trivial⟩
def fX10_matches (N : Nat) (this : Nat) (p0 : Int32) (h : eH) : Option (Int32 × eH) :=
  (g_A 9 h this 3).bind fun a1 =>
  (r_I 100 h a1 p0).bind fun x3 =>
  (g_I 9 h this 8).bind fun x5 =>
  if ¬ x3 = x5 then
    fX10_matches_b18 N this p0 (0 : Int32) h
  else
    fX10_matches_b18 N this p0 (1 : Int32) h
theorem pX10_matches {w : eW} {d : Nat} (hd : 0 ≤ d) {N : Nat} {this : Nat} {p0 : Int32} {h : eH} {q} (hf : fX10_matches N this p0 h = some q) : wm w d YX10_matches [.ref this, .int p0] h (e_is (e_rn c_I q)) := by
  show wp w d YX10_matches 0 [some (.ref this), some (.int p0), none, none] [] h _
  unfold fX10_matches at hf
  refine w_aload_n dX10_matches_0 rfl rfl ?_
  obtain ⟨a1, b2, hf⟩ := Option.bind_eq_some_iff.mp hf
  refine GX10_18 b2 dX10_matches_1 rfl ?_
  refine w_iload_n dX10_matches_4 rfl rfl ?_
  obtain ⟨x3, b4, hf⟩ := Option.bind_eq_some_iff.mp hf
  refine x_rI b4 dX10_matches_5 ?_
  refine w_aload_n dX10_matches_6 rfl rfl ?_
  obtain ⟨x5, b6, hf⟩ := Option.bind_eq_some_iff.mp hf
  refine GX10_39 b6 dX10_matches_7 rfl ?_
  refine w_icmp_ne 17 dX10_matches_10 (by decide) (fun c7 => ?_) (fun c7 => ?_)
  · replace hf := (if_pos (show ¬ x3 = x5 from c7)).symm.trans hf
    refine w_iconst dX10_matches_17 (v := 0) (by decide) ?_
    exact (pX10_matches_b18 hd hf).to ⟨rfl, rfl, trivial⟩
  · replace hf := (if_neg (show ¬ (¬ x3 = x5) from (fun z => z c7))).symm.trans hf
    refine w_iconst dX10_matches_13 (v := 1) (by decide) ?_
    refine w_goto 18 dX10_matches_14 (by decide) ?_
    exact (pX10_matches_b18 hd hf).to ⟨rfl, rfl, trivial⟩
abbrev cX10_seek : ByteArray := prog_17_method_6_code
def yX10_seek : MethodName := ⟨RX10, "seek", "()I"⟩
def YX10_seek : eY := (yX10_seek, cX10_seek, 3, (Option.some FieldType.int), [])
theorem mX10_seek : e_mv YX10_seek RX10 0 := ⟨q1999, qs7, q2000, by decide, by decide +kernel, (e_sig (by decide +kernel))⟩
theorem dX10_seek_0 : decode cX10_seek 0 = .ok (.aload_n 0, 1) := dc_42 (by decide +kernel)
theorem dX10_seek_1 : decode cX10_seek 1 = .ok (.getfield 39, 3) := dc_180 (a := 0) (b := 39) (n := 39) (by decide +kernel)
theorem dX10_seek_4 : decode cX10_seek 4 = .ok (.istore_n 1, 1) := dc_60 (by decide +kernel)
theorem dX10_seek_5 : decode cX10_seek 5 = .ok (.iconst 0, 1) := dc_3 (by decide +kernel)
theorem dX10_seek_6 : decode cX10_seek 6 = .ok (.istore_n 2, 1) := dc_61 (by decide +kernel)
theorem dX10_seek_7 : decode cX10_seek 7 = .ok (.iload_n 2, 1) := dc_28 (by decide +kernel)
theorem dX10_seek_8 : decode cX10_seek 8 = .ok (.aload_n 0, 1) := dc_42 (by decide +kernel)
theorem dX10_seek_9 : decode cX10_seek 9 = .ok (.getfield 39, 3) := dc_180 (a := 0) (b := 39) (n := 39) (by decide +kernel)
theorem dX10_seek_12 : decode cX10_seek 12 = .ok (.if_icmp .ge 21, 3) := dc_162 (a := 0) (b := 21) (v := 21) (by decide +kernel)
theorem dX10_seek_15 : decode cX10_seek 15 = .ok (.bipush 31, 2) := dc_16 (a := 31) (v := 31) (by decide +kernel)
theorem dX10_seek_17 : decode cX10_seek 17 = .ok (.iload_n 1, 1) := dc_27 (by decide +kernel)
theorem dX10_seek_18 : decode cX10_seek 18 = .ok (.imul, 1) := dc_104 (by decide +kernel)
theorem dX10_seek_19 : decode cX10_seek 19 = .ok (.aload_n 0, 1) := dc_42 (by decide +kernel)
theorem dX10_seek_20 : decode cX10_seek 20 = .ok (.getfield 25, 3) := dc_180 (a := 0) (b := 25) (n := 25) (by decide +kernel)
theorem dX10_seek_23 : decode cX10_seek 23 = .ok (.iload_n 2, 1) := dc_28 (by decide +kernel)
theorem dX10_seek_24 : decode cX10_seek 24 = .ok (.baload, 1) := dc_51 (by decide +kernel)
theorem dX10_seek_25 : decode cX10_seek 25 = .ok (.iadd, 1) := dc_96 (by decide +kernel)
theorem dX10_seek_26 : decode cX10_seek 26 = .ok (.istore_n 1, 1) := dc_60 (by decide +kernel)
theorem dX10_seek_27 : decode cX10_seek 27 = .ok (.iinc 2 1, 3) := dc_132 (a := 2) (b := 1) (v := 1) (by decide +kernel)
theorem dX10_seek_30 : decode cX10_seek 30 = .ok (.goto (-23), 3) := dc_167 (a := 255) (b := 233) (v := -23) (by decide +kernel)
theorem dX10_seek_33 : decode cX10_seek 33 = .ok (.iload_n 1, 1) := dc_27 (by decide +kernel)
theorem dX10_seek_34 : decode cX10_seek 34 = .ok (.iload_n 1, 1) := dc_27 (by decide +kernel)
theorem dX10_seek_35 : decode cX10_seek 35 = .ok (.bipush 12, 2) := dc_16 (a := 12) (v := 12) (by decide +kernel)
theorem dX10_seek_37 : decode cX10_seek 37 = .ok (.iushr, 1) := dc_124 (by decide +kernel)
theorem dX10_seek_38 : decode cX10_seek 38 = .ok (.ixor, 1) := dc_130 (by decide +kernel)
theorem dX10_seek_39 : decode cX10_seek 39 = .ok (.sipush 4095, 3) := dc_17 (a := 15) (b := 255) (v := 4095) (by decide +kernel)
theorem dX10_seek_42 : decode cX10_seek 42 = .ok (.iand, 1) := dc_126 (by decide +kernel)
theorem dX10_seek_43 : decode cX10_seek 43 = .ok (.istore_n 2, 1) := dc_61 (by decide +kernel)
theorem dX10_seek_44 : decode cX10_seek 44 = .ok (.aload_n 0, 1) := dc_42 (by decide +kernel)
theorem dX10_seek_45 : decode cX10_seek 45 = .ok (.getfield 11, 3) := dc_180 (a := 0) (b := 11) (n := 11) (by decide +kernel)
theorem dX10_seek_48 : decode cX10_seek 48 = .ok (.iload_n 2, 1) := dc_28 (by decide +kernel)
theorem dX10_seek_49 : decode cX10_seek 49 = .ok (.iaload, 1) := dc_46 (by decide +kernel)
theorem dX10_seek_50 : decode cX10_seek 50 = .ok (.ifCond .eq 27, 3) := dc_153 (a := 0) (b := 27) (v := 27) (by decide +kernel)
theorem dX10_seek_53 : decode cX10_seek 53 = .ok (.aload_n 0, 1) := dc_42 (by decide +kernel)
theorem dX10_seek_54 : decode cX10_seek 54 = .ok (.aload_n 0, 1) := dc_42 (by decide +kernel)
theorem dX10_seek_55 : decode cX10_seek 55 = .ok (.getfield 11, 3) := dc_180 (a := 0) (b := 11) (n := 11) (by decide +kernel)
theorem dX10_seek_58 : decode cX10_seek 58 = .ok (.iload_n 2, 1) := dc_28 (by decide +kernel)
theorem dX10_seek_59 : decode cX10_seek 59 = .ok (.iaload, 1) := dc_46 (by decide +kernel)
theorem dX10_seek_60 : decode cX10_seek 60 = .ok (.invokevirtual 48, 3) := dc_182 (a := 0) (b := 48) (n := 48) (by decide +kernel)
theorem dX10_seek_63 : decode cX10_seek 63 = .ok (.ifCond .ne 14, 3) := dc_154 (a := 0) (b := 14) (v := 14) (by decide +kernel)
theorem dX10_seek_66 : decode cX10_seek 66 = .ok (.iload_n 2, 1) := dc_28 (by decide +kernel)
theorem dX10_seek_67 : decode cX10_seek 67 = .ok (.iconst 1, 1) := dc_4 (by decide +kernel)
theorem dX10_seek_68 : decode cX10_seek 68 = .ok (.iadd, 1) := dc_96 (by decide +kernel)
theorem dX10_seek_69 : decode cX10_seek 69 = .ok (.sipush 4095, 3) := dc_17 (a := 15) (b := 255) (v := 4095) (by decide +kernel)
theorem dX10_seek_72 : decode cX10_seek 72 = .ok (.iand, 1) := dc_126 (by decide +kernel)
theorem dX10_seek_73 : decode cX10_seek 73 = .ok (.istore_n 2, 1) := dc_61 (by decide +kernel)
theorem dX10_seek_74 : decode cX10_seek 74 = .ok (.goto (-30), 3) := dc_167 (a := 255) (b := 226) (v := -30) (by decide +kernel)
theorem dX10_seek_77 : decode cX10_seek 77 = .ok (.iload_n 2, 1) := dc_28 (by decide +kernel)
theorem dX10_seek_78 : decode cX10_seek 78 = .ok (.ireturn, 1) := dc_172 (by decide +kernel)
def fX10_seek_b77 (N : Nat) (l2 : Int32) (h : eH) : Option (Int32 × eH) :=
  some (l2, h)
theorem pX10_seek_b77 {w : eW} {d : Nat} (hd : 1 ≤ d + 1) {N : Nat} {l2 : Int32} {h : eH} {q} (hf : fX10_seek_b77 N l2 h = some q) : wp w (d + 1) YX10_seek 77 [none, none, some (.int l2)] [] h (e_is (e_rn c_I q)) := by
  unfold fX10_seek_b77 at hf
  refine w_iload_n dX10_seek_77 rfl rfl ?_
  cases hf
  exact w_iret dX10_seek_78 rfl rfl rfl
def fX10_seek_b44 (N : Nat) : Nat → Nat → Int32 → eH → Option (Int32 × eH)
  | 0, _, _, _ => none
  | n + 1, l0, l2, h =>
    (g_A 9 h l0 1).bind fun a1 =>
    (r_I 100 h a1 l2).bind fun x3 =>
    if x3 = 0 then
      fX10_seek_b77 N l2 h
    else
      (g_A 9 h l0 1).bind fun a6 =>
      (r_I 100 h a6 l2).bind fun x8 =>
      (k_ok 9 h l0).bind fun _ =>
      (fX10_matches N l0 x8 h).bind fun q11 =>
      if ¬ q11.1 = 0 then
        fX10_seek_b77 N l2 q11.2
      else
        fX10_seek_b44 N n l0 ((l2 + (1 : Int32)) &&& (4095 : Int32)) q11.2
theorem pX10_seek_b44 {w : eW} {d : Nat} (hd : 1 ≤ d + 1) {N : Nat} : ∀ (n : Nat) l0 l2 h q, fX10_seek_b44 N n l0 l2 h = some q → wp w (d + 1) YX10_seek 44 [some (.ref l0), none, some (.int l2)] [] h (e_is (e_rn c_I q)) := by
  intro n
  induction n with
  | zero => intro l0 l2 h q hf; simp [fX10_seek_b44] at hf
  | succ n ih =>
    intro l0 l2 h q hf
    rw [fX10_seek_b44] at hf
    refine w_aload_n dX10_seek_44 rfl rfl ?_
    obtain ⟨a1, b2, hf⟩ := Option.bind_eq_some_iff.mp hf
    refine GX10_11 b2 dX10_seek_45 rfl ?_
    refine w_iload_n dX10_seek_48 rfl rfl ?_
    obtain ⟨x3, b4, hf⟩ := Option.bind_eq_some_iff.mp hf
    refine x_rI b4 dX10_seek_49 ?_
    refine w_if_eq 77 dX10_seek_50 (by decide) (fun c5 => ?_) (fun c5 => ?_)
    · replace hf := (if_pos (show x3 = 0 from c5)).symm.trans hf
      exact (pX10_seek_b77 hd hf).to ⟨rfl, trivial⟩
    · replace hf := (if_neg (show ¬ (x3 = 0) from c5)).symm.trans hf
      refine w_aload_n dX10_seek_53 rfl rfl ?_
      refine w_aload_n dX10_seek_54 rfl rfl ?_
      obtain ⟨a6, b7, hf⟩ := Option.bind_eq_some_iff.mp hf
      refine GX10_11 b7 dX10_seek_55 rfl ?_
      refine w_iload_n dX10_seek_58 rfl rfl ?_
      obtain ⟨x8, b9, hf⟩ := Option.bind_eq_some_iff.mp hf
      refine x_rI b9 dX10_seek_59 ?_
      obtain ⟨_, b10, hf⟩ := Option.bind_eq_some_iff.mp hf
      refine x_cnI hf (e_stV (Yc := YX10_matches) (ci := 9) (av := [.int x8]) (st := []) dX10_seek_60 q2001 mX10_matches rfl (k_ok_some b10).1 (k_ok_some b10).2) mX10_matches.2.2.1 mX10_matches.2.2.2.2.1 (Nat.le_of_ble_eq_true rfl) (Nat.le_of_ble_eq_true rfl) (fun q hq => pX10_matches (by omega) hq) (fun q11 hf => ?_)
      refine w_if_ne 77 dX10_seek_63 (by decide) (fun c12 => ?_) (fun c12 => ?_)
      · replace hf := (if_pos (show ¬ q11.1 = 0 from c12)).symm.trans hf
        exact (pX10_seek_b77 hd hf).to ⟨rfl, trivial⟩
      · replace hf := (if_neg (show ¬ (¬ q11.1 = 0) from (fun z => z c12))).symm.trans hf
        refine w_iload_n dX10_seek_66 rfl rfl ?_
        refine w_iconst dX10_seek_67 (v := 1) (by decide) ?_
        refine w_iadd dX10_seek_68 ?_
        refine w_sipush dX10_seek_69 (v := 4095) (by decide) ?_
        refine w_iand dX10_seek_72 ?_
        refine w_istore_n dX10_seek_73 rfl (by decide) (ls' := [some (.ref l0), none, some (.int ((l2 + (1 : Int32)) &&& (4095 : Int32)))]) rfl ?_
        refine w_goto 44 dX10_seek_74 (by decide) ?_
        exact (ih _ _ _ _ hf).to ⟨rfl, rfl, trivial⟩
def fX10_seek_b7 (N : Nat) : Nat → Nat → Int32 → Int32 → eH → Option (Int32 × eH)
  | 0, _, _, _, _ => none
  | n + 1, l0, l1, l2, h =>
    (g_I 9 h l0 8).bind fun x1 =>
    if x1 ≤ l2 then
      fX10_seek_b44 N N l0 ((l1 ^^^ ((l1).toUInt32 >>> (((12 : Int32)).toUInt32 &&& Int32.toUInt32 31)).toInt32) &&& (4095 : Int32)) h
    else
      (g_A 9 h l0 7).bind fun a4 =>
      (r_I 102 h a4 l2).bind fun x6 =>
      fX10_seek_b7 N n l0 (((31 : Int32) * l1) + x6) (l2 + (1 : Int32)) h
theorem pX10_seek_b7 {w : eW} {d : Nat} (hd : 1 ≤ d + 1) {N : Nat} : ∀ (n : Nat) l0 l1 l2 h q, fX10_seek_b7 N n l0 l1 l2 h = some q → wp w (d + 1) YX10_seek 7 [some (.ref l0), some (.int l1), some (.int l2)] [] h (e_is (e_rn c_I q)) := by
  intro n
  induction n with
  | zero => intro l0 l1 l2 h q hf; simp [fX10_seek_b7] at hf
  | succ n ih =>
    intro l0 l1 l2 h q hf
    rw [fX10_seek_b7] at hf
    refine w_iload_n dX10_seek_7 rfl rfl ?_
    refine w_aload_n dX10_seek_8 rfl rfl ?_
    obtain ⟨x1, b2, hf⟩ := Option.bind_eq_some_iff.mp hf
    refine GX10_39 b2 dX10_seek_9 rfl ?_
    refine w_icmp_ge 33 dX10_seek_12 (by decide) (fun c3 => ?_) (fun c3 => ?_)
    · replace hf := (if_pos (show x1 ≤ l2 from c3)).symm.trans hf
      refine w_iload_n dX10_seek_33 rfl rfl ?_
      refine w_iload_n dX10_seek_34 rfl rfl ?_
      refine w_bipush dX10_seek_35 (v := 12) (by decide) ?_
      refine w_iushr dX10_seek_37 ?_
      refine w_ixor dX10_seek_38 ?_
      refine w_sipush dX10_seek_39 (v := 4095) (by decide) ?_
      refine w_iand dX10_seek_42 ?_
      refine w_istore_n dX10_seek_43 rfl (by decide) (ls' := [some (.ref l0), some (.int l1), some (.int ((l1 ^^^ ((l1).toUInt32 >>> (((12 : Int32)).toUInt32 &&& Int32.toUInt32 31)).toInt32) &&& (4095 : Int32)))]) rfl ?_
      exact (pX10_seek_b44 hd N _ _ _ _ hf).to ⟨rfl, rfl, trivial⟩
    · replace hf := (if_neg (show ¬ (x1 ≤ l2) from c3)).symm.trans hf
      refine w_bipush dX10_seek_15 (v := 31) (by decide) ?_
      refine w_iload_n dX10_seek_17 rfl rfl ?_
      refine w_imul dX10_seek_18 ?_
      refine w_aload_n dX10_seek_19 rfl rfl ?_
      obtain ⟨a4, b5, hf⟩ := Option.bind_eq_some_iff.mp hf
      refine GX10_25 b5 dX10_seek_20 rfl ?_
      refine w_iload_n dX10_seek_23 rfl rfl ?_
      obtain ⟨x6, b7, hf⟩ := Option.bind_eq_some_iff.mp hf
      refine x_rB b7 dX10_seek_24 ?_
      refine w_iadd dX10_seek_25 ?_
      refine w_istore_n dX10_seek_26 rfl (by decide) (ls' := [some (.ref l0), some (.int (((31 : Int32) * l1) + x6)), some (.int l2)]) rfl ?_
      refine w_iinc dX10_seek_27 (v := (l2 + (1 : Int32))) rfl rfl (by decide) (ls' := [some (.ref l0), some (.int (((31 : Int32) * l1) + x6)), some (.int (l2 + (1 : Int32)))]) rfl ?_
      refine w_goto 7 dX10_seek_30 (by decide) ?_
      exact (ih _ _ _ _ _ hf).to ⟨rfl, rfl, rfl, trivial⟩
def fX10_seek (N : Nat) (this : Nat) (h : eH) : Option (Int32 × eH) :=
  (g_I 9 h this 8).bind fun x1 =>
  fX10_seek_b7 N N this x1 (0 : Int32) h
theorem pX10_seek {w : eW} {d : Nat} (hd : 1 ≤ d) {N : Nat} {this : Nat} {h : eH} {q} (hf : fX10_seek N this h = some q) : wm w d YX10_seek [.ref this] h (e_is (e_rn c_I q)) := by
  obtain ⟨d, rfl⟩ : ∃ e, d = e + 1 := ⟨d - 1, by omega⟩
  show wp w (d + 1) YX10_seek 0 [some (.ref this), none, none] [] h _
  unfold fX10_seek at hf
  refine w_aload_n dX10_seek_0 rfl rfl ?_
  obtain ⟨x1, b2, hf⟩ := Option.bind_eq_some_iff.mp hf
  refine GX10_39 b2 dX10_seek_1 rfl ?_
  refine w_istore_n dX10_seek_4 rfl (by decide) (ls' := [some (.ref this), some (.int x1), none]) rfl ?_
  refine w_iconst dX10_seek_5 (v := 0) (by decide) ?_
  refine w_istore_n dX10_seek_6 rfl (by decide) (ls' := [some (.ref this), some (.int x1), some (.int (0 : Int32))]) rfl ?_
  exact (pX10_seek_b7 hd N _ _ _ _ _ hf).to ⟨rfl, rfl, rfl, trivial⟩
abbrev cX10_make : ByteArray := prog_17_method_7_code
def yX10_make : MethodName := ⟨RX10, "make", "(I)V"⟩
def YX10_make : eY := (yX10_make, cX10_make, 3, none, [])
theorem mX10_make : e_mv YX10_make RX10 1 := ⟨q2007, qs9, q2008, by decide, by decide +kernel, (e_sig (by decide +kernel))⟩
theorem dX10_make_0 : decode cX10_make 0 = .ok (.aload_n 0, 1) := dc_42 (by decide +kernel)
theorem dX10_make_1 : decode cX10_make 1 = .ok (.aload_n 0, 1) := dc_42 (by decide +kernel)
theorem dX10_make_2 : decode cX10_make 2 = .ok (.getfield 15, 3) := dc_180 (a := 0) (b := 15) (n := 15) (by decide +kernel)
theorem dX10_make_5 : decode cX10_make 5 = .ok (.aload_n 0, 1) := dc_42 (by decide +kernel)
theorem dX10_make_6 : decode cX10_make 6 = .ok (.getfield 32, 3) := dc_180 (a := 0) (b := 32) (n := 32) (by decide +kernel)
theorem dX10_make_9 : decode cX10_make 9 = .ok (.iconst 1, 1) := dc_4 (by decide +kernel)
theorem dX10_make_10 : decode cX10_make 10 = .ok (.iadd, 1) := dc_96 (by decide +kernel)
theorem dX10_make_11 : decode cX10_make 11 = .ok (.invokestatic 52, 3) := dc_184 (a := 0) (b := 52) (n := 52) (by decide +kernel)
theorem dX10_make_14 : decode cX10_make 14 = .ok (.putfield 15, 3) := dc_181 (a := 0) (b := 15) (n := 15) (by decide +kernel)
theorem dX10_make_17 : decode cX10_make 17 = .ok (.aload_n 0, 1) := dc_42 (by decide +kernel)
theorem dX10_make_18 : decode cX10_make 18 = .ok (.aload_n 0, 1) := dc_42 (by decide +kernel)
theorem dX10_make_19 : decode cX10_make 19 = .ok (.getfield 18, 3) := dc_180 (a := 0) (b := 18) (n := 18) (by decide +kernel)
theorem dX10_make_22 : decode cX10_make 22 = .ok (.aload_n 0, 1) := dc_42 (by decide +kernel)
theorem dX10_make_23 : decode cX10_make 23 = .ok (.getfield 32, 3) := dc_180 (a := 0) (b := 32) (n := 32) (by decide +kernel)
theorem dX10_make_26 : decode cX10_make 26 = .ok (.iconst 1, 1) := dc_4 (by decide +kernel)
theorem dX10_make_27 : decode cX10_make 27 = .ok (.iadd, 1) := dc_96 (by decide +kernel)
theorem dX10_make_28 : decode cX10_make 28 = .ok (.invokestatic 52, 3) := dc_184 (a := 0) (b := 52) (n := 52) (by decide +kernel)
theorem dX10_make_31 : decode cX10_make 31 = .ok (.putfield 18, 3) := dc_181 (a := 0) (b := 18) (n := 18) (by decide +kernel)
theorem dX10_make_34 : decode cX10_make 34 = .ok (.aload_n 0, 1) := dc_42 (by decide +kernel)
theorem dX10_make_35 : decode cX10_make 35 = .ok (.getfield 36, 3) := dc_180 (a := 0) (b := 36) (n := 36) (by decide +kernel)
theorem dX10_make_38 : decode cX10_make 38 = .ok (.aload_n 0, 1) := dc_42 (by decide +kernel)
theorem dX10_make_39 : decode cX10_make 39 = .ok (.getfield 39, 3) := dc_180 (a := 0) (b := 39) (n := 39) (by decide +kernel)
theorem dX10_make_42 : decode cX10_make 42 = .ok (.iadd, 1) := dc_96 (by decide +kernel)
theorem dX10_make_43 : decode cX10_make 43 = .ok (.aload_n 0, 1) := dc_42 (by decide +kernel)
theorem dX10_make_44 : decode cX10_make 44 = .ok (.getfield 21, 3) := dc_180 (a := 0) (b := 21) (n := 21) (by decide +kernel)
theorem dX10_make_47 : decode cX10_make 47 = .ok (.arraylength, 1) := dc_190 (by decide +kernel)
theorem dX10_make_48 : decode cX10_make 48 = .ok (.if_icmp .le 36, 3) := dc_164 (a := 0) (b := 36) (v := 36) (by decide +kernel)
theorem dX10_make_51 : decode cX10_make 51 = .ok (.iconst 2, 1) := dc_5 (by decide +kernel)
theorem dX10_make_52 : decode cX10_make 52 = .ok (.aload_n 0, 1) := dc_42 (by decide +kernel)
theorem dX10_make_53 : decode cX10_make 53 = .ok (.getfield 36, 3) := dc_180 (a := 0) (b := 36) (n := 36) (by decide +kernel)
theorem dX10_make_56 : decode cX10_make 56 = .ok (.aload_n 0, 1) := dc_42 (by decide +kernel)
theorem dX10_make_57 : decode cX10_make 57 = .ok (.getfield 39, 3) := dc_180 (a := 0) (b := 39) (n := 39) (by decide +kernel)
theorem dX10_make_60 : decode cX10_make 60 = .ok (.iadd, 1) := dc_96 (by decide +kernel)
theorem dX10_make_61 : decode cX10_make 61 = .ok (.imul, 1) := dc_104 (by decide +kernel)
theorem dX10_make_62 : decode cX10_make 62 = .ok (.newarray .byte, 2) := dc_188_8 (by decide +kernel)
theorem dX10_make_64 : decode cX10_make 64 = .ok (.astore_n 2, 1) := dc_77 (by decide +kernel)
theorem dX10_make_65 : decode cX10_make 65 = .ok (.aload_n 0, 1) := dc_42 (by decide +kernel)
theorem dX10_make_66 : decode cX10_make 66 = .ok (.getfield 21, 3) := dc_180 (a := 0) (b := 21) (n := 21) (by decide +kernel)
theorem dX10_make_69 : decode cX10_make 69 = .ok (.iconst 0, 1) := dc_3 (by decide +kernel)
theorem dX10_make_70 : decode cX10_make 70 = .ok (.aload_n 2, 1) := dc_44 (by decide +kernel)
theorem dX10_make_71 : decode cX10_make 71 = .ok (.iconst 0, 1) := dc_3 (by decide +kernel)
theorem dX10_make_72 : decode cX10_make 72 = .ok (.aload_n 0, 1) := dc_42 (by decide +kernel)
theorem dX10_make_73 : decode cX10_make 73 = .ok (.getfield 36, 3) := dc_180 (a := 0) (b := 36) (n := 36) (by decide +kernel)
theorem dX10_make_76 : decode cX10_make 76 = .ok (.invokestatic 56, 3) := dc_184 (a := 0) (b := 56) (n := 56) (by decide +kernel)
theorem dX10_make_79 : decode cX10_make 79 = .ok (.aload_n 0, 1) := dc_42 (by decide +kernel)
theorem dX10_make_80 : decode cX10_make 80 = .ok (.aload_n 2, 1) := dc_44 (by decide +kernel)
theorem dX10_make_81 : decode cX10_make 81 = .ok (.putfield 21, 3) := dc_181 (a := 0) (b := 21) (n := 21) (by decide +kernel)
theorem dX10_make_84 : decode cX10_make 84 = .ok (.aload_n 0, 1) := dc_42 (by decide +kernel)
theorem dX10_make_85 : decode cX10_make 85 = .ok (.getfield 15, 3) := dc_180 (a := 0) (b := 15) (n := 15) (by decide +kernel)
theorem dX10_make_88 : decode cX10_make 88 = .ok (.aload_n 0, 1) := dc_42 (by decide +kernel)
theorem dX10_make_89 : decode cX10_make 89 = .ok (.getfield 32, 3) := dc_180 (a := 0) (b := 32) (n := 32) (by decide +kernel)
theorem dX10_make_92 : decode cX10_make 92 = .ok (.aload_n 0, 1) := dc_42 (by decide +kernel)
theorem dX10_make_93 : decode cX10_make 93 = .ok (.getfield 36, 3) := dc_180 (a := 0) (b := 36) (n := 36) (by decide +kernel)
theorem dX10_make_96 : decode cX10_make 96 = .ok (.iastore, 1) := dc_79 (by decide +kernel)
theorem dX10_make_97 : decode cX10_make 97 = .ok (.aload_n 0, 1) := dc_42 (by decide +kernel)
theorem dX10_make_98 : decode cX10_make 98 = .ok (.getfield 18, 3) := dc_180 (a := 0) (b := 18) (n := 18) (by decide +kernel)
theorem dX10_make_101 : decode cX10_make 101 = .ok (.aload_n 0, 1) := dc_42 (by decide +kernel)
theorem dX10_make_102 : decode cX10_make 102 = .ok (.getfield 32, 3) := dc_180 (a := 0) (b := 32) (n := 32) (by decide +kernel)
theorem dX10_make_105 : decode cX10_make 105 = .ok (.aload_n 0, 1) := dc_42 (by decide +kernel)
theorem dX10_make_106 : decode cX10_make 106 = .ok (.getfield 39, 3) := dc_180 (a := 0) (b := 39) (n := 39) (by decide +kernel)
theorem dX10_make_109 : decode cX10_make 109 = .ok (.iastore, 1) := dc_79 (by decide +kernel)
theorem dX10_make_110 : decode cX10_make 110 = .ok (.aload_n 0, 1) := dc_42 (by decide +kernel)
theorem dX10_make_111 : decode cX10_make 111 = .ok (.getfield 25, 3) := dc_180 (a := 0) (b := 25) (n := 25) (by decide +kernel)
theorem dX10_make_114 : decode cX10_make 114 = .ok (.iconst 0, 1) := dc_3 (by decide +kernel)
theorem dX10_make_115 : decode cX10_make 115 = .ok (.aload_n 0, 1) := dc_42 (by decide +kernel)
theorem dX10_make_116 : decode cX10_make 116 = .ok (.getfield 21, 3) := dc_180 (a := 0) (b := 21) (n := 21) (by decide +kernel)
theorem dX10_make_119 : decode cX10_make 119 = .ok (.aload_n 0, 1) := dc_42 (by decide +kernel)
theorem dX10_make_120 : decode cX10_make 120 = .ok (.getfield 36, 3) := dc_180 (a := 0) (b := 36) (n := 36) (by decide +kernel)
theorem dX10_make_123 : decode cX10_make 123 = .ok (.aload_n 0, 1) := dc_42 (by decide +kernel)
theorem dX10_make_124 : decode cX10_make 124 = .ok (.getfield 39, 3) := dc_180 (a := 0) (b := 39) (n := 39) (by decide +kernel)
theorem dX10_make_127 : decode cX10_make 127 = .ok (.invokestatic 56, 3) := dc_184 (a := 0) (b := 56) (n := 56) (by decide +kernel)
theorem dX10_make_130 : decode cX10_make 130 = .ok (.aload_n 0, 1) := dc_42 (by decide +kernel)
theorem dX10_make_131 : decode cX10_make 131 = .ok (.dup, 1) := dc_89 (by decide +kernel)
theorem dX10_make_132 : decode cX10_make 132 = .ok (.getfield 36, 3) := dc_180 (a := 0) (b := 36) (n := 36) (by decide +kernel)
theorem dX10_make_135 : decode cX10_make 135 = .ok (.aload_n 0, 1) := dc_42 (by decide +kernel)
theorem dX10_make_136 : decode cX10_make 136 = .ok (.getfield 39, 3) := dc_180 (a := 0) (b := 39) (n := 39) (by decide +kernel)
theorem dX10_make_139 : decode cX10_make 139 = .ok (.iadd, 1) := dc_96 (by decide +kernel)
theorem dX10_make_140 : decode cX10_make 140 = .ok (.putfield 36, 3) := dc_181 (a := 0) (b := 36) (n := 36) (by decide +kernel)
theorem dX10_make_143 : decode cX10_make 143 = .ok (.aload_n 0, 1) := dc_42 (by decide +kernel)
theorem dX10_make_144 : decode cX10_make 144 = .ok (.getfield 11, 3) := dc_180 (a := 0) (b := 11) (n := 11) (by decide +kernel)
theorem dX10_make_147 : decode cX10_make 147 = .ok (.iload_n 1, 1) := dc_27 (by decide +kernel)
theorem dX10_make_148 : decode cX10_make 148 = .ok (.aload_n 0, 1) := dc_42 (by decide +kernel)
theorem dX10_make_149 : decode cX10_make 149 = .ok (.dup, 1) := dc_89 (by decide +kernel)
theorem dX10_make_150 : decode cX10_make 150 = .ok (.getfield 32, 3) := dc_180 (a := 0) (b := 32) (n := 32) (by decide +kernel)
theorem dX10_make_153 : decode cX10_make 153 = .ok (.dup_x1, 1) := dc_90 (by decide +kernel)
theorem dX10_make_154 : decode cX10_make 154 = .ok (.iconst 1, 1) := dc_4 (by decide +kernel)
theorem dX10_make_155 : decode cX10_make 155 = .ok (.iadd, 1) := dc_96 (by decide +kernel)
theorem dX10_make_156 : decode cX10_make 156 = .ok (.putfield 32, 3) := dc_181 (a := 0) (b := 32) (n := 32) (by decide +kernel)
theorem dX10_make_159 : decode cX10_make 159 = .ok (.iastore, 1) := dc_79 (by decide +kernel)
theorem dX10_make_160 : decode cX10_make 160 = .ok (.return_, 1) := dc_177 (by decide +kernel)
theorem GX10_32 {w : eW} {d : Nat} {Y : eY} {pc : Nat} {ls : eL} {st : List Value} {h : eH} {Q : eO → eH → Prop} {a : Nat} {x : Int32} (hf : g_I 9 h a 6 = some x) (hd : decode Y.2.1 pc = .ok (.getfield 32, 3)) (hY : Y.1.cls = RX10) (kk : wp w d Y (pc + 3) ls (.int x :: st) h Q) : wp w d Y pc ls (.ref a :: st) h Q := x_gI (ci := 9) (k := 6) hf hd rfl (by decide) (by rw [hY]; exact q707) kk
theorem GX10_36 {w : eW} {d : Nat} {Y : eY} {pc : Nat} {ls : eL} {st : List Value} {h : eH} {Q : eO → eH → Prop} {a : Nat} {x : Int32} (hf : g_I 9 h a 5 = some x) (hd : decode Y.2.1 pc = .ok (.getfield 36, 3)) (hY : Y.1.cls = RX10) (kk : wp w d Y (pc + 3) ls (.int x :: st) h Q) : wp w d Y pc ls (.ref a :: st) h Q := x_gI (ci := 9) (k := 5) hf hd rfl (by decide) (by rw [hY]; exact q706) kk
def fX10_make_b84 (l0 : Nat) (l1 : Int32) (h : eH) : Option (Unit × eH) :=
  (g_A 9 h l0 2).bind fun a1 =>
  (g_I 9 h l0 6).bind fun x3 =>
  (g_I 9 h l0 5).bind fun x5 =>
  (q_V 100 h a1 x3 (.int x5)).bind fun h7 =>
  (g_A 9 h7 l0 3).bind fun a9 =>
  (g_I 9 h7 l0 6).bind fun x11 =>
  (g_I 9 h7 l0 8).bind fun x13 =>
  (q_V 100 h7 a9 x11 (.int x13)).bind fun h15 =>
  (g_A 9 h15 l0 7).bind fun a17 =>
  (g_A 9 h15 l0 4).bind fun a19 =>
  (g_I 9 h15 l0 5).bind fun x21 =>
  (g_I 9 h15 l0 8).bind fun x23 =>
  (a_cpy h15 a17 (0 : Int32) a19 x21 x23).bind fun h25 =>
  (g_I 9 h25 l0 5).bind fun x27 =>
  (g_I 9 h25 l0 8).bind fun x29 =>
  (p_V 9 h25 l0 5 (.int (x27 + x29))).bind fun h31 =>
  (g_A 9 h31 l0 1).bind fun a33 =>
  (g_I 9 h31 l0 6).bind fun x35 =>
  (p_V 9 h31 l0 6 (.int (x35 + (1 : Int32)))).bind fun h37 =>
  (q_V 100 h37 a33 l1 (.int x35)).bind fun h39 =>
  some ((), h39)
theorem pX10_make_b84 {w : eW} {d : Nat} (hd : 2 ≤ d + 1) {l0 : Nat} {l1 : Int32} {h : eH} {q} (hf : fX10_make_b84 l0 l1 h = some q) : wp w (d + 1) YX10_make 84 [some (.ref l0), some (.int l1), none] [] h (e_is (e_rn c_V q)) := by
  unfold fX10_make_b84 at hf
  refine w_aload_n dX10_make_84 rfl rfl ?_
  obtain ⟨a1, b2, hf⟩ := Option.bind_eq_some_iff.mp hf
  refine GX10_15 b2 dX10_make_85 rfl ?_
  refine w_aload_n dX10_make_88 rfl rfl ?_
  obtain ⟨x3, b4, hf⟩ := Option.bind_eq_some_iff.mp hf
  refine GX10_32 b4 dX10_make_89 rfl ?_
  refine w_aload_n dX10_make_92 rfl rfl ?_
  obtain ⟨x5, b6, hf⟩ := Option.bind_eq_some_iff.mp hf
  refine GX10_36 b6 dX10_make_93 rfl ?_
  obtain ⟨h7, b8, hf⟩ := Option.bind_eq_some_iff.mp hf
  refine x_qI b8 dX10_make_96 ?_
  refine w_aload_n dX10_make_97 rfl rfl ?_
  obtain ⟨a9, b10, hf⟩ := Option.bind_eq_some_iff.mp hf
  refine GX10_18 b10 dX10_make_98 rfl ?_
  refine w_aload_n dX10_make_101 rfl rfl ?_
  obtain ⟨x11, b12, hf⟩ := Option.bind_eq_some_iff.mp hf
  refine GX10_32 b12 dX10_make_102 rfl ?_
  refine w_aload_n dX10_make_105 rfl rfl ?_
  obtain ⟨x13, b14, hf⟩ := Option.bind_eq_some_iff.mp hf
  refine GX10_39 b14 dX10_make_106 rfl ?_
  obtain ⟨h15, b16, hf⟩ := Option.bind_eq_some_iff.mp hf
  refine x_qI b16 dX10_make_109 ?_
  refine w_aload_n dX10_make_110 rfl rfl ?_
  obtain ⟨a17, b18, hf⟩ := Option.bind_eq_some_iff.mp hf
  refine GX10_25 b18 dX10_make_111 rfl ?_
  refine w_iconst dX10_make_114 (v := 0) (by decide) ?_
  refine w_aload_n dX10_make_115 rfl rfl ?_
  obtain ⟨a19, b20, hf⟩ := Option.bind_eq_some_iff.mp hf
  refine GX10_21 b20 dX10_make_116 rfl ?_
  refine w_aload_n dX10_make_119 rfl rfl ?_
  obtain ⟨x21, b22, hf⟩ := Option.bind_eq_some_iff.mp hf
  refine GX10_36 b22 dX10_make_120 rfl ?_
  refine w_aload_n dX10_make_123 rfl rfl ?_
  obtain ⟨x23, b24, hf⟩ := Option.bind_eq_some_iff.mp hf
  refine GX10_39 b24 dX10_make_124 rfl ?_
  obtain ⟨h25, b26, hf⟩ := Option.bind_eq_some_iff.mp hf
  refine x_cpy b26 dX10_make_127 q2010 q955 q954 q441 (Nat.le_of_ble_eq_true rfl) ?_
  refine w_aload_n dX10_make_130 rfl rfl ?_
  refine w_dup dX10_make_131 rfl ?_
  obtain ⟨x27, b28, hf⟩ := Option.bind_eq_some_iff.mp hf
  refine GX10_36 b28 dX10_make_132 rfl ?_
  refine w_aload_n dX10_make_135 rfl rfl ?_
  obtain ⟨x29, b30, hf⟩ := Option.bind_eq_some_iff.mp hf
  refine GX10_39 b30 dX10_make_136 rfl ?_
  refine w_iadd dX10_make_139 ?_
  obtain ⟨h31, b32, hf⟩ := Option.bind_eq_some_iff.mp hf
  refine SX10_36 b32 dX10_make_140 rfl ?_
  refine w_aload_n dX10_make_143 rfl rfl ?_
  obtain ⟨a33, b34, hf⟩ := Option.bind_eq_some_iff.mp hf
  refine GX10_11 b34 dX10_make_144 rfl ?_
  refine w_iload_n dX10_make_147 rfl rfl ?_
  refine w_aload_n dX10_make_148 rfl rfl ?_
  refine w_dup dX10_make_149 rfl ?_
  obtain ⟨x35, b36, hf⟩ := Option.bind_eq_some_iff.mp hf
  refine GX10_32 b36 dX10_make_150 rfl ?_
  refine w_dup_x1 dX10_make_153 rfl rfl ?_
  refine w_iconst dX10_make_154 (v := 1) (by decide) ?_
  refine w_iadd dX10_make_155 ?_
  obtain ⟨h37, b38, hf⟩ := Option.bind_eq_some_iff.mp hf
  refine SX10_32 b38 dX10_make_156 rfl ?_
  obtain ⟨h39, b40, hf⟩ := Option.bind_eq_some_iff.mp hf
  refine x_qI b40 dX10_make_159 ?_
  cases hf
  exact w_vret dX10_make_160 rfl rfl
def fX10_make (this : Nat) (p0 : Int32) (h : eH) : Option (Unit × eH) :=
  (g_A 9 h this 2).bind fun a1 =>
  (g_I 9 h this 6).bind fun x3 =>
  (fX1_grown a1 (x3 + (1 : Int32)) h).bind fun q5 =>
  (p_V 9 q5.2 this 2 (.ref q5.1)).bind fun h6 =>
  (g_A 9 h6 this 3).bind fun a8 =>
  (g_I 9 h6 this 6).bind fun x10 =>
  (fX1_grown a8 (x10 + (1 : Int32)) h6).bind fun q12 =>
  (p_V 9 q12.2 this 3 (.ref q12.1)).bind fun h13 =>
  (g_I 9 h13 this 5).bind fun x15 =>
  (g_I 9 h13 this 8).bind fun x17 =>
  (g_A 9 h13 this 4).bind fun a19 =>
  (a_len h13 a19).bind fun x21 =>
  if (x15 + x17) ≤ x21 then
    fX10_make_b84 this p0 h13
  else
    (g_I 9 h13 this 5).bind fun x24 =>
    (g_I 9 h13 this 8).bind fun x26 =>
    (n_arr 102 177 (.int 0) h13 ((2 : Int32) * (x24 + x26))).bind fun q28 =>
    (g_A 9 q28.2 this 4).bind fun a30 =>
    (g_I 9 q28.2 this 5).bind fun x32 =>
    (a_cpy q28.2 a30 (0 : Int32) q28.1 (0 : Int32) x32).bind fun h34 =>
    (p_V 9 h34 this 4 (.ref q28.1)).bind fun h36 =>
    fX10_make_b84 this p0 h36
theorem pX10_make {w : eW} {d : Nat} (hd : 2 ≤ d) {this : Nat} {p0 : Int32} {h : eH} {q} (hf : fX10_make this p0 h = some q) : wm w d YX10_make [.ref this, .int p0] h (e_is (e_rn c_V q)) := by
  obtain ⟨d, rfl⟩ : ∃ e, d = e + 1 := ⟨d - 1, by omega⟩
  show wp w (d + 1) YX10_make 0 [some (.ref this), some (.int p0), none] [] h _
  unfold fX10_make at hf
  refine w_aload_n dX10_make_0 rfl rfl ?_
  refine w_aload_n dX10_make_1 rfl rfl ?_
  obtain ⟨a1, b2, hf⟩ := Option.bind_eq_some_iff.mp hf
  refine GX10_15 b2 dX10_make_2 rfl ?_
  refine w_aload_n dX10_make_5 rfl rfl ?_
  obtain ⟨x3, b4, hf⟩ := Option.bind_eq_some_iff.mp hf
  refine GX10_32 b4 dX10_make_6 rfl ?_
  refine w_iconst dX10_make_9 (v := 1) (by decide) ?_
  refine w_iadd dX10_make_10 ?_
  refine x_cnA hf (e_stSN (Yc := YX1_grown) (av := [.ref a1, .int (x3 + (1 : Int32))]) (st := [.ref this]) dX10_make_11 q2009 mX1_grown) mX1_grown.2.2.1 mX1_grown.2.2.2.2.1 (Nat.le_of_ble_eq_true rfl) (Nat.le_of_ble_eq_true rfl) (fun q hq => pX1_grown (by omega) hq) (fun q5 hf => ?_)
  obtain ⟨h6, b7, hf⟩ := Option.bind_eq_some_iff.mp hf
  refine SX10_15 b7 dX10_make_14 rfl ?_
  refine w_aload_n dX10_make_17 rfl rfl ?_
  refine w_aload_n dX10_make_18 rfl rfl ?_
  obtain ⟨a8, b9, hf⟩ := Option.bind_eq_some_iff.mp hf
  refine GX10_18 b9 dX10_make_19 rfl ?_
  refine w_aload_n dX10_make_22 rfl rfl ?_
  obtain ⟨x10, b11, hf⟩ := Option.bind_eq_some_iff.mp hf
  refine GX10_32 b11 dX10_make_23 rfl ?_
  refine w_iconst dX10_make_26 (v := 1) (by decide) ?_
  refine w_iadd dX10_make_27 ?_
  refine x_cnA hf (e_stSN (Yc := YX1_grown) (av := [.ref a8, .int (x10 + (1 : Int32))]) (st := [.ref this]) dX10_make_28 q2009 mX1_grown) mX1_grown.2.2.1 mX1_grown.2.2.2.2.1 (Nat.le_of_ble_eq_true rfl) (Nat.le_of_ble_eq_true rfl) (fun q hq => pX1_grown (by omega) hq) (fun q12 hf => ?_)
  obtain ⟨h13, b14, hf⟩ := Option.bind_eq_some_iff.mp hf
  refine SX10_18 b14 dX10_make_31 rfl ?_
  refine w_aload_n dX10_make_34 rfl rfl ?_
  obtain ⟨x15, b16, hf⟩ := Option.bind_eq_some_iff.mp hf
  refine GX10_36 b16 dX10_make_35 rfl ?_
  refine w_aload_n dX10_make_38 rfl rfl ?_
  obtain ⟨x17, b18, hf⟩ := Option.bind_eq_some_iff.mp hf
  refine GX10_39 b18 dX10_make_39 rfl ?_
  refine w_iadd dX10_make_42 ?_
  refine w_aload_n dX10_make_43 rfl rfl ?_
  obtain ⟨a19, b20, hf⟩ := Option.bind_eq_some_iff.mp hf
  refine GX10_21 b20 dX10_make_44 rfl ?_
  obtain ⟨x21, b22, hf⟩ := Option.bind_eq_some_iff.mp hf
  refine x_len b22 dX10_make_47 ?_
  refine w_icmp_le 84 dX10_make_48 (by decide) (fun c23 => ?_) (fun c23 => ?_)
  · replace hf := (if_pos (show (x15 + x17) ≤ x21 from c23)).symm.trans hf
    exact (pX10_make_b84 hd hf).to ⟨rfl, rfl, trivial⟩
  · replace hf := (if_neg (show ¬ ((x15 + x17) ≤ x21) from c23)).symm.trans hf
    refine w_iconst dX10_make_51 (v := 2) (by decide) ?_
    refine w_aload_n dX10_make_52 rfl rfl ?_
    obtain ⟨x24, b25, hf⟩ := Option.bind_eq_some_iff.mp hf
    refine GX10_36 b25 dX10_make_53 rfl ?_
    refine w_aload_n dX10_make_56 rfl rfl ?_
    obtain ⟨x26, b27, hf⟩ := Option.bind_eq_some_iff.mp hf
    refine GX10_39 b27 dX10_make_57 rfl ?_
    refine w_iadd dX10_make_60 ?_
    refine w_imul dX10_make_61 ?_
    obtain ⟨q28, b29, hf⟩ := Option.bind_eq_some_iff.mp hf
    refine x_newB (g := 177) b29 dX10_make_62 q507 ?_
    refine w_astore_n dX10_make_64 rfl (by decide) (ls' := [some (.ref this), some (.int p0), some (.ref q28.1)]) rfl ?_
    refine w_aload_n dX10_make_65 rfl rfl ?_
    obtain ⟨a30, b31, hf⟩ := Option.bind_eq_some_iff.mp hf
    refine GX10_21 b31 dX10_make_66 rfl ?_
    refine w_iconst dX10_make_69 (v := 0) (by decide) ?_
    refine w_aload_n dX10_make_70 rfl rfl ?_
    refine w_iconst dX10_make_71 (v := 0) (by decide) ?_
    refine w_aload_n dX10_make_72 rfl rfl ?_
    obtain ⟨x32, b33, hf⟩ := Option.bind_eq_some_iff.mp hf
    refine GX10_36 b33 dX10_make_73 rfl ?_
    obtain ⟨h34, b35, hf⟩ := Option.bind_eq_some_iff.mp hf
    refine x_cpy b35 dX10_make_76 q2010 q955 q954 q441 (Nat.le_of_ble_eq_true rfl) ?_
    refine w_aload_n dX10_make_79 rfl rfl ?_
    refine w_aload_n dX10_make_80 rfl rfl ?_
    obtain ⟨h36, b37, hf⟩ := Option.bind_eq_some_iff.mp hf
    refine SX10_21 b37 dX10_make_81 rfl ?_
    exact (pX10_make_b84 hd hf).to ⟨rfl, rfl, trivial⟩
abbrev cX10_enter : ByteArray := prog_17_method_10_code
def yX10_enter : MethodName := ⟨RX10, "enter", "(Ljava/lang/String;)V"⟩
def YX10_enter : eY := (yX10_enter, cX10_enter, 3, none, [])
theorem mX10_enter : e_mv YX10_enter RX10 1 := ⟨q1942, q1943, q1944, by decide, by decide +kernel, (e_sig (by decide +kernel))⟩
theorem dX10_enter_0 : decode cX10_enter 0 = .ok (.aload_n 0, 1) := dc_42 (by decide +kernel)
theorem dX10_enter_1 : decode cX10_enter 1 = .ok (.invokevirtual 70, 3) := dc_182 (a := 0) (b := 70) (n := 70) (by decide +kernel)
theorem dX10_enter_4 : decode cX10_enter 4 = .ok (.iconst 0, 1) := dc_3 (by decide +kernel)
theorem dX10_enter_5 : decode cX10_enter 5 = .ok (.istore_n 2, 1) := dc_61 (by decide +kernel)
theorem dX10_enter_6 : decode cX10_enter 6 = .ok (.iload_n 2, 1) := dc_28 (by decide +kernel)
theorem dX10_enter_7 : decode cX10_enter 7 = .ok (.aload_n 1, 1) := dc_43 (by decide +kernel)
theorem dX10_enter_8 : decode cX10_enter 8 = .ok (.invokevirtual 73, 3) := dc_182 (a := 0) (b := 73) (n := 73) (by decide +kernel)
theorem dX10_enter_11 : decode cX10_enter 11 = .ok (.if_icmp .ge 56, 3) := dc_162 (a := 0) (b := 56) (v := 56) (by decide +kernel)
theorem dX10_enter_14 : decode cX10_enter 14 = .ok (.aload_n 1, 1) := dc_43 (by decide +kernel)
theorem dX10_enter_15 : decode cX10_enter 15 = .ok (.iload_n 2, 1) := dc_28 (by decide +kernel)
theorem dX10_enter_16 : decode cX10_enter 16 = .ok (.invokevirtual 78, 3) := dc_182 (a := 0) (b := 78) (n := 78) (by decide +kernel)
theorem dX10_enter_19 : decode cX10_enter 19 = .ok (.bipush 47, 2) := dc_16 (a := 47) (v := 47) (by decide +kernel)
theorem dX10_enter_21 : decode cX10_enter 21 = .ok (.if_icmp .eq 28, 3) := dc_159 (a := 0) (b := 28) (v := 28) (by decide +kernel)
theorem dX10_enter_24 : decode cX10_enter 24 = .ok (.aload_n 0, 1) := dc_42 (by decide +kernel)
theorem dX10_enter_25 : decode cX10_enter 25 = .ok (.getfield 25, 3) := dc_180 (a := 0) (b := 25) (n := 25) (by decide +kernel)
theorem dX10_enter_28 : decode cX10_enter 28 = .ok (.aload_n 0, 1) := dc_42 (by decide +kernel)
theorem dX10_enter_29 : decode cX10_enter 29 = .ok (.dup, 1) := dc_89 (by decide +kernel)
theorem dX10_enter_30 : decode cX10_enter 30 = .ok (.getfield 39, 3) := dc_180 (a := 0) (b := 39) (n := 39) (by decide +kernel)
theorem dX10_enter_33 : decode cX10_enter 33 = .ok (.dup_x1, 1) := dc_90 (by decide +kernel)
theorem dX10_enter_34 : decode cX10_enter 34 = .ok (.iconst 1, 1) := dc_4 (by decide +kernel)
theorem dX10_enter_35 : decode cX10_enter 35 = .ok (.iadd, 1) := dc_96 (by decide +kernel)
theorem dX10_enter_36 : decode cX10_enter 36 = .ok (.putfield 39, 3) := dc_181 (a := 0) (b := 39) (n := 39) (by decide +kernel)
theorem dX10_enter_39 : decode cX10_enter 39 = .ok (.aload_n 1, 1) := dc_43 (by decide +kernel)
theorem dX10_enter_40 : decode cX10_enter 40 = .ok (.iload_n 2, 1) := dc_28 (by decide +kernel)
theorem dX10_enter_41 : decode cX10_enter 41 = .ok (.invokevirtual 78, 3) := dc_182 (a := 0) (b := 78) (n := 78) (by decide +kernel)
theorem dX10_enter_44 : decode cX10_enter 44 = .ok (.i2b, 1) := dc_145 (by decide +kernel)
theorem dX10_enter_45 : decode cX10_enter 45 = .ok (.bastore, 1) := dc_84 (by decide +kernel)
theorem dX10_enter_46 : decode cX10_enter 46 = .ok (.goto 15, 3) := dc_167 (a := 0) (b := 15) (v := 15) (by decide +kernel)
theorem dX10_enter_49 : decode cX10_enter 49 = .ok (.aload_n 0, 1) := dc_42 (by decide +kernel)
theorem dX10_enter_50 : decode cX10_enter 50 = .ok (.aload_n 0, 1) := dc_42 (by decide +kernel)
theorem dX10_enter_51 : decode cX10_enter 51 = .ok (.invokevirtual 62, 3) := dc_182 (a := 0) (b := 62) (n := 62) (by decide +kernel)
theorem dX10_enter_54 : decode cX10_enter 54 = .ok (.invokevirtual 66, 3) := dc_182 (a := 0) (b := 66) (n := 66) (by decide +kernel)
theorem dX10_enter_57 : decode cX10_enter 57 = .ok (.aload_n 0, 1) := dc_42 (by decide +kernel)
theorem dX10_enter_58 : decode cX10_enter 58 = .ok (.invokevirtual 70, 3) := dc_182 (a := 0) (b := 70) (n := 70) (by decide +kernel)
theorem dX10_enter_61 : decode cX10_enter 61 = .ok (.iinc 2 1, 3) := dc_132 (a := 2) (b := 1) (v := 1) (by decide +kernel)
theorem dX10_enter_64 : decode cX10_enter 64 = .ok (.goto (-58), 3) := dc_167 (a := 255) (b := 198) (v := -58) (by decide +kernel)
theorem dX10_enter_67 : decode cX10_enter 67 = .ok (.return_, 1) := dc_177 (by decide +kernel)
def fX10_enter_b61 (N : Nat) (k6 : Nat → Nat → Int32 → eH → Option (Unit × eH)) (l0 : Nat) (l1 : Nat) (l2 : Int32) (h : eH) : Option (Unit × eH) :=
  k6 l0 l1 (l2 + (1 : Int32)) h
theorem pX10_enter_b61 {w : eW} {d : Nat} (hd : 4 ≤ d + 1) {N : Nat} {k6 : Nat → Nat → Int32 → eH → Option (Unit × eH)} (hk6 : ∀ l0 l1 l2 h q, k6 l0 l1 l2 h = some q → wp w (d + 1) YX10_enter 6 [some (.ref l0), some (.ref l1), some (.int l2)] [] h (e_is (e_rn c_V q))) {l0 : Nat} {l1 : Nat} {l2 : Int32} {h : eH} {q} (hf : fX10_enter_b61 N k6 l0 l1 l2 h = some q) : wp w (d + 1) YX10_enter 61 [some (.ref l0), some (.ref l1), some (.int l2)] [] h (e_is (e_rn c_V q)) := by
  unfold fX10_enter_b61 at hf
  refine w_iinc dX10_enter_61 (v := (l2 + (1 : Int32))) rfl rfl (by decide) (ls' := [some (.ref l0), some (.ref l1), some (.int (l2 + (1 : Int32)))]) rfl ?_
  refine w_goto 6 dX10_enter_64 (by decide) ?_
  exact (hk6 _ _ _ _ _ hf).to ⟨rfl, rfl, rfl, trivial⟩
def fX10_enter_b6 (N : Nat) : Nat → Nat → Nat → Int32 → eH → Option (Unit × eH)
  | 0, _, _, _, _ => none
  | n + 1, l0, l1, l2, h =>
    (s_ok l1).bind fun _ =>
    (fJ1_length l1 h).bind fun q2 =>
    if q2.1 ≤ l2 then
      some ((), q2.2)
    else
      (s_ok l1).bind fun _ =>
      (fJ1_charAt l1 l2 q2.2).bind fun q5 =>
      if q5.1 = (47 : Int32) then
        (k_ok 9 q5.2 l0).bind fun _ =>
        (fX10_seek N l0 q5.2).bind fun q8 =>
        (k_ok 9 q8.2 l0).bind fun _ =>
        (fX10_make l0 q8.1 q8.2).bind fun q10 =>
        (k_ok 9 q10.2 l0).bind fun _ =>
        (fX10_open l0 q10.2).bind fun q12 =>
        fX10_enter_b61 N (fX10_enter_b6 N n) l0 l1 l2 q12.2
      else
        (g_A 9 q5.2 l0 7).bind fun a13 =>
        (g_I 9 q5.2 l0 8).bind fun x15 =>
        (p_V 9 q5.2 l0 8 (.int (x15 + (1 : Int32)))).bind fun h17 =>
        (s_ok l1).bind fun _ =>
        (fJ1_charAt l1 l2 h17).bind fun q20 =>
        (q_V 102 q20.2 a13 x15 (.int ((q20.1).toInt8.toInt32).toInt8.toInt32)).bind fun h21 =>
        fX10_enter_b61 N (fX10_enter_b6 N n) l0 l1 l2 h21
theorem pX10_enter_b6 {w : eW} {d : Nat} (hd : 4 ≤ d + 1) {N : Nat} : ∀ (n : Nat) l0 l1 l2 h q, fX10_enter_b6 N n l0 l1 l2 h = some q → wp w (d + 1) YX10_enter 6 [some (.ref l0), some (.ref l1), some (.int l2)] [] h (e_is (e_rn c_V q)) := by
  intro n
  induction n with
  | zero => intro l0 l1 l2 h q hf; simp [fX10_enter_b6] at hf
  | succ n ih =>
    intro l0 l1 l2 h q hf
    rw [fX10_enter_b6] at hf
    refine w_iload_n dX10_enter_6 rfl rfl ?_
    refine w_aload_n dX10_enter_7 rfl rfl ?_
    obtain ⟨_, b1, hf⟩ := Option.bind_eq_some_iff.mp hf
    refine x_cnI hf (e_stVO (Yc := YJ1_length) (av := []) (st := [.int l2]) dX10_enter_8 q1949 mJ1_length b1) mJ1_length.2.2.1 mJ1_length.2.2.2.2.1 (Nat.le_of_ble_eq_true rfl) (Nat.le_of_ble_eq_true rfl) (fun q hq => pJ1_length (by omega) hq) (fun q2 hf => ?_)
    refine w_icmp_ge 67 dX10_enter_11 (by decide) (fun c3 => ?_) (fun c3 => ?_)
    · replace hf := (if_pos (show q2.1 ≤ l2 from c3)).symm.trans hf
      cases hf
      exact w_vret dX10_enter_67 rfl rfl
    · replace hf := (if_neg (show ¬ (q2.1 ≤ l2) from c3)).symm.trans hf
      refine w_aload_n dX10_enter_14 rfl rfl ?_
      refine w_iload_n dX10_enter_15 rfl rfl ?_
      obtain ⟨_, b4, hf⟩ := Option.bind_eq_some_iff.mp hf
      refine x_cnI hf (e_stVO (Yc := YJ1_charAt) (av := [.int l2]) (st := []) dX10_enter_16 q1959 mJ1_charAt b4) mJ1_charAt.2.2.1 mJ1_charAt.2.2.2.2.1 (Nat.le_of_ble_eq_true rfl) (Nat.le_of_ble_eq_true rfl) (fun q hq => pJ1_charAt (by omega) hq) (fun q5 hf => ?_)
      refine w_bipush dX10_enter_19 (v := 47) (by decide) ?_
      refine w_icmp_eq 49 dX10_enter_21 (by decide) (fun c6 => ?_) (fun c6 => ?_)
      · replace hf := (if_pos (show q5.1 = (47 : Int32) from c6)).symm.trans hf
        refine w_aload_n dX10_enter_49 rfl rfl ?_
        refine w_aload_n dX10_enter_50 rfl rfl ?_
        obtain ⟨_, b7, hf⟩ := Option.bind_eq_some_iff.mp hf
        refine x_cnI hf (e_stV (Yc := YX10_seek) (ci := 9) (av := []) (st := [.ref l0]) dX10_enter_51 q1997 mX10_seek rfl (k_ok_some b7).1 (k_ok_some b7).2) mX10_seek.2.2.1 mX10_seek.2.2.2.2.1 (Nat.le_of_ble_eq_true rfl) (Nat.le_of_ble_eq_true rfl) (fun q hq => pX10_seek (by omega) hq) (fun q8 hf => ?_)
        obtain ⟨_, b9, hf⟩ := Option.bind_eq_some_iff.mp hf
        refine x_cnV hf (e_stV (Yc := YX10_make) (ci := 9) (av := [.int q8.1]) (st := []) dX10_enter_54 q2005 mX10_make rfl (k_ok_some b9).1 (k_ok_some b9).2) mX10_make.2.2.1 mX10_make.2.2.2.2.1 (Nat.le_of_ble_eq_true rfl) (Nat.le_of_ble_eq_true rfl) (fun q hq => pX10_make (by omega) hq) (fun q10 hf => ?_)
        refine w_aload_n dX10_enter_57 rfl rfl ?_
        obtain ⟨_, b11, hf⟩ := Option.bind_eq_some_iff.mp hf
        refine x_cnV hf (e_stV (Yc := YX10_open) (ci := 9) (av := []) (st := []) dX10_enter_58 q1945 mX10_open rfl (k_ok_some b11).1 (k_ok_some b11).2) mX10_open.2.2.1 mX10_open.2.2.2.2.1 (Nat.le_of_ble_eq_true rfl) (Nat.le_of_ble_eq_true rfl) (fun q hq => pX10_open (by omega) hq) (fun q12 hf => ?_)
        exact (pX10_enter_b61 hd ih hf).to ⟨rfl, rfl, rfl, trivial⟩
      · replace hf := (if_neg (show ¬ (q5.1 = (47 : Int32)) from c6)).symm.trans hf
        refine w_aload_n dX10_enter_24 rfl rfl ?_
        obtain ⟨a13, b14, hf⟩ := Option.bind_eq_some_iff.mp hf
        refine GX10_25 b14 dX10_enter_25 rfl ?_
        refine w_aload_n dX10_enter_28 rfl rfl ?_
        refine w_dup dX10_enter_29 rfl ?_
        obtain ⟨x15, b16, hf⟩ := Option.bind_eq_some_iff.mp hf
        refine GX10_39 b16 dX10_enter_30 rfl ?_
        refine w_dup_x1 dX10_enter_33 rfl rfl ?_
        refine w_iconst dX10_enter_34 (v := 1) (by decide) ?_
        refine w_iadd dX10_enter_35 ?_
        obtain ⟨h17, b18, hf⟩ := Option.bind_eq_some_iff.mp hf
        refine SX10_39 b18 dX10_enter_36 rfl ?_
        refine w_aload_n dX10_enter_39 rfl rfl ?_
        refine w_iload_n dX10_enter_40 rfl rfl ?_
        obtain ⟨_, b19, hf⟩ := Option.bind_eq_some_iff.mp hf
        refine x_cnI hf (e_stVO (Yc := YJ1_charAt) (av := [.int l2]) (st := [.int x15, .ref a13]) dX10_enter_41 q1959 mJ1_charAt b19) mJ1_charAt.2.2.1 mJ1_charAt.2.2.2.2.1 (Nat.le_of_ble_eq_true rfl) (Nat.le_of_ble_eq_true rfl) (fun q hq => pJ1_charAt (by omega) hq) (fun q20 hf => ?_)
        refine w_i2b dX10_enter_44 ?_
        obtain ⟨h21, b22, hf⟩ := Option.bind_eq_some_iff.mp hf
        refine x_qB b22 dX10_enter_45 ?_
        refine w_goto 61 dX10_enter_46 (by decide) ?_
        exact (pX10_enter_b61 hd ih hf).to ⟨rfl, rfl, rfl, trivial⟩
def fX10_enter (N : Nat) (this : Nat) (p0 : Nat) (h : eH) : Option (Unit × eH) :=
  (k_ok 9 h this).bind fun _ =>
  (fX10_open this h).bind fun q2 =>
  fX10_enter_b6 N N this p0 (0 : Int32) q2.2
theorem pX10_enter {w : eW} {d : Nat} (hd : 4 ≤ d) {N : Nat} {this : Nat} {p0 : Nat} {h : eH} {q} (hf : fX10_enter N this p0 h = some q) : wm w d YX10_enter [.ref this, .ref p0] h (e_is (e_rn c_V q)) := by
  obtain ⟨d, rfl⟩ : ∃ e, d = e + 1 := ⟨d - 1, by omega⟩
  show wp w (d + 1) YX10_enter 0 [some (.ref this), some (.ref p0), none] [] h _
  unfold fX10_enter at hf
  refine w_aload_n dX10_enter_0 rfl rfl ?_
  obtain ⟨_, b1, hf⟩ := Option.bind_eq_some_iff.mp hf
  refine x_cnV hf (e_stV (Yc := YX10_open) (ci := 9) (av := []) (st := []) dX10_enter_1 q1945 mX10_open rfl (k_ok_some b1).1 (k_ok_some b1).2) mX10_open.2.2.1 mX10_open.2.2.2.2.1 (Nat.le_of_ble_eq_true rfl) (Nat.le_of_ble_eq_true rfl) (fun q hq => pX10_open (by omega) hq) (fun q2 hf => ?_)
  refine w_iconst dX10_enter_4 (v := 0) (by decide) ?_
  refine w_istore_n dX10_enter_5 rfl (by decide) (ls' := [some (.ref this), some (.ref p0), some (.int (0 : Int32))]) rfl ?_
  exact (pX10_enter_b6 hd N _ _ _ _ _ hf).to ⟨rfl, rfl, rfl, trivial⟩
abbrev cX9_isOf : ByteArray := prog_28_method_5_code
def yX9_isOf : MethodName := ⟨RX9, "isOf", "(II)Z"⟩
def YX9_isOf : eY := (yX9_isOf, cX9_isOf, 3, (Option.some FieldType.boolean), [])
theorem mX9_isOf : e_mv YX9_isOf RX9 2 := ⟨q2025, qs12, q2026, by decide, by decide +kernel, (e_sig (by decide +kernel))⟩
theorem dX9_isOf_0 : decode cX9_isOf 0 = .ok (.aload_n 0, 1) := dc_42 (by decide +kernel)
theorem dX9_isOf_1 : decode cX9_isOf 1 = .ok (.getfield 27, 3) := dc_180 (a := 0) (b := 27) (n := 27) (by decide +kernel)
theorem dX9_isOf_4 : decode cX9_isOf 4 = .ok (.iconst 2, 1) := dc_5 (by decide +kernel)
theorem dX9_isOf_5 : decode cX9_isOf 5 = .ok (.iload_n 1, 1) := dc_27 (by decide +kernel)
theorem dX9_isOf_6 : decode cX9_isOf 6 = .ok (.imul, 1) := dc_104 (by decide +kernel)
theorem dX9_isOf_7 : decode cX9_isOf 7 = .ok (.iaload, 1) := dc_46 (by decide +kernel)
theorem dX9_isOf_8 : decode cX9_isOf 8 = .ok (.bipush 10, 2) := dc_16 (a := 10) (v := 10) (by decide +kernel)
theorem dX9_isOf_10 : decode cX9_isOf 10 = .ok (.ishr, 1) := dc_122 (by decide +kernel)
theorem dX9_isOf_11 : decode cX9_isOf 11 = .ok (.sipush 2200, 3) := dc_17 (a := 8) (b := 152) (v := 2200) (by decide +kernel)
theorem dX9_isOf_14 : decode cX9_isOf 14 = .ok (.isub, 1) := dc_100 (by decide +kernel)
theorem dX9_isOf_15 : decode cX9_isOf 15 = .ok (.iload_n 2, 1) := dc_28 (by decide +kernel)
theorem dX9_isOf_16 : decode cX9_isOf 16 = .ok (.if_icmp .ne 7, 3) := dc_160 (a := 0) (b := 7) (v := 7) (by decide +kernel)
theorem dX9_isOf_19 : decode cX9_isOf 19 = .ok (.iconst 1, 1) := dc_4 (by decide +kernel)
theorem dX9_isOf_20 : decode cX9_isOf 20 = .ok (.goto 4, 3) := dc_167 (a := 0) (b := 4) (v := 4) (by decide +kernel)
theorem dX9_isOf_23 : decode cX9_isOf 23 = .ok (.iconst 0, 1) := dc_3 (by decide +kernel)
theorem dX9_isOf_24 : decode cX9_isOf 24 = .ok (.ireturn, 1) := dc_172 (by decide +kernel)
theorem GX9_27 {w : eW} {d : Nat} {Y : eY} {pc : Nat} {ls : eL} {st : List Value} {h : eH} {Q : eO → eH → Prop} {a : Nat} {x : Nat} (hf : g_A 8 h a 5 = some x) (hd : decode Y.2.1 pc = .ok (.getfield 27, 3)) (hY : Y.1.cls = RX9) (kk : wp w d Y (pc + 3) ls (.ref x :: st) h Q) : wp w d Y pc ls (.ref a :: st) h Q := x_gA (ci := 8) (k := 5) hf hd rfl (by decide) (by rw [hY]; exact q660) kk
def fX9_isOf_b24 (s0 : Int32) (h : eH) : Option (Int32 × eH) :=
  z_r s0 (s0, h)
theorem pX9_isOf_b24 {w : eW} {d : Nat} (hd : 0 ≤ d) {s0 : Int32} {h : eH} {q} (hf : fX9_isOf_b24 s0 h = some q) : wp w d YX9_isOf 24 [none, none, none] [.int s0] h (e_is (e_rn c_I q)) := by
  unfold fX9_isOf_b24 at hf
  obtain ⟨b1, rfl⟩ := z_r_some hf
  exact w_iret dX9_isOf_24 rfl b1 rfl
def fX9_isOf (this : Nat) (p0 : Int32) (p1 : Int32) (h : eH) : Option (Int32 × eH) :=
  (g_A 8 h this 5).bind fun a1 =>
  (r_I 100 h a1 ((2 : Int32) * p0)).bind fun x3 =>
  if ¬ ((x3 >>> ((10 : Int32) &&& 31)) - (2200 : Int32)) = p1 then
    fX9_isOf_b24 (0 : Int32) h
  else
    fX9_isOf_b24 (1 : Int32) h
theorem pX9_isOf {w : eW} {d : Nat} (hd : 0 ≤ d) {this : Nat} {p0 : Int32} {p1 : Int32} {h : eH} {q} (hf : fX9_isOf this p0 p1 h = some q) : wm w d YX9_isOf [.ref this, .int p0, .int p1] h (e_is (e_rn c_I q)) := by
  show wp w d YX9_isOf 0 [some (.ref this), some (.int p0), some (.int p1)] [] h _
  unfold fX9_isOf at hf
  refine w_aload_n dX9_isOf_0 rfl rfl ?_
  obtain ⟨a1, b2, hf⟩ := Option.bind_eq_some_iff.mp hf
  refine GX9_27 b2 dX9_isOf_1 rfl ?_
  refine w_iconst dX9_isOf_4 (v := 2) (by decide) ?_
  refine w_iload_n dX9_isOf_5 rfl rfl ?_
  refine w_imul dX9_isOf_6 ?_
  obtain ⟨x3, b4, hf⟩ := Option.bind_eq_some_iff.mp hf
  refine x_rI b4 dX9_isOf_7 ?_
  refine w_bipush dX9_isOf_8 (v := 10) (by decide) ?_
  refine w_ishr dX9_isOf_10 ?_
  refine w_sipush dX9_isOf_11 (v := 2200) (by decide) ?_
  refine w_isub dX9_isOf_14 ?_
  refine w_iload_n dX9_isOf_15 rfl rfl ?_
  refine w_icmp_ne 23 dX9_isOf_16 (by decide) (fun c5 => ?_) (fun c5 => ?_)
  · replace hf := (if_pos (show ¬ ((x3 >>> ((10 : Int32) &&& 31)) - (2200 : Int32)) = p1 from c5)).symm.trans hf
    refine w_iconst dX9_isOf_23 (v := 0) (by decide) ?_
    exact (pX9_isOf_b24 hd hf).to trivial
  · replace hf := (if_neg (show ¬ (¬ ((x3 >>> ((10 : Int32) &&& 31)) - (2200 : Int32)) = p1) from (fun z => z c5))).symm.trans hf
    refine w_iconst dX9_isOf_19 (v := 1) (by decide) ?_
    refine w_goto 24 dX9_isOf_20 (by decide) ?_
    exact (pX9_isOf_b24 hd hf).to trivial
abbrev cX9_place : ByteArray := prog_28_method_6_code
def yX9_place : MethodName := ⟨RX9, "place", "(II)I"⟩
def YX9_place : eY := (yX9_place, cX9_place, 4, (Option.some FieldType.int), [])
theorem mX9_place : e_mv YX9_place RX9 2 := ⟨q2021, qs11, q2022, by decide, by decide +kernel, (e_sig (by decide +kernel))⟩
theorem dX9_place_0 : decode cX9_place 0 = .ok (.iload_n 2, 1) := dc_28 (by decide +kernel)
theorem dX9_place_1 : decode cX9_place 1 = .ok (.aload_n 0, 1) := dc_42 (by decide +kernel)
theorem dX9_place_2 : decode cX9_place 2 = .ok (.getfield 39, 3) := dc_180 (a := 0) (b := 39) (n := 39) (by decide +kernel)
theorem dX9_place_5 : decode cX9_place 5 = .ok (.aload_n 0, 1) := dc_42 (by decide +kernel)
theorem dX9_place_6 : decode cX9_place 6 = .ok (.getfield 58, 3) := dc_180 (a := 0) (b := 58) (n := 58) (by decide +kernel)
theorem dX9_place_9 : decode cX9_place 9 = .ok (.iconst 1, 1) := dc_4 (by decide +kernel)
theorem dX9_place_10 : decode cX9_place 10 = .ok (.isub, 1) := dc_100 (by decide +kernel)
theorem dX9_place_11 : decode cX9_place 11 = .ok (.iaload, 1) := dc_46 (by decide +kernel)
theorem dX9_place_12 : decode cX9_place 12 = .ok (.if_icmp .lt 22, 3) := dc_161 (a := 0) (b := 22) (v := 22) (by decide +kernel)
theorem dX9_place_15 : decode cX9_place 15 = .ok (.iload_n 2, 1) := dc_28 (by decide +kernel)
theorem dX9_place_16 : decode cX9_place 16 = .ok (.aload_n 0, 1) := dc_42 (by decide +kernel)
theorem dX9_place_17 : decode cX9_place 17 = .ok (.getfield 54, 3) := dc_180 (a := 0) (b := 54) (n := 54) (by decide +kernel)
theorem dX9_place_20 : decode cX9_place 20 = .ok (.if_icmp .ge 14, 3) := dc_162 (a := 0) (b := 14) (v := 14) (by decide +kernel)
theorem dX9_place_23 : decode cX9_place 23 = .ok (.aload_n 0, 1) := dc_42 (by decide +kernel)
theorem dX9_place_24 : decode cX9_place 24 = .ok (.iload_n 2, 1) := dc_28 (by decide +kernel)
theorem dX9_place_25 : decode cX9_place 25 = .ok (.iload_n 1, 1) := dc_27 (by decide +kernel)
theorem dX9_place_26 : decode cX9_place 26 = .ok (.invokevirtual 68, 3) := dc_182 (a := 0) (b := 68) (n := 68) (by decide +kernel)
theorem dX9_place_29 : decode cX9_place 29 = .ok (.ifCond .eq 5, 3) := dc_153 (a := 0) (b := 5) (v := 5) (by decide +kernel)
theorem dX9_place_32 : decode cX9_place 32 = .ok (.iload_n 2, 1) := dc_28 (by decide +kernel)
theorem dX9_place_33 : decode cX9_place 33 = .ok (.ireturn, 1) := dc_172 (by decide +kernel)
theorem dX9_place_34 : decode cX9_place 34 = .ok (.aload_n 0, 1) := dc_42 (by decide +kernel)
theorem dX9_place_35 : decode cX9_place 35 = .ok (.getfield 39, 3) := dc_180 (a := 0) (b := 39) (n := 39) (by decide +kernel)
theorem dX9_place_38 : decode cX9_place 38 = .ok (.aload_n 0, 1) := dc_42 (by decide +kernel)
theorem dX9_place_39 : decode cX9_place 39 = .ok (.getfield 58, 3) := dc_180 (a := 0) (b := 58) (n := 58) (by decide +kernel)
theorem dX9_place_42 : decode cX9_place 42 = .ok (.iconst 1, 1) := dc_4 (by decide +kernel)
theorem dX9_place_43 : decode cX9_place 43 = .ok (.isub, 1) := dc_100 (by decide +kernel)
theorem dX9_place_44 : decode cX9_place 44 = .ok (.iaload, 1) := dc_46 (by decide +kernel)
theorem dX9_place_45 : decode cX9_place 45 = .ok (.istore_n 3, 1) := dc_62 (by decide +kernel)
theorem dX9_place_46 : decode cX9_place 46 = .ok (.iload_n 3, 1) := dc_29 (by decide +kernel)
theorem dX9_place_47 : decode cX9_place 47 = .ok (.aload_n 0, 1) := dc_42 (by decide +kernel)
theorem dX9_place_48 : decode cX9_place 48 = .ok (.getfield 54, 3) := dc_180 (a := 0) (b := 54) (n := 54) (by decide +kernel)
theorem dX9_place_51 : decode cX9_place 51 = .ok (.if_icmp .ge 18, 3) := dc_162 (a := 0) (b := 18) (v := 18) (by decide +kernel)
theorem dX9_place_54 : decode cX9_place 54 = .ok (.aload_n 0, 1) := dc_42 (by decide +kernel)
theorem dX9_place_55 : decode cX9_place 55 = .ok (.iload_n 3, 1) := dc_29 (by decide +kernel)
theorem dX9_place_56 : decode cX9_place 56 = .ok (.iload_n 1, 1) := dc_27 (by decide +kernel)
theorem dX9_place_57 : decode cX9_place 57 = .ok (.invokevirtual 68, 3) := dc_182 (a := 0) (b := 68) (n := 68) (by decide +kernel)
theorem dX9_place_60 : decode cX9_place 60 = .ok (.ifCond .ne 9, 3) := dc_154 (a := 0) (b := 9) (v := 9) (by decide +kernel)
theorem dX9_place_63 : decode cX9_place 63 = .ok (.iinc 3 1, 3) := dc_132 (a := 3) (b := 1) (v := 1) (by decide +kernel)
theorem dX9_place_66 : decode cX9_place 66 = .ok (.goto (-20), 3) := dc_167 (a := 255) (b := 236) (v := -20) (by decide +kernel)
theorem dX9_place_69 : decode cX9_place 69 = .ok (.iload_n 3, 1) := dc_29 (by decide +kernel)
theorem dX9_place_70 : decode cX9_place 70 = .ok (.ireturn, 1) := dc_172 (by decide +kernel)
theorem GX9_39 {w : eW} {d : Nat} {Y : eY} {pc : Nat} {ls : eL} {st : List Value} {h : eH} {Q : eO → eH → Prop} {a : Nat} {x : Nat} (hf : g_A 8 h a 10 = some x) (hd : decode Y.2.1 pc = .ok (.getfield 39, 3)) (hY : Y.1.cls = RX9) (kk : wp w d Y (pc + 3) ls (.ref x :: st) h Q) : wp w d Y pc ls (.ref a :: st) h Q := x_gA (ci := 8) (k := 10) hf hd rfl (by decide) (by rw [hY]; exact q666) kk
theorem GX9_54 {w : eW} {d : Nat} {Y : eY} {pc : Nat} {ls : eL} {st : List Value} {h : eH} {Q : eO → eH → Prop} {a : Nat} {x : Int32} (hf : g_I 8 h a 6 = some x) (hd : decode Y.2.1 pc = .ok (.getfield 54, 3)) (hY : Y.1.cls = RX9) (kk : wp w d Y (pc + 3) ls (.int x :: st) h Q) : wp w d Y pc ls (.ref a :: st) h Q := x_gI (ci := 8) (k := 6) hf hd rfl (by decide) (by rw [hY]; exact q661) kk
theorem GX9_58 {w : eW} {d : Nat} {Y : eY} {pc : Nat} {ls : eL} {st : List Value} {h : eH} {Q : eO → eH → Prop} {a : Nat} {x : Int32} (hf : g_I 8 h a 11 = some x) (hd : decode Y.2.1 pc = .ok (.getfield 58, 3)) (hY : Y.1.cls = RX9) (kk : wp w d Y (pc + 3) ls (.int x :: st) h Q) : wp w d Y pc ls (.ref a :: st) h Q := x_gI (ci := 8) (k := 11) hf hd rfl (by decide) (by rw [hY]; exact q667) kk
def fX9_place_b69 (N : Nat) (l3 : Int32) (h : eH) : Option (Int32 × eH) :=
  some (l3, h)
theorem pX9_place_b69 {w : eW} {d : Nat} (hd : 1 ≤ d + 1) {N : Nat} {l3 : Int32} {h : eH} {q} (hf : fX9_place_b69 N l3 h = some q) : wp w (d + 1) YX9_place 69 [none, none, none, some (.int l3)] [] h (e_is (e_rn c_I q)) := by
  unfold fX9_place_b69 at hf
  refine w_iload_n dX9_place_69 rfl rfl ?_
  cases hf
  exact w_iret dX9_place_70 rfl rfl rfl
def fX9_place_b46 (N : Nat) : Nat → Nat → Int32 → Int32 → eH → Option (Int32 × eH)
  | 0, _, _, _, _ => none
  | n + 1, l0, l1, l3, h =>
    (g_I 8 h l0 6).bind fun x1 =>
    if x1 ≤ l3 then
      fX9_place_b69 N l3 h
    else
      (k_ok 8 h l0).bind fun _ =>
      (fX9_isOf l0 l3 l1 h).bind fun q5 =>
      if ¬ q5.1 = 0 then
        fX9_place_b69 N l3 q5.2
      else
        fX9_place_b46 N n l0 l1 (l3 + (1 : Int32)) q5.2
theorem pX9_place_b46 {w : eW} {d : Nat} (hd : 1 ≤ d + 1) {N : Nat} : ∀ (n : Nat) l0 l1 l3 h q, fX9_place_b46 N n l0 l1 l3 h = some q → wp w (d + 1) YX9_place 46 [some (.ref l0), some (.int l1), none, some (.int l3)] [] h (e_is (e_rn c_I q)) := by
  intro n
  induction n with
  | zero => intro l0 l1 l3 h q hf; simp [fX9_place_b46] at hf
  | succ n ih =>
    intro l0 l1 l3 h q hf
    rw [fX9_place_b46] at hf
    refine w_iload_n dX9_place_46 rfl rfl ?_
    refine w_aload_n dX9_place_47 rfl rfl ?_
    obtain ⟨x1, b2, hf⟩ := Option.bind_eq_some_iff.mp hf
    refine GX9_54 b2 dX9_place_48 rfl ?_
    refine w_icmp_ge 69 dX9_place_51 (by decide) (fun c3 => ?_) (fun c3 => ?_)
    · replace hf := (if_pos (show x1 ≤ l3 from c3)).symm.trans hf
      exact (pX9_place_b69 hd hf).to ⟨rfl, trivial⟩
    · replace hf := (if_neg (show ¬ (x1 ≤ l3) from c3)).symm.trans hf
      refine w_aload_n dX9_place_54 rfl rfl ?_
      refine w_iload_n dX9_place_55 rfl rfl ?_
      refine w_iload_n dX9_place_56 rfl rfl ?_
      obtain ⟨_, b4, hf⟩ := Option.bind_eq_some_iff.mp hf
      refine x_cnI hf (e_stV (Yc := YX9_isOf) (ci := 8) (av := [.int l3, .int l1]) (st := []) dX9_place_57 q2023 mX9_isOf rfl (k_ok_some b4).1 (k_ok_some b4).2) mX9_isOf.2.2.1 mX9_isOf.2.2.2.2.1 (Nat.le_of_ble_eq_true rfl) (Nat.le_of_ble_eq_true rfl) (fun q hq => pX9_isOf (by omega) hq) (fun q5 hf => ?_)
      refine w_if_ne 69 dX9_place_60 (by decide) (fun c6 => ?_) (fun c6 => ?_)
      · replace hf := (if_pos (show ¬ q5.1 = 0 from c6)).symm.trans hf
        exact (pX9_place_b69 hd hf).to ⟨rfl, trivial⟩
      · replace hf := (if_neg (show ¬ (¬ q5.1 = 0) from (fun z => z c6))).symm.trans hf
        refine w_iinc dX9_place_63 (v := (l3 + (1 : Int32))) rfl rfl (by decide) (ls' := [some (.ref l0), some (.int l1), none, some (.int (l3 + (1 : Int32)))]) rfl ?_
        refine w_goto 46 dX9_place_66 (by decide) ?_
        exact (ih _ _ _ _ _ hf).to ⟨rfl, rfl, rfl, trivial⟩
def fX9_place_b34 (N : Nat) (l0 : Nat) (l1 : Int32) (h : eH) : Option (Int32 × eH) :=
  (g_A 8 h l0 10).bind fun a1 =>
  (g_I 8 h l0 11).bind fun x3 =>
  (r_I 100 h a1 (x3 - (1 : Int32))).bind fun x5 =>
  fX9_place_b46 N N l0 l1 x5 h
theorem pX9_place_b34 {w : eW} {d : Nat} (hd : 1 ≤ d + 1) {N : Nat} {l0 : Nat} {l1 : Int32} {h : eH} {q} (hf : fX9_place_b34 N l0 l1 h = some q) : wp w (d + 1) YX9_place 34 [some (.ref l0), some (.int l1), none, none] [] h (e_is (e_rn c_I q)) := by
  unfold fX9_place_b34 at hf
  refine w_aload_n dX9_place_34 rfl rfl ?_
  obtain ⟨a1, b2, hf⟩ := Option.bind_eq_some_iff.mp hf
  refine GX9_39 b2 dX9_place_35 rfl ?_
  refine w_aload_n dX9_place_38 rfl rfl ?_
  obtain ⟨x3, b4, hf⟩ := Option.bind_eq_some_iff.mp hf
  refine GX9_58 b4 dX9_place_39 rfl ?_
  refine w_iconst dX9_place_42 (v := 1) (by decide) ?_
  refine w_isub dX9_place_43 ?_
  obtain ⟨x5, b6, hf⟩ := Option.bind_eq_some_iff.mp hf
  refine x_rI b6 dX9_place_44 ?_
  refine w_istore_n dX9_place_45 rfl (by decide) (ls' := [some (.ref l0), some (.int l1), none, some (.int x5)]) rfl ?_
  exact (pX9_place_b46 hd N _ _ _ _ _ hf).to ⟨rfl, rfl, rfl, trivial⟩
def fX9_place (N : Nat) (this : Nat) (p0 : Int32) (p1 : Int32) (h : eH) : Option (Int32 × eH) :=
  (g_A 8 h this 10).bind fun a1 =>
  (g_I 8 h this 11).bind fun x3 =>
  (r_I 100 h a1 (x3 - (1 : Int32))).bind fun x5 =>
  if p1 < x5 then
    fX9_place_b34 N this p0 h
  else
    (g_I 8 h this 6).bind fun x8 =>
    if x8 ≤ p1 then
      fX9_place_b34 N this p0 h
    else
      (k_ok 8 h this).bind fun _ =>
      (fX9_isOf this p1 p0 h).bind fun q12 =>
      if q12.1 = 0 then
        fX9_place_b34 N this p0 q12.2
      else
        some (p1, q12.2)
theorem pX9_place {w : eW} {d : Nat} (hd : 1 ≤ d) {N : Nat} {this : Nat} {p0 : Int32} {p1 : Int32} {h : eH} {q} (hf : fX9_place N this p0 p1 h = some q) : wm w d YX9_place [.ref this, .int p0, .int p1] h (e_is (e_rn c_I q)) := by
  obtain ⟨d, rfl⟩ : ∃ e, d = e + 1 := ⟨d - 1, by omega⟩
  show wp w (d + 1) YX9_place 0 [some (.ref this), some (.int p0), some (.int p1), none] [] h _
  unfold fX9_place at hf
  refine w_iload_n dX9_place_0 rfl rfl ?_
  refine w_aload_n dX9_place_1 rfl rfl ?_
  obtain ⟨a1, b2, hf⟩ := Option.bind_eq_some_iff.mp hf
  refine GX9_39 b2 dX9_place_2 rfl ?_
  refine w_aload_n dX9_place_5 rfl rfl ?_
  obtain ⟨x3, b4, hf⟩ := Option.bind_eq_some_iff.mp hf
  refine GX9_58 b4 dX9_place_6 rfl ?_
  refine w_iconst dX9_place_9 (v := 1) (by decide) ?_
  refine w_isub dX9_place_10 ?_
  obtain ⟨x5, b6, hf⟩ := Option.bind_eq_some_iff.mp hf
  refine x_rI b6 dX9_place_11 ?_
  refine w_icmp_lt 34 dX9_place_12 (by decide) (fun c7 => ?_) (fun c7 => ?_)
  · replace hf := (if_pos (show p1 < x5 from c7)).symm.trans hf
    exact (pX9_place_b34 hd hf).to ⟨rfl, rfl, trivial⟩
  · replace hf := (if_neg (show ¬ (p1 < x5) from c7)).symm.trans hf
    refine w_iload_n dX9_place_15 rfl rfl ?_
    refine w_aload_n dX9_place_16 rfl rfl ?_
    obtain ⟨x8, b9, hf⟩ := Option.bind_eq_some_iff.mp hf
    refine GX9_54 b9 dX9_place_17 rfl ?_
    refine w_icmp_ge 34 dX9_place_20 (by decide) (fun c10 => ?_) (fun c10 => ?_)
    · replace hf := (if_pos (show x8 ≤ p1 from c10)).symm.trans hf
      exact (pX9_place_b34 hd hf).to ⟨rfl, rfl, trivial⟩
    · replace hf := (if_neg (show ¬ (x8 ≤ p1) from c10)).symm.trans hf
      refine w_aload_n dX9_place_23 rfl rfl ?_
      refine w_iload_n dX9_place_24 rfl rfl ?_
      refine w_iload_n dX9_place_25 rfl rfl ?_
      obtain ⟨_, b11, hf⟩ := Option.bind_eq_some_iff.mp hf
      refine x_cnI hf (e_stV (Yc := YX9_isOf) (ci := 8) (av := [.int p1, .int p0]) (st := []) dX9_place_26 q2023 mX9_isOf rfl (k_ok_some b11).1 (k_ok_some b11).2) mX9_isOf.2.2.1 mX9_isOf.2.2.2.2.1 (Nat.le_of_ble_eq_true rfl) (Nat.le_of_ble_eq_true rfl) (fun q hq => pX9_isOf (by omega) hq) (fun q12 hf => ?_)
      refine w_if_eq 34 dX9_place_29 (by decide) (fun c13 => ?_) (fun c13 => ?_)
      · replace hf := (if_pos (show q12.1 = 0 from c13)).symm.trans hf
        exact (pX9_place_b34 hd hf).to ⟨rfl, rfl, trivial⟩
      · replace hf := (if_neg (show ¬ (q12.1 = 0) from c13)).symm.trans hf
        refine w_iload_n dX9_place_32 rfl rfl ?_
        cases hf
        exact w_iret dX9_place_33 rfl rfl rfl
abbrev cX9_save : ByteArray := prog_28_method_7_code
def yX9_save : MethodName := ⟨RX9, "save", "(IIIII)I"⟩
def YX9_save : eY := (yX9_save, cX9_save, 7, (Option.some FieldType.int), [])
theorem mX9_save : e_mv YX9_save RX9 5 := ⟨q2017, qs10, q2018, by decide, by decide +kernel, (e_sig (by decide +kernel))⟩
theorem dX9_save_0 : decode cX9_save 0 = .ok (.aload_n 0, 1) := dc_42 (by decide +kernel)
theorem dX9_save_1 : decode cX9_save 1 = .ok (.iload_n 1, 1) := dc_27 (by decide +kernel)
theorem dX9_save_2 : decode cX9_save 2 = .ok (.iload_n 2, 1) := dc_28 (by decide +kernel)
theorem dX9_save_3 : decode cX9_save 3 = .ok (.invokevirtual 72, 3) := dc_182 (a := 0) (b := 72) (n := 72) (by decide +kernel)
theorem dX9_save_6 : decode cX9_save 6 = .ok (.istore 6, 2) := dc_54 (a := 6) (by decide +kernel)
theorem dX9_save_8 : decode cX9_save 8 = .ok (.iload 6, 2) := dc_21 (a := 6) (by decide +kernel)
theorem dX9_save_10 : decode cX9_save 10 = .ok (.aload_n 0, 1) := dc_42 (by decide +kernel)
theorem dX9_save_11 : decode cX9_save 11 = .ok (.getfield 54, 3) := dc_180 (a := 0) (b := 54) (n := 54) (by decide +kernel)
theorem dX9_save_14 : decode cX9_save 14 = .ok (.if_icmp .ne 32, 3) := dc_160 (a := 0) (b := 32) (v := 32) (by decide +kernel)
theorem dX9_save_17 : decode cX9_save 17 = .ok (.aload_n 0, 1) := dc_42 (by decide +kernel)
theorem dX9_save_18 : decode cX9_save 18 = .ok (.aload_n 0, 1) := dc_42 (by decide +kernel)
theorem dX9_save_19 : decode cX9_save 19 = .ok (.getfield 27, 3) := dc_180 (a := 0) (b := 27) (n := 27) (by decide +kernel)
theorem dX9_save_22 : decode cX9_save 22 = .ok (.iconst 2, 1) := dc_5 (by decide +kernel)
theorem dX9_save_23 : decode cX9_save 23 = .ok (.aload_n 0, 1) := dc_42 (by decide +kernel)
theorem dX9_save_24 : decode cX9_save 24 = .ok (.getfield 54, 3) := dc_180 (a := 0) (b := 54) (n := 54) (by decide +kernel)
theorem dX9_save_27 : decode cX9_save 27 = .ok (.iconst 1, 1) := dc_4 (by decide +kernel)
theorem dX9_save_28 : decode cX9_save 28 = .ok (.iadd, 1) := dc_96 (by decide +kernel)
theorem dX9_save_29 : decode cX9_save 29 = .ok (.imul, 1) := dc_104 (by decide +kernel)
theorem dX9_save_30 : decode cX9_save 30 = .ok (.invokestatic 76, 3) := dc_184 (a := 0) (b := 76) (n := 76) (by decide +kernel)
theorem dX9_save_33 : decode cX9_save 33 = .ok (.putfield 27, 3) := dc_181 (a := 0) (b := 27) (n := 27) (by decide +kernel)
theorem dX9_save_36 : decode cX9_save 36 = .ok (.aload_n 0, 1) := dc_42 (by decide +kernel)
theorem dX9_save_37 : decode cX9_save 37 = .ok (.dup, 1) := dc_89 (by decide +kernel)
theorem dX9_save_38 : decode cX9_save 38 = .ok (.getfield 54, 3) := dc_180 (a := 0) (b := 54) (n := 54) (by decide +kernel)
theorem dX9_save_41 : decode cX9_save 41 = .ok (.iconst 1, 1) := dc_4 (by decide +kernel)
theorem dX9_save_42 : decode cX9_save 42 = .ok (.iadd, 1) := dc_96 (by decide +kernel)
theorem dX9_save_43 : decode cX9_save 43 = .ok (.putfield 54, 3) := dc_181 (a := 0) (b := 54) (n := 54) (by decide +kernel)
theorem dX9_save_46 : decode cX9_save 46 = .ok (.aload_n 0, 1) := dc_42 (by decide +kernel)
theorem dX9_save_47 : decode cX9_save 47 = .ok (.getfield 27, 3) := dc_180 (a := 0) (b := 27) (n := 27) (by decide +kernel)
theorem dX9_save_50 : decode cX9_save 50 = .ok (.iconst 2, 1) := dc_5 (by decide +kernel)
theorem dX9_save_51 : decode cX9_save 51 = .ok (.iload 6, 2) := dc_21 (a := 6) (by decide +kernel)
theorem dX9_save_53 : decode cX9_save 53 = .ok (.imul, 1) := dc_104 (by decide +kernel)
theorem dX9_save_54 : decode cX9_save 54 = .ok (.iload_n 1, 1) := dc_27 (by decide +kernel)
theorem dX9_save_55 : decode cX9_save 55 = .ok (.sipush 2200, 3) := dc_17 (a := 8) (b := 152) (v := 2200) (by decide +kernel)
theorem dX9_save_58 : decode cX9_save 58 = .ok (.iadd, 1) := dc_96 (by decide +kernel)
theorem dX9_save_59 : decode cX9_save 59 = .ok (.bipush 10, 2) := dc_16 (a := 10) (v := 10) (by decide +kernel)
theorem dX9_save_61 : decode cX9_save 61 = .ok (.ishl, 1) := dc_120 (by decide +kernel)
theorem dX9_save_62 : decode cX9_save 62 = .ok (.iload 5, 2) := dc_21 (a := 5) (by decide +kernel)
theorem dX9_save_64 : decode cX9_save 64 = .ok (.iconst 3, 1) := dc_6 (by decide +kernel)
theorem dX9_save_65 : decode cX9_save 65 = .ok (.ishl, 1) := dc_120 (by decide +kernel)
theorem dX9_save_66 : decode cX9_save 66 = .ok (.ior, 1) := dc_128 (by decide +kernel)
theorem dX9_save_67 : decode cX9_save 67 = .ok (.iload_n 3, 1) := dc_29 (by decide +kernel)
theorem dX9_save_68 : decode cX9_save 68 = .ok (.ior, 1) := dc_128 (by decide +kernel)
theorem dX9_save_69 : decode cX9_save 69 = .ok (.iastore, 1) := dc_79 (by decide +kernel)
theorem dX9_save_70 : decode cX9_save 70 = .ok (.aload_n 0, 1) := dc_42 (by decide +kernel)
theorem dX9_save_71 : decode cX9_save 71 = .ok (.getfield 27, 3) := dc_180 (a := 0) (b := 27) (n := 27) (by decide +kernel)
theorem dX9_save_74 : decode cX9_save 74 = .ok (.iconst 2, 1) := dc_5 (by decide +kernel)
theorem dX9_save_75 : decode cX9_save 75 = .ok (.iload 6, 2) := dc_21 (a := 6) (by decide +kernel)
theorem dX9_save_77 : decode cX9_save 77 = .ok (.imul, 1) := dc_104 (by decide +kernel)
theorem dX9_save_78 : decode cX9_save 78 = .ok (.iconst 1, 1) := dc_4 (by decide +kernel)
theorem dX9_save_79 : decode cX9_save 79 = .ok (.iadd, 1) := dc_96 (by decide +kernel)
theorem dX9_save_80 : decode cX9_save 80 = .ok (.iload 4, 2) := dc_21 (a := 4) (by decide +kernel)
theorem dX9_save_82 : decode cX9_save 82 = .ok (.iastore, 1) := dc_79 (by decide +kernel)
theorem dX9_save_83 : decode cX9_save 83 = .ok (.iload 6, 2) := dc_21 (a := 6) (by decide +kernel)
theorem dX9_save_85 : decode cX9_save 85 = .ok (.ireturn, 1) := dc_172 (by decide +kernel)
def fX9_save_b46 (N : Nat) (l0 : Nat) (l1 : Int32) (l3 : Int32) (l4 : Int32) (l5 : Int32) (l6 : Int32) (h : eH) : Option (Int32 × eH) :=
  (g_A 8 h l0 5).bind fun a1 =>
  (q_V 100 h a1 ((2 : Int32) * l6) (.int ((((l1 + (2200 : Int32)) <<< ((10 : Int32) &&& 31)) ||| (l5 <<< ((3 : Int32) &&& 31))) ||| l3))).bind fun h3 =>
  (g_A 8 h3 l0 5).bind fun a5 =>
  (q_V 100 h3 a5 (((2 : Int32) * l6) + (1 : Int32)) (.int l4)).bind fun h7 =>
  some (l6, h7)
theorem pX9_save_b46 {w : eW} {d : Nat} (hd : 2 ≤ d + 1) {N : Nat} {l0 : Nat} {l1 : Int32} {l3 : Int32} {l4 : Int32} {l5 : Int32} {l6 : Int32} {h : eH} {q} (hf : fX9_save_b46 N l0 l1 l3 l4 l5 l6 h = some q) : wp w (d + 1) YX9_save 46 [some (.ref l0), some (.int l1), none, some (.int l3), some (.int l4), some (.int l5), some (.int l6)] [] h (e_is (e_rn c_I q)) := by
  unfold fX9_save_b46 at hf
  refine w_aload_n dX9_save_46 rfl rfl ?_
  obtain ⟨a1, b2, hf⟩ := Option.bind_eq_some_iff.mp hf
  refine GX9_27 b2 dX9_save_47 rfl ?_
  refine w_iconst dX9_save_50 (v := 2) (by decide) ?_
  refine w_iload dX9_save_51 rfl ?_
  refine w_imul dX9_save_53 ?_
  refine w_iload_n dX9_save_54 rfl rfl ?_
  refine w_sipush dX9_save_55 (v := 2200) (by decide) ?_
  refine w_iadd dX9_save_58 ?_
  refine w_bipush dX9_save_59 (v := 10) (by decide) ?_
  refine w_ishl dX9_save_61 ?_
  refine w_iload dX9_save_62 rfl ?_
  refine w_iconst dX9_save_64 (v := 3) (by decide) ?_
  refine w_ishl dX9_save_65 ?_
  refine w_ior dX9_save_66 ?_
  refine w_iload_n dX9_save_67 rfl rfl ?_
  refine w_ior dX9_save_68 ?_
  obtain ⟨h3, b4, hf⟩ := Option.bind_eq_some_iff.mp hf
  refine x_qI b4 dX9_save_69 ?_
  refine w_aload_n dX9_save_70 rfl rfl ?_
  obtain ⟨a5, b6, hf⟩ := Option.bind_eq_some_iff.mp hf
  refine GX9_27 b6 dX9_save_71 rfl ?_
  refine w_iconst dX9_save_74 (v := 2) (by decide) ?_
  refine w_iload dX9_save_75 rfl ?_
  refine w_imul dX9_save_77 ?_
  refine w_iconst dX9_save_78 (v := 1) (by decide) ?_
  refine w_iadd dX9_save_79 ?_
  refine w_iload dX9_save_80 rfl ?_
  obtain ⟨h7, b8, hf⟩ := Option.bind_eq_some_iff.mp hf
  refine x_qI b8 dX9_save_82 ?_
  refine w_iload dX9_save_83 rfl ?_
  cases hf
  exact w_iret dX9_save_85 rfl rfl rfl
def fX9_save (N : Nat) (this : Nat) (p0 : Int32) (p1 : Int32) (p2 : Int32) (p3 : Int32) (p4 : Int32) (h : eH) : Option (Int32 × eH) :=
  (k_ok 8 h this).bind fun _ =>
  (fX9_place N this p0 p1 h).bind fun q2 =>
  (g_I 8 q2.2 this 6).bind fun x3 =>
  if ¬ q2.1 = x3 then
    fX9_save_b46 N this p0 p2 p3 p4 q2.1 q2.2
  else
    (g_A 8 q2.2 this 5).bind fun a6 =>
    (g_I 8 q2.2 this 6).bind fun x8 =>
    (fX1_grown a6 ((2 : Int32) * (x8 + (1 : Int32))) q2.2).bind fun q10 =>
    (p_V 8 q10.2 this 5 (.ref q10.1)).bind fun h11 =>
    (g_I 8 h11 this 6).bind fun x13 =>
    (p_V 8 h11 this 6 (.int (x13 + (1 : Int32)))).bind fun h15 =>
    fX9_save_b46 N this p0 p2 p3 p4 q2.1 h15
theorem pX9_save {w : eW} {d : Nat} (hd : 2 ≤ d) {N : Nat} {this : Nat} {p0 : Int32} {p1 : Int32} {p2 : Int32} {p3 : Int32} {p4 : Int32} {h : eH} {q} (hf : fX9_save N this p0 p1 p2 p3 p4 h = some q) : wm w d YX9_save [.ref this, .int p0, .int p1, .int p2, .int p3, .int p4] h (e_is (e_rn c_I q)) := by
  obtain ⟨d, rfl⟩ : ∃ e, d = e + 1 := ⟨d - 1, by omega⟩
  show wp w (d + 1) YX9_save 0 [some (.ref this), some (.int p0), some (.int p1), some (.int p2), some (.int p3), some (.int p4), none] [] h _
  unfold fX9_save at hf
  refine w_aload_n dX9_save_0 rfl rfl ?_
  refine w_iload_n dX9_save_1 rfl rfl ?_
  refine w_iload_n dX9_save_2 rfl rfl ?_
  obtain ⟨_, b1, hf⟩ := Option.bind_eq_some_iff.mp hf
  refine x_cnI hf (e_stV (Yc := YX9_place) (ci := 8) (av := [.int p0, .int p1]) (st := []) dX9_save_3 q2019 mX9_place rfl (k_ok_some b1).1 (k_ok_some b1).2) mX9_place.2.2.1 mX9_place.2.2.2.2.1 (Nat.le_of_ble_eq_true rfl) (Nat.le_of_ble_eq_true rfl) (fun q hq => pX9_place (by omega) hq) (fun q2 hf => ?_)
  refine w_istore dX9_save_6 (by decide) (ls' := [some (.ref this), some (.int p0), some (.int p1), some (.int p2), some (.int p3), some (.int p4), some (.int q2.1)]) rfl ?_
  refine w_iload dX9_save_8 rfl ?_
  refine w_aload_n dX9_save_10 rfl rfl ?_
  obtain ⟨x3, b4, hf⟩ := Option.bind_eq_some_iff.mp hf
  refine GX9_54 b4 dX9_save_11 rfl ?_
  refine w_icmp_ne 46 dX9_save_14 (by decide) (fun c5 => ?_) (fun c5 => ?_)
  · replace hf := (if_pos (show ¬ q2.1 = x3 from c5)).symm.trans hf
    exact (pX9_save_b46 hd hf).to ⟨rfl, rfl, rfl, rfl, rfl, rfl, trivial⟩
  · replace hf := (if_neg (show ¬ (¬ q2.1 = x3) from (fun z => z c5))).symm.trans hf
    refine w_aload_n dX9_save_17 rfl rfl ?_
    refine w_aload_n dX9_save_18 rfl rfl ?_
    obtain ⟨a6, b7, hf⟩ := Option.bind_eq_some_iff.mp hf
    refine GX9_27 b7 dX9_save_19 rfl ?_
    refine w_iconst dX9_save_22 (v := 2) (by decide) ?_
    refine w_aload_n dX9_save_23 rfl rfl ?_
    obtain ⟨x8, b9, hf⟩ := Option.bind_eq_some_iff.mp hf
    refine GX9_54 b9 dX9_save_24 rfl ?_
    refine w_iconst dX9_save_27 (v := 1) (by decide) ?_
    refine w_iadd dX9_save_28 ?_
    refine w_imul dX9_save_29 ?_
    refine x_cnA hf (e_stSN (Yc := YX1_grown) (av := [.ref a6, .int ((2 : Int32) * (x8 + (1 : Int32)))]) (st := [.ref this]) dX9_save_30 q2027 mX1_grown) mX1_grown.2.2.1 mX1_grown.2.2.2.2.1 (Nat.le_of_ble_eq_true rfl) (Nat.le_of_ble_eq_true rfl) (fun q hq => pX1_grown (by omega) hq) (fun q10 hf => ?_)
    obtain ⟨h11, b12, hf⟩ := Option.bind_eq_some_iff.mp hf
    refine SX9_27 b12 dX9_save_33 rfl ?_
    refine w_aload_n dX9_save_36 rfl rfl ?_
    refine w_dup dX9_save_37 rfl ?_
    obtain ⟨x13, b14, hf⟩ := Option.bind_eq_some_iff.mp hf
    refine GX9_54 b14 dX9_save_38 rfl ?_
    refine w_iconst dX9_save_41 (v := 1) (by decide) ?_
    refine w_iadd dX9_save_42 ?_
    obtain ⟨h15, b16, hf⟩ := Option.bind_eq_some_iff.mp hf
    refine SX9_54 b16 dX9_save_43 rfl ?_
    exact (pX9_save_b46 hd hf).to ⟨rfl, rfl, rfl, rfl, rfl, rfl, trivial⟩
abbrev cX9_mean : ByteArray := prog_28_method_8_code
def yX9_mean : MethodName := ⟨RX9, "mean", "(IIIZ)V"⟩
def YX9_mean : eY := (yX9_mean, cX9_mean, 5, none, [])
theorem mX9_mean : e_mv YX9_mean RX9 4 := ⟨q2012, q2013, q2014, by decide, by decide +kernel, (e_sig (by decide +kernel))⟩
theorem dX9_mean_0 : decode cX9_mean 0 = .ok (.iload 4, 2) := dc_21 (a := 4) (by decide +kernel)
theorem dX9_mean_2 : decode cX9_mean 2 = .ok (.ifCond .ne 51, 3) := dc_154 (a := 0) (b := 51) (v := 51) (by decide +kernel)
theorem dX9_mean_5 : decode cX9_mean 5 = .ok (.aload_n 0, 1) := dc_42 (by decide +kernel)
theorem dX9_mean_6 : decode cX9_mean 6 = .ok (.getfield 18, 3) := dc_180 (a := 0) (b := 18) (n := 18) (by decide +kernel)
theorem dX9_mean_9 : decode cX9_mean 9 = .ok (.iload_n 1, 1) := dc_27 (by decide +kernel)
theorem dX9_mean_10 : decode cX9_mean 10 = .ok (.iaload, 1) := dc_46 (by decide +kernel)
theorem dX9_mean_11 : decode cX9_mean 11 = .ok (.aload_n 0, 1) := dc_42 (by decide +kernel)
theorem dX9_mean_12 : decode cX9_mean 12 = .ok (.getfield 58, 3) := dc_180 (a := 0) (b := 58) (n := 58) (by decide +kernel)
theorem dX9_mean_15 : decode cX9_mean 15 = .ok (.if_icmp .ge 38, 3) := dc_162 (a := 0) (b := 38) (v := 38) (by decide +kernel)
theorem dX9_mean_18 : decode cX9_mean 18 = .ok (.aload_n 0, 1) := dc_42 (by decide +kernel)
theorem dX9_mean_19 : decode cX9_mean 19 = .ok (.getfield 33, 3) := dc_180 (a := 0) (b := 33) (n := 33) (by decide +kernel)
theorem dX9_mean_22 : decode cX9_mean 22 = .ok (.iload_n 1, 1) := dc_27 (by decide +kernel)
theorem dX9_mean_23 : decode cX9_mean 23 = .ok (.aload_n 0, 1) := dc_42 (by decide +kernel)
theorem dX9_mean_24 : decode cX9_mean 24 = .ok (.iload_n 1, 1) := dc_27 (by decide +kernel)
theorem dX9_mean_25 : decode cX9_mean 25 = .ok (.aload_n 0, 1) := dc_42 (by decide +kernel)
theorem dX9_mean_26 : decode cX9_mean 26 = .ok (.getfield 33, 3) := dc_180 (a := 0) (b := 33) (n := 33) (by decide +kernel)
theorem dX9_mean_29 : decode cX9_mean 29 = .ok (.iload_n 1, 1) := dc_27 (by decide +kernel)
theorem dX9_mean_30 : decode cX9_mean 30 = .ok (.iaload, 1) := dc_46 (by decide +kernel)
theorem dX9_mean_31 : decode cX9_mean 31 = .ok (.aload_n 0, 1) := dc_42 (by decide +kernel)
theorem dX9_mean_32 : decode cX9_mean 32 = .ok (.getfield 9, 3) := dc_180 (a := 0) (b := 9) (n := 9) (by decide +kernel)
theorem dX9_mean_35 : decode cX9_mean 35 = .ok (.iload_n 1, 1) := dc_27 (by decide +kernel)
theorem dX9_mean_36 : decode cX9_mean 36 = .ok (.iaload, 1) := dc_46 (by decide +kernel)
theorem dX9_mean_37 : decode cX9_mean 37 = .ok (.aload_n 0, 1) := dc_42 (by decide +kernel)
theorem dX9_mean_38 : decode cX9_mean 38 = .ok (.getfield 15, 3) := dc_180 (a := 0) (b := 15) (n := 15) (by decide +kernel)
theorem dX9_mean_41 : decode cX9_mean 41 = .ok (.iload_n 1, 1) := dc_27 (by decide +kernel)
theorem dX9_mean_42 : decode cX9_mean 42 = .ok (.iaload, 1) := dc_46 (by decide +kernel)
theorem dX9_mean_43 : decode cX9_mean 43 = .ok (.aload_n 0, 1) := dc_42 (by decide +kernel)
theorem dX9_mean_44 : decode cX9_mean 44 = .ok (.getfield 18, 3) := dc_180 (a := 0) (b := 18) (n := 18) (by decide +kernel)
theorem dX9_mean_47 : decode cX9_mean 47 = .ok (.iload_n 1, 1) := dc_27 (by decide +kernel)
theorem dX9_mean_48 : decode cX9_mean 48 = .ok (.iaload, 1) := dc_46 (by decide +kernel)
theorem dX9_mean_49 : decode cX9_mean 49 = .ok (.invokevirtual 80, 3) := dc_182 (a := 0) (b := 80) (n := 80) (by decide +kernel)
theorem dX9_mean_52 : decode cX9_mean 52 = .ok (.iastore, 1) := dc_79 (by decide +kernel)
theorem dX9_mean_53 : decode cX9_mean 53 = .ok (.aload_n 0, 1) := dc_42 (by decide +kernel)
theorem dX9_mean_54 : decode cX9_mean 54 = .ok (.getfield 9, 3) := dc_180 (a := 0) (b := 9) (n := 9) (by decide +kernel)
theorem dX9_mean_57 : decode cX9_mean 57 = .ok (.iload_n 1, 1) := dc_27 (by decide +kernel)
theorem dX9_mean_58 : decode cX9_mean 58 = .ok (.iload_n 2, 1) := dc_28 (by decide +kernel)
theorem dX9_mean_59 : decode cX9_mean 59 = .ok (.iastore, 1) := dc_79 (by decide +kernel)
theorem dX9_mean_60 : decode cX9_mean 60 = .ok (.aload_n 0, 1) := dc_42 (by decide +kernel)
theorem dX9_mean_61 : decode cX9_mean 61 = .ok (.getfield 15, 3) := dc_180 (a := 0) (b := 15) (n := 15) (by decide +kernel)
theorem dX9_mean_64 : decode cX9_mean 64 = .ok (.iload_n 1, 1) := dc_27 (by decide +kernel)
theorem dX9_mean_65 : decode cX9_mean 65 = .ok (.iload_n 3, 1) := dc_29 (by decide +kernel)
theorem dX9_mean_66 : decode cX9_mean 66 = .ok (.iastore, 1) := dc_79 (by decide +kernel)
theorem dX9_mean_67 : decode cX9_mean 67 = .ok (.aload_n 0, 1) := dc_42 (by decide +kernel)
theorem dX9_mean_68 : decode cX9_mean 68 = .ok (.getfield 18, 3) := dc_180 (a := 0) (b := 18) (n := 18) (by decide +kernel)
theorem dX9_mean_71 : decode cX9_mean 71 = .ok (.iload_n 1, 1) := dc_27 (by decide +kernel)
theorem dX9_mean_72 : decode cX9_mean 72 = .ok (.iload 4, 2) := dc_21 (a := 4) (by decide +kernel)
theorem dX9_mean_74 : decode cX9_mean 74 = .ok (.ifCond .eq 7, 3) := dc_153 (a := 0) (b := 7) (v := 7) (by decide +kernel)
theorem dX9_mean_77 : decode cX9_mean 77 = .ok (.iconst 0, 1) := dc_3 (by decide +kernel)
theorem dX9_mean_78 : decode cX9_mean 78 = .ok (.goto 7, 3) := dc_167 (a := 0) (b := 7) (v := 7) (by decide +kernel)
theorem dX9_mean_81 : decode cX9_mean 81 = .ok (.aload_n 0, 1) := dc_42 (by decide +kernel)
theorem dX9_mean_82 : decode cX9_mean 82 = .ok (.getfield 58, 3) := dc_180 (a := 0) (b := 58) (n := 58) (by decide +kernel)
theorem dX9_mean_85 : decode cX9_mean 85 = .ok (.iastore, 1) := dc_79 (by decide +kernel)
theorem dX9_mean_86 : decode cX9_mean 86 = .ok (.return_, 1) := dc_177 (by decide +kernel)
theorem GX9_15 {w : eW} {d : Nat} {Y : eY} {pc : Nat} {ls : eL} {st : List Value} {h : eH} {Q : eO → eH → Prop} {a : Nat} {x : Nat} (hf : g_A 8 h a 1 = some x) (hd : decode Y.2.1 pc = .ok (.getfield 15, 3)) (hY : Y.1.cls = RX9) (kk : wp w d Y (pc + 3) ls (.ref x :: st) h Q) : wp w d Y pc ls (.ref a :: st) h Q := x_gA (ci := 8) (k := 1) hf hd rfl (by decide) (by rw [hY]; exact q652) kk
theorem GX9_33 {w : eW} {d : Nat} {Y : eY} {pc : Nat} {ls : eL} {st : List Value} {h : eH} {Q : eO → eH → Prop} {a : Nat} {x : Nat} (hf : g_A 8 h a 8 = some x) (hd : decode Y.2.1 pc = .ok (.getfield 33, 3)) (hY : Y.1.cls = RX9) (kk : wp w d Y (pc + 3) ls (.ref x :: st) h Q) : wp w d Y pc ls (.ref a :: st) h Q := x_gA (ci := 8) (k := 8) hf hd rfl (by decide) (by rw [hY]; exact q663) kk
def fX9_mean_b85 (N : Nat) (s0 : Nat) (s1 : Int32) (s2 : Int32) (h : eH) : Option (Unit × eH) :=
  (q_V 100 h s0 s1 (.int s2)).bind fun h1 =>
  some ((), h1)
theorem pX9_mean_b85 {w : eW} {d : Nat} (hd : 3 ≤ d + 1) {N : Nat} {s0 : Nat} {s1 : Int32} {s2 : Int32} {h : eH} {q} (hf : fX9_mean_b85 N s0 s1 s2 h = some q) : wp w (d + 1) YX9_mean 85 [none, none, none, none, none] [.int s2, .int s1, .ref s0] h (e_is (e_rn c_V q)) := by
  unfold fX9_mean_b85 at hf
  obtain ⟨h1, b2, hf⟩ := Option.bind_eq_some_iff.mp hf
  refine x_qI b2 dX9_mean_85 ?_
  cases hf
  exact w_vret dX9_mean_86 rfl rfl
def fX9_mean_b53 (N : Nat) (l0 : Nat) (l1 : Int32) (l2 : Int32) (l3 : Int32) (l4 : Int32) (h : eH) : Option (Unit × eH) :=
  (g_A 8 h l0 0).bind fun a1 =>
  (q_V 100 h a1 l1 (.int l2)).bind fun h3 =>
  (g_A 8 h3 l0 1).bind fun a5 =>
  (q_V 100 h3 a5 l1 (.int l3)).bind fun h7 =>
  (g_A 8 h7 l0 2).bind fun a9 =>
  if l4 = 0 then
    (g_I 8 h7 l0 11).bind fun x12 =>
    fX9_mean_b85 N a9 l1 x12 h7
  else
    fX9_mean_b85 N a9 l1 (0 : Int32) h7
theorem pX9_mean_b53 {w : eW} {d : Nat} (hd : 3 ≤ d + 1) {N : Nat} {l0 : Nat} {l1 : Int32} {l2 : Int32} {l3 : Int32} {l4 : Int32} {h : eH} {q} (hf : fX9_mean_b53 N l0 l1 l2 l3 l4 h = some q) : wp w (d + 1) YX9_mean 53 [some (.ref l0), some (.int l1), some (.int l2), some (.int l3), some (.int l4)] [] h (e_is (e_rn c_V q)) := by
  unfold fX9_mean_b53 at hf
  refine w_aload_n dX9_mean_53 rfl rfl ?_
  obtain ⟨a1, b2, hf⟩ := Option.bind_eq_some_iff.mp hf
  refine GX9_9 b2 dX9_mean_54 rfl ?_
  refine w_iload_n dX9_mean_57 rfl rfl ?_
  refine w_iload_n dX9_mean_58 rfl rfl ?_
  obtain ⟨h3, b4, hf⟩ := Option.bind_eq_some_iff.mp hf
  refine x_qI b4 dX9_mean_59 ?_
  refine w_aload_n dX9_mean_60 rfl rfl ?_
  obtain ⟨a5, b6, hf⟩ := Option.bind_eq_some_iff.mp hf
  refine GX9_15 b6 dX9_mean_61 rfl ?_
  refine w_iload_n dX9_mean_64 rfl rfl ?_
  refine w_iload_n dX9_mean_65 rfl rfl ?_
  obtain ⟨h7, b8, hf⟩ := Option.bind_eq_some_iff.mp hf
  refine x_qI b8 dX9_mean_66 ?_
  refine w_aload_n dX9_mean_67 rfl rfl ?_
  obtain ⟨a9, b10, hf⟩ := Option.bind_eq_some_iff.mp hf
  refine GX9_18 b10 dX9_mean_68 rfl ?_
  refine w_iload_n dX9_mean_71 rfl rfl ?_
  refine w_iload dX9_mean_72 rfl ?_
  refine w_if_eq 81 dX9_mean_74 (by decide) (fun c11 => ?_) (fun c11 => ?_)
  · replace hf := (if_pos (show l4 = 0 from c11)).symm.trans hf
    refine w_aload_n dX9_mean_81 rfl rfl ?_
    obtain ⟨x12, b13, hf⟩ := Option.bind_eq_some_iff.mp hf
    refine GX9_58 b13 dX9_mean_82 rfl ?_
    exact (pX9_mean_b85 hd hf).to trivial
  · replace hf := (if_neg (show ¬ (l4 = 0) from c11)).symm.trans hf
    refine w_iconst dX9_mean_77 (v := 0) (by decide) ?_
    refine w_goto 85 dX9_mean_78 (by decide) ?_
    exact (pX9_mean_b85 hd hf).to trivial
def fX9_mean (N : Nat) (this : Nat) (p0 : Int32) (p1 : Int32) (p2 : Int32) (p3 : Int32) (h : eH) : Option (Unit × eH) :=
  if ¬ p3 = 0 then
    fX9_mean_b53 N this p0 p1 p2 p3 h
  else
    (g_A 8 h this 2).bind fun a2 =>
    (r_I 100 h a2 p0).bind fun x4 =>
    (g_I 8 h this 11).bind fun x6 =>
    if x6 ≤ x4 then
      fX9_mean_b53 N this p0 p1 p2 p3 h
    else
      (g_A 8 h this 8).bind fun a9 =>
      (g_A 8 h this 8).bind fun a11 =>
      (r_I 100 h a11 p0).bind fun x13 =>
      (g_A 8 h this 0).bind fun a15 =>
      (r_I 100 h a15 p0).bind fun x17 =>
      (g_A 8 h this 1).bind fun a19 =>
      (r_I 100 h a19 p0).bind fun x21 =>
      (g_A 8 h this 2).bind fun a23 =>
      (r_I 100 h a23 p0).bind fun x25 =>
      (k_ok 8 h this).bind fun _ =>
      (fX9_save N this p0 x13 x17 x21 x25 h).bind fun q28 =>
      (q_V 100 q28.2 a9 p0 (.int q28.1)).bind fun h29 =>
      fX9_mean_b53 N this p0 p1 p2 p3 h29
theorem pX9_mean {w : eW} {d : Nat} (hd : 3 ≤ d) {N : Nat} {this : Nat} {p0 : Int32} {p1 : Int32} {p2 : Int32} {p3 : Int32} {h : eH} {q} (hf : fX9_mean N this p0 p1 p2 p3 h = some q) : wm w d YX9_mean [.ref this, .int p0, .int p1, .int p2, .int p3] h (e_is (e_rn c_V q)) := by
  obtain ⟨d, rfl⟩ : ∃ e, d = e + 1 := ⟨d - 1, by omega⟩
  show wp w (d + 1) YX9_mean 0 [some (.ref this), some (.int p0), some (.int p1), some (.int p2), some (.int p3)] [] h _
  unfold fX9_mean at hf
  refine w_iload dX9_mean_0 rfl ?_
  refine w_if_ne 53 dX9_mean_2 (by decide) (fun c1 => ?_) (fun c1 => ?_)
  · replace hf := (if_pos (show ¬ p3 = 0 from c1)).symm.trans hf
    exact (pX9_mean_b53 hd hf).to ⟨rfl, rfl, rfl, rfl, rfl, trivial⟩
  · replace hf := (if_neg (show ¬ (¬ p3 = 0) from (fun z => z c1))).symm.trans hf
    refine w_aload_n dX9_mean_5 rfl rfl ?_
    obtain ⟨a2, b3, hf⟩ := Option.bind_eq_some_iff.mp hf
    refine GX9_18 b3 dX9_mean_6 rfl ?_
    refine w_iload_n dX9_mean_9 rfl rfl ?_
    obtain ⟨x4, b5, hf⟩ := Option.bind_eq_some_iff.mp hf
    refine x_rI b5 dX9_mean_10 ?_
    refine w_aload_n dX9_mean_11 rfl rfl ?_
    obtain ⟨x6, b7, hf⟩ := Option.bind_eq_some_iff.mp hf
    refine GX9_58 b7 dX9_mean_12 rfl ?_
    refine w_icmp_ge 53 dX9_mean_15 (by decide) (fun c8 => ?_) (fun c8 => ?_)
    · replace hf := (if_pos (show x6 ≤ x4 from c8)).symm.trans hf
      exact (pX9_mean_b53 hd hf).to ⟨rfl, rfl, rfl, rfl, rfl, trivial⟩
    · replace hf := (if_neg (show ¬ (x6 ≤ x4) from c8)).symm.trans hf
      refine w_aload_n dX9_mean_18 rfl rfl ?_
      obtain ⟨a9, b10, hf⟩ := Option.bind_eq_some_iff.mp hf
      refine GX9_33 b10 dX9_mean_19 rfl ?_
      refine w_iload_n dX9_mean_22 rfl rfl ?_
      refine w_aload_n dX9_mean_23 rfl rfl ?_
      refine w_iload_n dX9_mean_24 rfl rfl ?_
      refine w_aload_n dX9_mean_25 rfl rfl ?_
      obtain ⟨a11, b12, hf⟩ := Option.bind_eq_some_iff.mp hf
      refine GX9_33 b12 dX9_mean_26 rfl ?_
      refine w_iload_n dX9_mean_29 rfl rfl ?_
      obtain ⟨x13, b14, hf⟩ := Option.bind_eq_some_iff.mp hf
      refine x_rI b14 dX9_mean_30 ?_
      refine w_aload_n dX9_mean_31 rfl rfl ?_
      obtain ⟨a15, b16, hf⟩ := Option.bind_eq_some_iff.mp hf
      refine GX9_9 b16 dX9_mean_32 rfl ?_
      refine w_iload_n dX9_mean_35 rfl rfl ?_
      obtain ⟨x17, b18, hf⟩ := Option.bind_eq_some_iff.mp hf
      refine x_rI b18 dX9_mean_36 ?_
      refine w_aload_n dX9_mean_37 rfl rfl ?_
      obtain ⟨a19, b20, hf⟩ := Option.bind_eq_some_iff.mp hf
      refine GX9_15 b20 dX9_mean_38 rfl ?_
      refine w_iload_n dX9_mean_41 rfl rfl ?_
      obtain ⟨x21, b22, hf⟩ := Option.bind_eq_some_iff.mp hf
      refine x_rI b22 dX9_mean_42 ?_
      refine w_aload_n dX9_mean_43 rfl rfl ?_
      obtain ⟨a23, b24, hf⟩ := Option.bind_eq_some_iff.mp hf
      refine GX9_18 b24 dX9_mean_44 rfl ?_
      refine w_iload_n dX9_mean_47 rfl rfl ?_
      obtain ⟨x25, b26, hf⟩ := Option.bind_eq_some_iff.mp hf
      refine x_rI b26 dX9_mean_48 ?_
      obtain ⟨_, b27, hf⟩ := Option.bind_eq_some_iff.mp hf
      refine x_cnI hf (e_stV (Yc := YX9_save) (ci := 8) (av := [.int p0, .int x13, .int x17, .int x21, .int x25]) (st := [.int p0, .ref a9]) dX9_mean_49 q2015 mX9_save rfl (k_ok_some b27).1 (k_ok_some b27).2) mX9_save.2.2.1 mX9_save.2.2.2.2.1 (Nat.le_of_ble_eq_true rfl) (Nat.le_of_ble_eq_true rfl) (fun q hq => pX9_save (by omega) hq) (fun q28 hf => ?_)
      obtain ⟨h29, b30, hf⟩ := Option.bind_eq_some_iff.mp hf
      refine x_qI b30 dX9_mean_52 ?_
      exact (pX9_mean_b53 hd hf).to ⟨rfl, rfl, rfl, rfl, rfl, trivial⟩
abbrev cX11_begin : ByteArray := prog_29_method_2_code
def yX11_begin : MethodName := ⟨RX11, "begin", "()V"⟩
def YX11_begin : eY := (yX11_begin, cX11_begin, 1, none, [])
theorem mX11_begin : e_mv YX11_begin RX11 0 := ⟨q2029, q2030, q2031, by decide, by decide +kernel, (e_sig (by decide +kernel))⟩
theorem dX11_begin_0 : decode cX11_begin 0 = .ok (.aload_n 0, 1) := dc_42 (by decide +kernel)
theorem dX11_begin_1 : decode cX11_begin 1 = .ok (.iconst 0, 1) := dc_3 (by decide +kernel)
theorem dX11_begin_2 : decode cX11_begin 2 = .ok (.putfield 28, 3) := dc_181 (a := 0) (b := 28) (n := 28) (by decide +kernel)
theorem dX11_begin_5 : decode cX11_begin 5 = .ok (.aload_n 0, 1) := dc_42 (by decide +kernel)
theorem dX11_begin_6 : decode cX11_begin 6 = .ok (.iconst 1, 1) := dc_4 (by decide +kernel)
theorem dX11_begin_7 : decode cX11_begin 7 = .ok (.putfield 32, 3) := dc_181 (a := 0) (b := 32) (n := 32) (by decide +kernel)
theorem dX11_begin_10 : decode cX11_begin 10 = .ok (.aload_n 0, 1) := dc_42 (by decide +kernel)
theorem dX11_begin_11 : decode cX11_begin 11 = .ok (.iconst 0, 1) := dc_3 (by decide +kernel)
theorem dX11_begin_12 : decode cX11_begin 12 = .ok (.putfield 35, 3) := dc_181 (a := 0) (b := 35) (n := 35) (by decide +kernel)
theorem dX11_begin_15 : decode cX11_begin 15 = .ok (.aload_n 0, 1) := dc_42 (by decide +kernel)
theorem dX11_begin_16 : decode cX11_begin 16 = .ok (.iconst 0, 1) := dc_3 (by decide +kernel)
theorem dX11_begin_17 : decode cX11_begin 17 = .ok (.putfield 38, 3) := dc_181 (a := 0) (b := 38) (n := 38) (by decide +kernel)
theorem dX11_begin_20 : decode cX11_begin 20 = .ok (.return_, 1) := dc_177 (by decide +kernel)
theorem SX11_28 {w : eW} {d : Nat} {Y : eY} {pc : Nat} {ls : eL} {st : List Value} {h : eH} {Q : eO → eH → Prop} {a : Nat} {h' : eH} {x : Int32} (hf : p_V 10 h a 5 (.int x) = some h') (hd : decode Y.2.1 pc = .ok (.putfield 28, 3)) (hY : Y.1.cls = RX11) (kk : wp w d Y (pc + 3) ls st h' Q) : wp w d Y pc ls (.int x :: .ref a :: st) h Q := x_pI (ci := 10) (k := 5) hf hd rfl (by decide) (by rw [hY]; exact q744) rfl rfl kk
theorem SX11_32 {w : eW} {d : Nat} {Y : eY} {pc : Nat} {ls : eL} {st : List Value} {h : eH} {Q : eO → eH → Prop} {a : Nat} {h' : eH} {x : Int32} (hf : p_V 10 h a 6 (.int x) = some h') (hd : decode Y.2.1 pc = .ok (.putfield 32, 3)) (hY : Y.1.cls = RX11) (kk : wp w d Y (pc + 3) ls st h' Q) : wp w d Y pc ls (.int x :: .ref a :: st) h Q := x_pI (ci := 10) (k := 6) hf hd rfl (by decide) (by rw [hY]; exact q745) rfl rfl kk
theorem SX11_35 {w : eW} {d : Nat} {Y : eY} {pc : Nat} {ls : eL} {st : List Value} {h : eH} {Q : eO → eH → Prop} {a : Nat} {h' : eH} {x : Int32} (hf : p_V 10 h a 7 (.int x) = some h') (hd : decode Y.2.1 pc = .ok (.putfield 35, 3)) (hY : Y.1.cls = RX11) (kk : wp w d Y (pc + 3) ls st h' Q) : wp w d Y pc ls (.int x :: .ref a :: st) h Q := x_pI (ci := 10) (k := 7) hf hd rfl (by decide) (by rw [hY]; exact q746) rfl rfl kk
theorem SX11_38 {w : eW} {d : Nat} {Y : eY} {pc : Nat} {ls : eL} {st : List Value} {h : eH} {Q : eO → eH → Prop} {a : Nat} {h' : eH} {x : Int32} (hf : p_V 10 h a 9 (.int x) = some h') (hd : decode Y.2.1 pc = .ok (.putfield 38, 3)) (hY : Y.1.cls = RX11) (kk : wp w d Y (pc + 3) ls st h' Q) : wp w d Y pc ls (.int x :: .ref a :: st) h Q := x_pI (ci := 10) (k := 9) hf hd rfl (by decide) (by rw [hY]; exact q748) rfl rfl kk
def fX11_begin (this : Nat) (h : eH) : Option (Unit × eH) :=
  (p_V 10 h this 5 (.int (0 : Int32))).bind fun h1 =>
  (p_V 10 h1 this 6 (.int (1 : Int32))).bind fun h3 =>
  (p_V 10 h3 this 7 (.int (0 : Int32))).bind fun h5 =>
  (p_V 10 h5 this 9 (.int (0 : Int32))).bind fun h7 =>
  some ((), h7)
theorem pX11_begin {w : eW} {d : Nat} (hd : 0 ≤ d) {this : Nat} {h : eH} {q} (hf : fX11_begin this h = some q) : wm w d YX11_begin [.ref this] h (e_is (e_rn c_V q)) := by
  show wp w d YX11_begin 0 [some (.ref this)] [] h _
  unfold fX11_begin at hf
  refine w_aload_n dX11_begin_0 rfl rfl ?_
  refine w_iconst dX11_begin_1 (v := 0) (by decide) ?_
  obtain ⟨h1, b2, hf⟩ := Option.bind_eq_some_iff.mp hf
  refine SX11_28 b2 dX11_begin_2 rfl ?_
  refine w_aload_n dX11_begin_5 rfl rfl ?_
  refine w_iconst dX11_begin_6 (v := 1) (by decide) ?_
  obtain ⟨h3, b4, hf⟩ := Option.bind_eq_some_iff.mp hf
  refine SX11_32 b4 dX11_begin_7 rfl ?_
  refine w_aload_n dX11_begin_10 rfl rfl ?_
  refine w_iconst dX11_begin_11 (v := 0) (by decide) ?_
  obtain ⟨h5, b6, hf⟩ := Option.bind_eq_some_iff.mp hf
  refine SX11_35 b6 dX11_begin_12 rfl ?_
  refine w_aload_n dX11_begin_15 rfl rfl ?_
  refine w_iconst dX11_begin_16 (v := 0) (by decide) ?_
  obtain ⟨h7, b8, hf⟩ := Option.bind_eq_some_iff.mp hf
  refine SX11_38 b8 dX11_begin_17 rfl ?_
  cases hf
  exact w_vret dX11_begin_20 rfl rfl
abbrev cX13_clear : ByteArray := prog_31_method_2_code
def yX13_clear : MethodName := ⟨RX13, "clear", "()V"⟩
def YX13_clear : eY := (yX13_clear, cX13_clear, 1, none, [])
theorem mX13_clear : e_mv YX13_clear RX13 0 := ⟨q2033, q2034, q2035, by decide, by decide +kernel, (e_sig (by decide +kernel))⟩
theorem dX13_clear_0 : decode cX13_clear 0 = .ok (.aload_n 0, 1) := dc_42 (by decide +kernel)
theorem dX13_clear_1 : decode cX13_clear 1 = .ok (.iconst 0, 1) := dc_3 (by decide +kernel)
theorem dX13_clear_2 : decode cX13_clear 2 = .ok (.putfield 23, 3) := dc_181 (a := 0) (b := 23) (n := 23) (by decide +kernel)
theorem dX13_clear_5 : decode cX13_clear 5 = .ok (.return_, 1) := dc_177 (by decide +kernel)
theorem SX13_23 {w : eW} {d : Nat} {Y : eY} {pc : Nat} {ls : eL} {st : List Value} {h : eH} {Q : eO → eH → Prop} {a : Nat} {h' : eH} {x : Int32} (hf : p_V 12 h a 3 (.int x) = some h') (hd : decode Y.2.1 pc = .ok (.putfield 23, 3)) (hY : Y.1.cls = RX13) (kk : wp w d Y (pc + 3) ls st h' Q) : wp w d Y pc ls (.int x :: .ref a :: st) h Q := x_pI (ci := 12) (k := 3) hf hd rfl (by decide) (by rw [hY]; exact q820) rfl rfl kk
def fX13_clear (this : Nat) (h : eH) : Option (Unit × eH) :=
  (p_V 12 h this 3 (.int (0 : Int32))).bind fun h1 =>
  some ((), h1)
theorem pX13_clear {w : eW} {d : Nat} (hd : 0 ≤ d) {this : Nat} {h : eH} {q} (hf : fX13_clear this h = some q) : wm w d YX13_clear [.ref this] h (e_is (e_rn c_V q)) := by
  show wp w d YX13_clear 0 [some (.ref this)] [] h _
  unfold fX13_clear at hf
  refine w_aload_n dX13_clear_0 rfl rfl ?_
  refine w_iconst dX13_clear_1 (v := 0) (by decide) ?_
  obtain ⟨h1, b2, hf⟩ := Option.bind_eq_some_iff.mp hf
  refine SX13_23 b2 dX13_clear_2 rfl ?_
  cases hf
  exact w_vret dX13_clear_5 rfl rfl
abbrev cX8_begin : ByteArray := prog_4_method_2_code
def yX8_begin : MethodName := ⟨RX8, "begin", "()V"⟩
def YX8_begin : eY := (yX8_begin, cX8_begin, 2, none, [])
theorem mX8_begin : e_mv YX8_begin RX8 0 := ⟨q1912, qs3, q1913, by decide, by decide +kernel, (e_sig (by decide +kernel))⟩
theorem dX8_begin_0 : decode cX8_begin 0 = .ok (.aload_n 0, 1) := dc_42 (by decide +kernel)
theorem dX8_begin_1 : decode cX8_begin 1 = .ok (.getfield 68, 3) := dc_180 (a := 0) (b := 68) (n := 68) (by decide +kernel)
theorem dX8_begin_4 : decode cX8_begin 4 = .ok (.invokevirtual 97, 3) := dc_182 (a := 0) (b := 97) (n := 97) (by decide +kernel)
theorem dX8_begin_7 : decode cX8_begin 7 = .ok (.aload_n 0, 1) := dc_42 (by decide +kernel)
theorem dX8_begin_8 : decode cX8_begin 8 = .ok (.getfield 12, 3) := dc_180 (a := 0) (b := 12) (n := 12) (by decide +kernel)
theorem dX8_begin_11 : decode cX8_begin 11 = .ok (.invokevirtual 100, 3) := dc_182 (a := 0) (b := 100) (n := 100) (by decide +kernel)
theorem dX8_begin_14 : decode cX8_begin 14 = .ok (.aload_n 0, 1) := dc_42 (by decide +kernel)
theorem dX8_begin_15 : decode cX8_begin 15 = .ok (.getfield 68, 3) := dc_180 (a := 0) (b := 68) (n := 68) (by decide +kernel)
theorem dX8_begin_18 : decode cX8_begin 18 = .ok (.ldc 101, 2) := dc_18 (a := 101) (by decide +kernel)
theorem dX8_begin_20 : decode cX8_begin 20 = .ok (.invokevirtual 103, 3) := dc_182 (a := 0) (b := 103) (n := 103) (by decide +kernel)
theorem dX8_begin_23 : decode cX8_begin 23 = .ok (.iconst 0, 1) := dc_3 (by decide +kernel)
theorem dX8_begin_24 : decode cX8_begin 24 = .ok (.istore_n 1, 1) := dc_60 (by decide +kernel)
theorem dX8_begin_25 : decode cX8_begin 25 = .ok (.iload_n 1, 1) := dc_27 (by decide +kernel)
theorem dX8_begin_26 : decode cX8_begin 26 = .ok (.bipush 96, 2) := dc_16 (a := 96) (v := 96) (by decide +kernel)
theorem dX8_begin_28 : decode cX8_begin 28 = .ok (.if_icmp .ge 24, 3) := dc_162 (a := 0) (b := 24) (v := 24) (by decide +kernel)
theorem dX8_begin_31 : decode cX8_begin 31 = .ok (.aload_n 0, 1) := dc_42 (by decide +kernel)
theorem dX8_begin_32 : decode cX8_begin 32 = .ok (.getfield 12, 3) := dc_180 (a := 0) (b := 12) (n := 12) (by decide +kernel)
theorem dX8_begin_35 : decode cX8_begin 35 = .ok (.sipush 256, 3) := dc_17 (a := 1) (b := 0) (v := 256) (by decide +kernel)
theorem dX8_begin_38 : decode cX8_begin 38 = .ok (.iload_n 1, 1) := dc_27 (by decide +kernel)
theorem dX8_begin_39 : decode cX8_begin 39 = .ok (.iadd, 1) := dc_96 (by decide +kernel)
theorem dX8_begin_40 : decode cX8_begin 40 = .ok (.iconst 1, 1) := dc_4 (by decide +kernel)
theorem dX8_begin_41 : decode cX8_begin 41 = .ok (.iload_n 1, 1) := dc_27 (by decide +kernel)
theorem dX8_begin_42 : decode cX8_begin 42 = .ok (.iconst 1, 1) := dc_4 (by decide +kernel)
theorem dX8_begin_43 : decode cX8_begin 43 = .ok (.invokevirtual 107, 3) := dc_182 (a := 0) (b := 107) (n := 107) (by decide +kernel)
theorem dX8_begin_46 : decode cX8_begin 46 = .ok (.iinc 1 1, 3) := dc_132 (a := 1) (b := 1) (v := 1) (by decide +kernel)
theorem dX8_begin_49 : decode cX8_begin 49 = .ok (.goto (-24), 3) := dc_167 (a := 255) (b := 232) (v := -24) (by decide +kernel)
theorem dX8_begin_52 : decode cX8_begin 52 = .ok (.aload_n 0, 1) := dc_42 (by decide +kernel)
theorem dX8_begin_53 : decode cX8_begin 53 = .ok (.getfield 77, 3) := dc_180 (a := 0) (b := 77) (n := 77) (by decide +kernel)
theorem dX8_begin_56 : decode cX8_begin 56 = .ok (.invokevirtual 111, 3) := dc_182 (a := 0) (b := 111) (n := 111) (by decide +kernel)
theorem dX8_begin_59 : decode cX8_begin 59 = .ok (.aload_n 0, 1) := dc_42 (by decide +kernel)
theorem dX8_begin_60 : decode cX8_begin 60 = .ok (.getfield 84, 3) := dc_180 (a := 0) (b := 84) (n := 84) (by decide +kernel)
theorem dX8_begin_63 : decode cX8_begin 63 = .ok (.iconst 0, 1) := dc_3 (by decide +kernel)
theorem dX8_begin_64 : decode cX8_begin 64 = .ok (.putfield 114, 3) := dc_181 (a := 0) (b := 114) (n := 114) (by decide +kernel)
theorem dX8_begin_67 : decode cX8_begin 67 = .ok (.aload_n 0, 1) := dc_42 (by decide +kernel)
theorem dX8_begin_68 : decode cX8_begin 68 = .ok (.getfield 84, 3) := dc_180 (a := 0) (b := 84) (n := 84) (by decide +kernel)
theorem dX8_begin_71 : decode cX8_begin 71 = .ok (.iconst 0, 1) := dc_3 (by decide +kernel)
theorem dX8_begin_72 : decode cX8_begin 72 = .ok (.putfield 118, 3) := dc_181 (a := 0) (b := 118) (n := 118) (by decide +kernel)
theorem dX8_begin_75 : decode cX8_begin 75 = .ok (.aload_n 0, 1) := dc_42 (by decide +kernel)
theorem dX8_begin_76 : decode cX8_begin 76 = .ok (.getfield 93, 3) := dc_180 (a := 0) (b := 93) (n := 93) (by decide +kernel)
theorem dX8_begin_79 : decode cX8_begin 79 = .ok (.invokevirtual 121, 3) := dc_182 (a := 0) (b := 121) (n := 121) (by decide +kernel)
theorem dX8_begin_82 : decode cX8_begin 82 = .ok (.aload_n 0, 1) := dc_42 (by decide +kernel)
theorem dX8_begin_83 : decode cX8_begin 83 = .ok (.iconst 0, 1) := dc_3 (by decide +kernel)
theorem dX8_begin_84 : decode cX8_begin 84 = .ok (.putfield 122, 3) := dc_181 (a := 0) (b := 122) (n := 122) (by decide +kernel)
theorem dX8_begin_87 : decode cX8_begin 87 = .ok (.aload_n 0, 1) := dc_42 (by decide +kernel)
theorem dX8_begin_88 : decode cX8_begin 88 = .ok (.iconst 0, 1) := dc_3 (by decide +kernel)
theorem dX8_begin_89 : decode cX8_begin 89 = .ok (.putfield 125, 3) := dc_181 (a := 0) (b := 125) (n := 125) (by decide +kernel)
theorem dX8_begin_92 : decode cX8_begin 92 = .ok (.aload_n 0, 1) := dc_42 (by decide +kernel)
theorem dX8_begin_93 : decode cX8_begin 93 = .ok (.iconst 0, 1) := dc_3 (by decide +kernel)
theorem dX8_begin_94 : decode cX8_begin 94 = .ok (.putfield 128, 3) := dc_181 (a := 0) (b := 128) (n := 128) (by decide +kernel)
theorem dX8_begin_97 : decode cX8_begin 97 = .ok (.aload_n 0, 1) := dc_42 (by decide +kernel)
theorem dX8_begin_98 : decode cX8_begin 98 = .ok (.iconst 0, 1) := dc_3 (by decide +kernel)
theorem dX8_begin_99 : decode cX8_begin 99 = .ok (.putfield 131, 3) := dc_181 (a := 0) (b := 131) (n := 131) (by decide +kernel)
theorem dX8_begin_102 : decode cX8_begin 102 = .ok (.aload_n 0, 1) := dc_42 (by decide +kernel)
theorem dX8_begin_103 : decode cX8_begin 103 = .ok (.iconst 0, 1) := dc_3 (by decide +kernel)
theorem dX8_begin_104 : decode cX8_begin 104 = .ok (.putfield 134, 3) := dc_181 (a := 0) (b := 134) (n := 134) (by decide +kernel)
theorem dX8_begin_107 : decode cX8_begin 107 = .ok (.aload_n 0, 1) := dc_42 (by decide +kernel)
theorem dX8_begin_108 : decode cX8_begin 108 = .ok (.getfield 51, 3) := dc_180 (a := 0) (b := 51) (n := 51) (by decide +kernel)
theorem dX8_begin_111 : decode cX8_begin 111 = .ok (.iconst 0, 1) := dc_3 (by decide +kernel)
theorem dX8_begin_112 : decode cX8_begin 112 = .ok (.putfield 137, 3) := dc_181 (a := 0) (b := 137) (n := 137) (by decide +kernel)
theorem dX8_begin_115 : decode cX8_begin 115 = .ok (.return_, 1) := dc_177 (by decide +kernel)
theorem GX8_51 {w : eW} {d : Nat} {Y : eY} {pc : Nat} {ls : eL} {st : List Value} {h : eH} {Q : eO → eH → Prop} {a : Nat} {x : Nat} (hf : g_A 7 h a 0 = some x) (hd : decode Y.2.1 pc = .ok (.getfield 51, 3)) (hY : Y.1.cls = RX8) (kk : wp w d Y (pc + 3) ls (.ref x :: st) h Q) : wp w d Y pc ls (.ref a :: st) h Q := x_gA (ci := 7) (k := 0) hf hd rfl (by decide) (by rw [hY]; exact q831) kk
theorem GX8_93 {w : eW} {d : Nat} {Y : eY} {pc : Nat} {ls : eL} {st : List Value} {h : eH} {Q : eO → eH → Prop} {a : Nat} {x : Nat} (hf : g_A 7 h a 7 = some x) (hd : decode Y.2.1 pc = .ok (.getfield 93, 3)) (hY : Y.1.cls = RX8) (kk : wp w d Y (pc + 3) ls (.ref x :: st) h Q) : wp w d Y pc ls (.ref a :: st) h Q := x_gA (ci := 7) (k := 7) hf hd rfl (by decide) (by rw [hY]; exact q841) kk
theorem SX8_114 {w : eW} {d : Nat} {Y : eY} {pc : Nat} {ls : eL} {st : List Value} {h : eH} {Q : eO → eH → Prop} {a : Nat} {h' : eH} {x : Int32} (hf : p_V 11 h a 2 (.int x) = some h') (hd : decode Y.2.1 pc = .ok (.putfield 114, 3)) (hY : Y.1.cls = RX8) (kk : wp w d Y (pc + 3) ls st h' Q) : wp w d Y pc ls (.int x :: .ref a :: st) h Q := x_pIN (ci := 11) (k := 2) hf hd rfl (by decide) (by rw [hY]; exact q782) rfl rfl kk
theorem SX8_118 {w : eW} {d : Nat} {Y : eY} {pc : Nat} {ls : eL} {st : List Value} {h : eH} {Q : eO → eH → Prop} {a : Nat} {h' : eH} {x : Int32} (hf : p_V 11 h a 7 (.int x) = some h') (hd : decode Y.2.1 pc = .ok (.putfield 118, 3)) (hY : Y.1.cls = RX8) (kk : wp w d Y (pc + 3) ls st h' Q) : wp w d Y pc ls (.int x :: .ref a :: st) h Q := x_pIN (ci := 11) (k := 7) hf hd rfl (by decide) (by rw [hY]; exact q793) rfl rfl kk
theorem SX8_122 {w : eW} {d : Nat} {Y : eY} {pc : Nat} {ls : eL} {st : List Value} {h : eH} {Q : eO → eH → Prop} {a : Nat} {h' : eH} {x : Int32} (hf : p_V 7 h a 8 (.int x) = some h') (hd : decode Y.2.1 pc = .ok (.putfield 122, 3)) (hY : Y.1.cls = RX8) (kk : wp w d Y (pc + 3) ls st h' Q) : wp w d Y pc ls (.int x :: .ref a :: st) h Q := x_pI (ci := 7) (k := 8) hf hd rfl (by decide) (by rw [hY]; exact q842) rfl rfl kk
theorem SX8_125 {w : eW} {d : Nat} {Y : eY} {pc : Nat} {ls : eL} {st : List Value} {h : eH} {Q : eO → eH → Prop} {a : Nat} {h' : eH} {x : Int32} (hf : p_V 7 h a 10 (.int x) = some h') (hd : decode Y.2.1 pc = .ok (.putfield 125, 3)) (hY : Y.1.cls = RX8) (kk : wp w d Y (pc + 3) ls st h' Q) : wp w d Y pc ls (.int x :: .ref a :: st) h Q := x_pI (ci := 7) (k := 10) hf hd rfl (by decide) (by rw [hY]; exact q846) rfl rfl kk
theorem SX8_128 {w : eW} {d : Nat} {Y : eY} {pc : Nat} {ls : eL} {st : List Value} {h : eH} {Q : eO → eH → Prop} {a : Nat} {h' : eH} {x : Int32} (hf : p_V 7 h a 15 (.int x) = some h') (hd : decode Y.2.1 pc = .ok (.putfield 128, 3)) (hY : Y.1.cls = RX8) (kk : wp w d Y (pc + 3) ls st h' Q) : wp w d Y pc ls (.int x :: .ref a :: st) h Q := x_pI (ci := 7) (k := 15) hf hd rfl (by decide) (by rw [hY]; exact q852) rfl rfl kk
theorem SX8_131 {w : eW} {d : Nat} {Y : eY} {pc : Nat} {ls : eL} {st : List Value} {h : eH} {Q : eO → eH → Prop} {a : Nat} {h' : eH} {x : Int32} (hf : p_V 7 h a 22 (.int x) = some h') (hd : decode Y.2.1 pc = .ok (.putfield 131, 3)) (hY : Y.1.cls = RX8) (kk : wp w d Y (pc + 3) ls st h' Q) : wp w d Y pc ls (.int x :: .ref a :: st) h Q := x_pI (ci := 7) (k := 22) hf hd rfl (by decide) (by rw [hY]; exact q860) rfl rfl kk
theorem SX8_134 {w : eW} {d : Nat} {Y : eY} {pc : Nat} {ls : eL} {st : List Value} {h : eH} {Q : eO → eH → Prop} {a : Nat} {h' : eH} {x : Int32} (hf : p_V 7 h a 24 (.int x) = some h') (hd : decode Y.2.1 pc = .ok (.putfield 134, 3)) (hY : Y.1.cls = RX8) (kk : wp w d Y (pc + 3) ls st h' Q) : wp w d Y pc ls (.int x :: .ref a :: st) h Q := x_pI (ci := 7) (k := 24) hf hd rfl (by decide) (by rw [hY]; exact q862) rfl rfl kk
theorem SX8_137 {w : eW} {d : Nat} {Y : eY} {pc : Nat} {ls : eL} {st : List Value} {h : eH} {Q : eO → eH → Prop} {a : Nat} {h' : eH} {x : Int32} (hf : p_V 3 h a 0 (.int x) = some h') (hd : decode Y.2.1 pc = .ok (.putfield 137, 3)) (hY : Y.1.cls = RX8) (kk : wp w d Y (pc + 3) ls st h' Q) : wp w d Y pc ls (.int x :: .ref a :: st) h Q := x_pIN (ci := 3) (k := 0) hf hd rfl (by decide) (by rw [hY]; exact q521) rfl rfl kk
def fX8_begin_b25 (N : Nat) : Nat → Nat → Int32 → eH → Option (Unit × eH)
  | 0, _, _, _ => none
  | n + 1, l0, l1, h =>
    if (96 : Int32) ≤ l1 then
      (g_A 7 h l0 5).bind fun a2 =>
      (k_ok 10 h a2).bind fun _ =>
      (fX11_begin a2 h).bind fun q5 =>
      (g_A 7 q5.2 l0 6).bind fun a6 =>
      (p_V 11 q5.2 a6 2 (.int (0 : Int32))).bind fun h8 =>
      (g_A 7 h8 l0 6).bind fun a10 =>
      (p_V 11 h8 a10 7 (.int (0 : Int32))).bind fun h12 =>
      (g_A 7 h12 l0 7).bind fun a14 =>
      (k_ok 12 h12 a14).bind fun _ =>
      (fX13_clear a14 h12).bind fun q17 =>
      (p_V 7 q17.2 l0 8 (.int (0 : Int32))).bind fun h18 =>
      (p_V 7 h18 l0 10 (.int (0 : Int32))).bind fun h20 =>
      (p_V 7 h20 l0 15 (.int (0 : Int32))).bind fun h22 =>
      (p_V 7 h22 l0 22 (.int (0 : Int32))).bind fun h24 =>
      (p_V 7 h24 l0 24 (.int (0 : Int32))).bind fun h26 =>
      (g_A 7 h26 l0 0).bind fun a28 =>
      (p_V 3 h26 a28 0 (.int (0 : Int32))).bind fun h30 =>
      some ((), h30)
    else
      (g_A 7 h l0 4).bind fun a32 =>
      (k_ok 8 h a32).bind fun _ =>
      (fX9_mean N a32 ((256 : Int32) + l1) (1 : Int32) l1 (1 : Int32) h).bind fun q35 =>
      fX8_begin_b25 N n l0 (l1 + (1 : Int32)) q35.2
theorem pX8_begin_b25 {w : eW} {d : Nat} (hd : 5 ≤ d + 1) {N : Nat} : ∀ (n : Nat) l0 l1 h q, fX8_begin_b25 N n l0 l1 h = some q → wp w (d + 1) YX8_begin 25 [some (.ref l0), some (.int l1)] [] h (e_is (e_rn c_V q)) := by
  intro n
  induction n with
  | zero => intro l0 l1 h q hf; simp [fX8_begin_b25] at hf
  | succ n ih =>
    intro l0 l1 h q hf
    rw [fX8_begin_b25] at hf
    refine w_iload_n dX8_begin_25 rfl rfl ?_
    refine w_bipush dX8_begin_26 (v := 96) (by decide) ?_
    refine w_icmp_ge 52 dX8_begin_28 (by decide) (fun c1 => ?_) (fun c1 => ?_)
    · replace hf := (if_pos (show (96 : Int32) ≤ l1 from c1)).symm.trans hf
      refine w_aload_n dX8_begin_52 rfl rfl ?_
      obtain ⟨a2, b3, hf⟩ := Option.bind_eq_some_iff.mp hf
      refine GX8_77 b3 dX8_begin_53 rfl ?_
      obtain ⟨_, b4, hf⟩ := Option.bind_eq_some_iff.mp hf
      refine x_cnV hf (e_stV (Yc := YX11_begin) (ci := 10) (av := []) (st := []) dX8_begin_56 q2028 mX11_begin rfl (k_ok_some b4).1 (k_ok_some b4).2) mX11_begin.2.2.1 mX11_begin.2.2.2.2.1 (Nat.le_of_ble_eq_true rfl) (Nat.le_of_ble_eq_true rfl) (fun q hq => pX11_begin (by omega) hq) (fun q5 hf => ?_)
      refine w_aload_n dX8_begin_59 rfl rfl ?_
      obtain ⟨a6, b7, hf⟩ := Option.bind_eq_some_iff.mp hf
      refine GX8_84 b7 dX8_begin_60 rfl ?_
      refine w_iconst dX8_begin_63 (v := 0) (by decide) ?_
      obtain ⟨h8, b9, hf⟩ := Option.bind_eq_some_iff.mp hf
      refine SX8_114 b9 dX8_begin_64 rfl ?_
      refine w_aload_n dX8_begin_67 rfl rfl ?_
      obtain ⟨a10, b11, hf⟩ := Option.bind_eq_some_iff.mp hf
      refine GX8_84 b11 dX8_begin_68 rfl ?_
      refine w_iconst dX8_begin_71 (v := 0) (by decide) ?_
      obtain ⟨h12, b13, hf⟩ := Option.bind_eq_some_iff.mp hf
      refine SX8_118 b13 dX8_begin_72 rfl ?_
      refine w_aload_n dX8_begin_75 rfl rfl ?_
      obtain ⟨a14, b15, hf⟩ := Option.bind_eq_some_iff.mp hf
      refine GX8_93 b15 dX8_begin_76 rfl ?_
      obtain ⟨_, b16, hf⟩ := Option.bind_eq_some_iff.mp hf
      refine x_cnV hf (e_stV (Yc := YX13_clear) (ci := 12) (av := []) (st := []) dX8_begin_79 q2032 mX13_clear rfl (k_ok_some b16).1 (k_ok_some b16).2) mX13_clear.2.2.1 mX13_clear.2.2.2.2.1 (Nat.le_of_ble_eq_true rfl) (Nat.le_of_ble_eq_true rfl) (fun q hq => pX13_clear (by omega) hq) (fun q17 hf => ?_)
      refine w_aload_n dX8_begin_82 rfl rfl ?_
      refine w_iconst dX8_begin_83 (v := 0) (by decide) ?_
      obtain ⟨h18, b19, hf⟩ := Option.bind_eq_some_iff.mp hf
      refine SX8_122 b19 dX8_begin_84 rfl ?_
      refine w_aload_n dX8_begin_87 rfl rfl ?_
      refine w_iconst dX8_begin_88 (v := 0) (by decide) ?_
      obtain ⟨h20, b21, hf⟩ := Option.bind_eq_some_iff.mp hf
      refine SX8_125 b21 dX8_begin_89 rfl ?_
      refine w_aload_n dX8_begin_92 rfl rfl ?_
      refine w_iconst dX8_begin_93 (v := 0) (by decide) ?_
      obtain ⟨h22, b23, hf⟩ := Option.bind_eq_some_iff.mp hf
      refine SX8_128 b23 dX8_begin_94 rfl ?_
      refine w_aload_n dX8_begin_97 rfl rfl ?_
      refine w_iconst dX8_begin_98 (v := 0) (by decide) ?_
      obtain ⟨h24, b25, hf⟩ := Option.bind_eq_some_iff.mp hf
      refine SX8_131 b25 dX8_begin_99 rfl ?_
      refine w_aload_n dX8_begin_102 rfl rfl ?_
      refine w_iconst dX8_begin_103 (v := 0) (by decide) ?_
      obtain ⟨h26, b27, hf⟩ := Option.bind_eq_some_iff.mp hf
      refine SX8_134 b27 dX8_begin_104 rfl ?_
      refine w_aload_n dX8_begin_107 rfl rfl ?_
      obtain ⟨a28, b29, hf⟩ := Option.bind_eq_some_iff.mp hf
      refine GX8_51 b29 dX8_begin_108 rfl ?_
      refine w_iconst dX8_begin_111 (v := 0) (by decide) ?_
      obtain ⟨h30, b31, hf⟩ := Option.bind_eq_some_iff.mp hf
      refine SX8_137 b31 dX8_begin_112 rfl ?_
      cases hf
      exact w_vret dX8_begin_115 rfl rfl
    · replace hf := (if_neg (show ¬ ((96 : Int32) ≤ l1) from c1)).symm.trans hf
      refine w_aload_n dX8_begin_31 rfl rfl ?_
      obtain ⟨a32, b33, hf⟩ := Option.bind_eq_some_iff.mp hf
      refine GX8_12 b33 dX8_begin_32 rfl ?_
      refine w_sipush dX8_begin_35 (v := 256) (by decide) ?_
      refine w_iload_n dX8_begin_38 rfl rfl ?_
      refine w_iadd dX8_begin_39 ?_
      refine w_iconst dX8_begin_40 (v := 1) (by decide) ?_
      refine w_iload_n dX8_begin_41 rfl rfl ?_
      refine w_iconst dX8_begin_42 (v := 1) (by decide) ?_
      obtain ⟨_, b34, hf⟩ := Option.bind_eq_some_iff.mp hf
      refine x_cnV hf (e_stV (Yc := YX9_mean) (ci := 8) (av := [.int ((256 : Int32) + l1), .int (1 : Int32), .int l1, .int (1 : Int32)]) (st := []) dX8_begin_43 q2011 mX9_mean rfl (k_ok_some b34).1 (k_ok_some b34).2) mX9_mean.2.2.1 mX9_mean.2.2.2.2.1 (Nat.le_of_ble_eq_true rfl) (Nat.le_of_ble_eq_true rfl) (fun q hq => pX9_mean (by omega) hq) (fun q35 hf => ?_)
      refine w_iinc dX8_begin_46 (v := (l1 + (1 : Int32))) rfl rfl (by decide) (ls' := [some (.ref l0), some (.int (l1 + (1 : Int32)))]) rfl ?_
      refine w_goto 25 dX8_begin_49 (by decide) ?_
      exact (ih _ _ _ _ hf).to ⟨rfl, rfl, trivial⟩
def fX8_begin (N : Nat) (this : Nat) (h : eH) : Option (Unit × eH) :=
  (g_A 7 h this 3).bind fun a1 =>
  (k_ok 9 h a1).bind fun _ =>
  (fX10_clear N a1 h).bind fun q4 =>
  (g_A 7 q4.2 this 4).bind fun a5 =>
  (k_ok 8 q4.2 a5).bind fun _ =>
  (fX9_clear N a5 q4.2).bind fun q8 =>
  (g_A 7 q8.2 this 3).bind fun a9 =>
  (k_ok 9 q8.2 a9).bind fun _ =>
  (fX10_enter N a9 1000000100 q8.2).bind fun q12 =>
  fX8_begin_b25 N N this (0 : Int32) q12.2
theorem pX8_begin {w : eW} {d : Nat} (hd : 5 ≤ d) {N : Nat} {this : Nat} {h : eH} {q} (hf : fX8_begin N this h = some q) : wm w d YX8_begin [.ref this] h (e_is (e_rn c_V q)) := by
  obtain ⟨d, rfl⟩ : ∃ e, d = e + 1 := ⟨d - 1, by omega⟩
  show wp w (d + 1) YX8_begin 0 [some (.ref this), none] [] h _
  unfold fX8_begin at hf
  refine w_aload_n dX8_begin_0 rfl rfl ?_
  obtain ⟨a1, b2, hf⟩ := Option.bind_eq_some_iff.mp hf
  refine GX8_68 b2 dX8_begin_1 rfl ?_
  obtain ⟨_, b3, hf⟩ := Option.bind_eq_some_iff.mp hf
  refine x_cnV hf (e_stV (Yc := YX10_clear) (ci := 9) (av := []) (st := []) dX8_begin_4 q1914 mX10_clear rfl (k_ok_some b3).1 (k_ok_some b3).2) mX10_clear.2.2.1 mX10_clear.2.2.2.2.1 (Nat.le_of_ble_eq_true rfl) (Nat.le_of_ble_eq_true rfl) (fun q hq => pX10_clear (by omega) hq) (fun q4 hf => ?_)
  refine w_aload_n dX8_begin_7 rfl rfl ?_
  obtain ⟨a5, b6, hf⟩ := Option.bind_eq_some_iff.mp hf
  refine GX8_12 b6 dX8_begin_8 rfl ?_
  obtain ⟨_, b7, hf⟩ := Option.bind_eq_some_iff.mp hf
  refine x_cnV hf (e_stVN (Yc := YX9_clear) (ci := 8) (av := []) (st := []) dX8_begin_11 q1918 mX9_clear rfl (k_ok_some b7).1 (k_ok_some b7).2) mX9_clear.2.2.1 mX9_clear.2.2.2.2.1 (Nat.le_of_ble_eq_true rfl) (Nat.le_of_ble_eq_true rfl) (fun q hq => pX9_clear (by omega) hq) (fun q8 hf => ?_)
  refine w_aload_n dX8_begin_14 rfl rfl ?_
  obtain ⟨a9, b10, hf⟩ := Option.bind_eq_some_iff.mp hf
  refine GX8_68 b10 dX8_begin_15 rfl ?_
  refine x_ldcS (k := 0) dX8_begin_18 rfl ?_
  obtain ⟨_, b11, hf⟩ := Option.bind_eq_some_iff.mp hf
  refine x_cnV hf (e_stV (Yc := YX10_enter) (ci := 9) (av := [.ref 1000000100]) (st := []) dX8_begin_20 q1941 mX10_enter rfl (k_ok_some b11).1 (k_ok_some b11).2) mX10_enter.2.2.1 mX10_enter.2.2.2.2.1 (Nat.le_of_ble_eq_true rfl) (Nat.le_of_ble_eq_true rfl) (fun q hq => pX10_enter (by omega) hq) (fun q12 hf => ?_)
  refine w_iconst dX8_begin_23 (v := 0) (by decide) ?_
  refine w_istore_n dX8_begin_24 rfl (by decide) (ls' := [some (.ref this), some (.int (0 : Int32))]) rfl ?_
  exact (pX8_begin_b25 hd N _ _ _ _ hf).to ⟨rfl, rfl, trivial⟩
abbrev cX5_clear : ByteArray := prog_9_method_2_code
def yX5_clear : MethodName := ⟨RX5, "clear", "()V"⟩
def YX5_clear : eY := (yX5_clear, cX5_clear, 1, none, [])
theorem mX5_clear : e_mv YX5_clear RX5 0 := ⟨q2037, q2038, q2039, by decide, by decide +kernel, (e_sig (by decide +kernel))⟩
theorem dX5_clear_0 : decode cX5_clear 0 = .ok (.aload_n 0, 1) := dc_42 (by decide +kernel)
theorem dX5_clear_1 : decode cX5_clear 1 = .ok (.iconst 0, 1) := dc_3 (by decide +kernel)
theorem dX5_clear_2 : decode cX5_clear 2 = .ok (.putfield 39, 3) := dc_181 (a := 0) (b := 39) (n := 39) (by decide +kernel)
theorem dX5_clear_5 : decode cX5_clear 5 = .ok (.aload_n 0, 1) := dc_42 (by decide +kernel)
theorem dX5_clear_6 : decode cX5_clear 6 = .ok (.iconst 0, 1) := dc_3 (by decide +kernel)
theorem dX5_clear_7 : decode cX5_clear 7 = .ok (.putfield 43, 3) := dc_181 (a := 0) (b := 43) (n := 43) (by decide +kernel)
theorem dX5_clear_10 : decode cX5_clear 10 = .ok (.aload_n 0, 1) := dc_42 (by decide +kernel)
theorem dX5_clear_11 : decode cX5_clear 11 = .ok (.getfield 27, 3) := dc_180 (a := 0) (b := 27) (n := 27) (by decide +kernel)
theorem dX5_clear_14 : decode cX5_clear 14 = .ok (.iconst 0, 1) := dc_3 (by decide +kernel)
theorem dX5_clear_15 : decode cX5_clear 15 = .ok (.invokestatic 46, 3) := dc_184 (a := 0) (b := 46) (n := 46) (by decide +kernel)
theorem dX5_clear_18 : decode cX5_clear 18 = .ok (.return_, 1) := dc_177 (by decide +kernel)
theorem GX5_27 {w : eW} {d : Nat} {Y : eY} {pc : Nat} {ls : eL} {st : List Value} {h : eH} {Q : eO → eH → Prop} {a : Nat} {x : Nat} (hf : g_A 4 h a 4 = some x) (hd : decode Y.2.1 pc = .ok (.getfield 27, 3)) (hY : Y.1.cls = RX5) (kk : wp w d Y (pc + 3) ls (.ref x :: st) h Q) : wp w d Y pc ls (.ref a :: st) h Q := x_gA (ci := 4) (k := 4) hf hd rfl (by decide) (by rw [hY]; exact q590) kk
theorem SX5_39 {w : eW} {d : Nat} {Y : eY} {pc : Nat} {ls : eL} {st : List Value} {h : eH} {Q : eO → eH → Prop} {a : Nat} {h' : eH} {x : Int32} (hf : p_V 4 h a 3 (.int x) = some h') (hd : decode Y.2.1 pc = .ok (.putfield 39, 3)) (hY : Y.1.cls = RX5) (kk : wp w d Y (pc + 3) ls st h' Q) : wp w d Y pc ls (.int x :: .ref a :: st) h Q := x_pI (ci := 4) (k := 3) hf hd rfl (by decide) (by rw [hY]; exact q589) rfl rfl kk
theorem SX5_43 {w : eW} {d : Nat} {Y : eY} {pc : Nat} {ls : eL} {st : List Value} {h : eH} {Q : eO → eH → Prop} {a : Nat} {h' : eH} {x : Int32} (hf : p_V 4 h a 6 (.int x) = some h') (hd : decode Y.2.1 pc = .ok (.putfield 43, 3)) (hY : Y.1.cls = RX5) (kk : wp w d Y (pc + 3) ls st h' Q) : wp w d Y pc ls (.int x :: .ref a :: st) h Q := x_pI (ci := 4) (k := 6) hf hd rfl (by decide) (by rw [hY]; exact q594) rfl rfl kk
def fX5_clear (N : Nat) (this : Nat) (h : eH) : Option (Unit × eH) :=
  (p_V 4 h this 3 (.int (0 : Int32))).bind fun h1 =>
  (p_V 4 h1 this 6 (.int (0 : Int32))).bind fun h3 =>
  (g_A 4 h3 this 4).bind fun a5 =>
  (fJ0_fill_2 N a5 (0 : Int32) h3).bind fun q7 =>
  some ((), q7.2)
theorem pX5_clear {w : eW} {d : Nat} (hd : 1 ≤ d) {N : Nat} {this : Nat} {h : eH} {q} (hf : fX5_clear N this h = some q) : wm w d YX5_clear [.ref this] h (e_is (e_rn c_V q)) := by
  obtain ⟨d, rfl⟩ : ∃ e, d = e + 1 := ⟨d - 1, by omega⟩
  show wp w (d + 1) YX5_clear 0 [some (.ref this)] [] h _
  unfold fX5_clear at hf
  refine w_aload_n dX5_clear_0 rfl rfl ?_
  refine w_iconst dX5_clear_1 (v := 0) (by decide) ?_
  obtain ⟨h1, b2, hf⟩ := Option.bind_eq_some_iff.mp hf
  refine SX5_39 b2 dX5_clear_2 rfl ?_
  refine w_aload_n dX5_clear_5 rfl rfl ?_
  refine w_iconst dX5_clear_6 (v := 0) (by decide) ?_
  obtain ⟨h3, b4, hf⟩ := Option.bind_eq_some_iff.mp hf
  refine SX5_43 b4 dX5_clear_7 rfl ?_
  refine w_aload_n dX5_clear_10 rfl rfl ?_
  obtain ⟨a5, b6, hf⟩ := Option.bind_eq_some_iff.mp hf
  refine GX5_27 b6 dX5_clear_11 rfl ?_
  refine w_iconst dX5_clear_14 (v := 0) (by decide) ?_
  refine x_cnV hf (e_stS (Yc := YJ0_fill_2) (av := [.ref a5, .int (0 : Int32)]) (st := []) dX5_clear_15 q2040 mJ0_fill_2) mJ0_fill_2.2.2.1 mJ0_fill_2.2.2.2.2.1 (Nat.le_of_ble_eq_true rfl) (Nat.le_of_ble_eq_true rfl) (fun q hq => pJ0_fill_2 (by omega) hq) (fun q7 hf => ?_)
  cases hf
  exact w_vret dX5_clear_18 rfl rfl
abbrev cX28_restart : ByteArray := prog_21_method_10_code
def yX28_restart : MethodName := ⟨RX28, "restart", "()V"⟩
def YX28_restart : eY := (yX28_restart, cX28_restart, 1, none, [])
theorem mX28_restart : e_mv YX28_restart RX28 0 := ⟨q2044, q2045, q2046, by decide, by decide +kernel, (e_sig (by decide +kernel))⟩
theorem dX28_restart_0 : decode cX28_restart 0 = .ok (.aload_n 0, 1) := dc_42 (by decide +kernel)
theorem dX28_restart_1 : decode cX28_restart 1 = .ok (.iconst 0, 1) := dc_3 (by decide +kernel)
theorem dX28_restart_2 : decode cX28_restart 2 = .ok (.putfield 102, 3) := dc_181 (a := 0) (b := 102) (n := 102) (by decide +kernel)
theorem dX28_restart_5 : decode cX28_restart 5 = .ok (.aload_n 0, 1) := dc_42 (by decide +kernel)
theorem dX28_restart_6 : decode cX28_restart 6 = .ok (.invokevirtual 35, 3) := dc_182 (a := 0) (b := 35) (n := 35) (by decide +kernel)
theorem dX28_restart_9 : decode cX28_restart 9 = .ok (.return_, 1) := dc_177 (by decide +kernel)
theorem SX28_102 {w : eW} {d : Nat} {Y : eY} {pc : Nat} {ls : eL} {st : List Value} {h : eH} {Q : eO → eH → Prop} {a : Nat} {h' : eH} {x : Int32} (hf : p_V 27 h a 10 (.int x) = some h') (hd : decode Y.2.1 pc = .ok (.putfield 102, 3)) (hY : Y.1.cls = RX28) (kk : wp w d Y (pc + 3) ls st h' Q) : wp w d Y pc ls (.int x :: .ref a :: st) h Q := x_pI (ci := 27) (k := 10) hf hd rfl (by decide) (by rw [hY]; exact q1632) rfl rfl kk
def fX28_restart (N : Nat) (this : Nat) (h : eH) : Option (Unit × eH) :=
  (p_V 27 h this 10 (.int (0 : Int32))).bind fun h1 =>
  (k_ok 27 h1 this).bind fun _ =>
  (fX28_begin N this h1).bind fun q4 =>
  some ((), q4.2)
theorem pX28_restart {w : eW} {d : Nat} (hd : 2 ≤ d) {N : Nat} {this : Nat} {h : eH} {q} (hf : fX28_restart N this h = some q) : wm w d YX28_restart [.ref this] h (e_is (e_rn c_V q)) := by
  obtain ⟨d, rfl⟩ : ∃ e, d = e + 1 := ⟨d - 1, by omega⟩
  show wp w (d + 1) YX28_restart 0 [some (.ref this)] [] h _
  unfold fX28_restart at hf
  refine w_aload_n dX28_restart_0 rfl rfl ?_
  refine w_iconst dX28_restart_1 (v := 0) (by decide) ?_
  obtain ⟨h1, b2, hf⟩ := Option.bind_eq_some_iff.mp hf
  refine SX28_102 b2 dX28_restart_2 rfl ?_
  refine w_aload_n dX28_restart_5 rfl rfl ?_
  obtain ⟨_, b3, hf⟩ := Option.bind_eq_some_iff.mp hf
  refine x_cnV hf (e_stV (Yc := YX28_begin) (ci := 27) (av := []) (st := []) dX28_restart_6 q1609 mX28_begin rfl (k_ok_some b3).1 (k_ok_some b3).2) mX28_begin.2.2.1 mX28_begin.2.2.2.2.1 (Nat.le_of_ble_eq_true rfl) (Nat.le_of_ble_eq_true rfl) (fun q hq => pX28_begin (by omega) hq) (fun q4 hf => ?_)
  cases hf
  exact w_vret dX28_restart_9 rfl rfl
abbrev cX31_begin : ByteArray := prog_35_method_2_code
def yX31_begin : MethodName := ⟨RX31, "begin", "(II)V"⟩
def YX31_begin : eY := (yX31_begin, cX31_begin, 3, none, [])
theorem mX31_begin : e_mv YX31_begin RX31 2 := ⟨q2048, q2049, q2050, by decide, by decide +kernel, (e_sig (by decide +kernel))⟩
theorem dX31_begin_0 : decode cX31_begin 0 = .ok (.aload_n 0, 1) := dc_42 (by decide +kernel)
theorem dX31_begin_1 : decode cX31_begin 1 = .ok (.iload_n 1, 1) := dc_27 (by decide +kernel)
theorem dX31_begin_2 : decode cX31_begin 2 = .ok (.putfield 60, 3) := dc_181 (a := 0) (b := 60) (n := 60) (by decide +kernel)
theorem dX31_begin_5 : decode cX31_begin 5 = .ok (.aload_n 0, 1) := dc_42 (by decide +kernel)
theorem dX31_begin_6 : decode cX31_begin 6 = .ok (.iload_n 2, 1) := dc_28 (by decide +kernel)
theorem dX31_begin_7 : decode cX31_begin 7 = .ok (.putfield 63, 3) := dc_181 (a := 0) (b := 63) (n := 63) (by decide +kernel)
theorem dX31_begin_10 : decode cX31_begin 10 = .ok (.aload_n 0, 1) := dc_42 (by decide +kernel)
theorem dX31_begin_11 : decode cX31_begin 11 = .ok (.getfield 15, 3) := dc_180 (a := 0) (b := 15) (n := 15) (by decide +kernel)
theorem dX31_begin_14 : decode cX31_begin 14 = .ok (.iconst 0, 1) := dc_3 (by decide +kernel)
theorem dX31_begin_15 : decode cX31_begin 15 = .ok (.putfield 66, 3) := dc_181 (a := 0) (b := 66) (n := 66) (by decide +kernel)
theorem dX31_begin_18 : decode cX31_begin 18 = .ok (.aload_n 0, 1) := dc_42 (by decide +kernel)
theorem dX31_begin_19 : decode cX31_begin 19 = .ok (.iconst 0, 1) := dc_3 (by decide +kernel)
theorem dX31_begin_20 : decode cX31_begin 20 = .ok (.putfield 69, 3) := dc_181 (a := 0) (b := 69) (n := 69) (by decide +kernel)
theorem dX31_begin_23 : decode cX31_begin 23 = .ok (.aload_n 0, 1) := dc_42 (by decide +kernel)
theorem dX31_begin_24 : decode cX31_begin 24 = .ok (.iconst 0, 1) := dc_3 (by decide +kernel)
theorem dX31_begin_25 : decode cX31_begin 25 = .ok (.putfield 72, 3) := dc_181 (a := 0) (b := 72) (n := 72) (by decide +kernel)
theorem dX31_begin_28 : decode cX31_begin 28 = .ok (.aload_n 0, 1) := dc_42 (by decide +kernel)
theorem dX31_begin_29 : decode cX31_begin 29 = .ok (.iconst (-1), 1) := dc_2 (by decide +kernel)
theorem dX31_begin_30 : decode cX31_begin 30 = .ok (.putfield 52, 3) := dc_181 (a := 0) (b := 52) (n := 52) (by decide +kernel)
theorem dX31_begin_33 : decode cX31_begin 33 = .ok (.aload_n 0, 1) := dc_42 (by decide +kernel)
theorem dX31_begin_34 : decode cX31_begin 34 = .ok (.iconst 0, 1) := dc_3 (by decide +kernel)
theorem dX31_begin_35 : decode cX31_begin 35 = .ok (.putfield 75, 3) := dc_181 (a := 0) (b := 75) (n := 75) (by decide +kernel)
theorem dX31_begin_38 : decode cX31_begin 38 = .ok (.aload_n 0, 1) := dc_42 (by decide +kernel)
theorem dX31_begin_39 : decode cX31_begin 39 = .ok (.iconst 0, 1) := dc_3 (by decide +kernel)
theorem dX31_begin_40 : decode cX31_begin 40 = .ok (.putfield 78, 3) := dc_181 (a := 0) (b := 78) (n := 78) (by decide +kernel)
theorem dX31_begin_43 : decode cX31_begin 43 = .ok (.aload_n 0, 1) := dc_42 (by decide +kernel)
theorem dX31_begin_44 : decode cX31_begin 44 = .ok (.iconst 0, 1) := dc_3 (by decide +kernel)
theorem dX31_begin_45 : decode cX31_begin 45 = .ok (.putfield 81, 3) := dc_181 (a := 0) (b := 81) (n := 81) (by decide +kernel)
theorem dX31_begin_48 : decode cX31_begin 48 = .ok (.aload_n 0, 1) := dc_42 (by decide +kernel)
theorem dX31_begin_49 : decode cX31_begin 49 = .ok (.getfield 56, 3) := dc_180 (a := 0) (b := 56) (n := 56) (by decide +kernel)
theorem dX31_begin_52 : decode cX31_begin 52 = .ok (.invokevirtual 85, 3) := dc_182 (a := 0) (b := 85) (n := 85) (by decide +kernel)
theorem dX31_begin_55 : decode cX31_begin 55 = .ok (.return_, 1) := dc_177 (by decide +kernel)
theorem GX31_15 {w : eW} {d : Nat} {Y : eY} {pc : Nat} {ls : eL} {st : List Value} {h : eH} {Q : eO → eH → Prop} {a : Nat} {x : Nat} (hf : g_A 30 h a 1 = some x) (hd : decode Y.2.1 pc = .ok (.getfield 15, 3)) (hY : Y.1.cls = RX31) (kk : wp w d Y (pc + 3) ls (.ref x :: st) h Q) : wp w d Y pc ls (.ref a :: st) h Q := x_gA (ci := 30) (k := 1) hf hd rfl (by decide) (by rw [hY]; exact q1715) kk
theorem GX31_56 {w : eW} {d : Nat} {Y : eY} {pc : Nat} {ls : eL} {st : List Value} {h : eH} {Q : eO → eH → Prop} {a : Nat} {x : Nat} (hf : g_A 30 h a 0 = some x) (hd : decode Y.2.1 pc = .ok (.getfield 56, 3)) (hY : Y.1.cls = RX31) (kk : wp w d Y (pc + 3) ls (.ref x :: st) h Q) : wp w d Y pc ls (.ref a :: st) h Q := x_gA (ci := 30) (k := 0) hf hd rfl (by decide) (by rw [hY]; exact q1714) kk
theorem SX31_60 {w : eW} {d : Nat} {Y : eY} {pc : Nat} {ls : eL} {st : List Value} {h : eH} {Q : eO → eH → Prop} {a : Nat} {h' : eH} {x : Int32} (hf : p_V 30 h a 11 (.int x) = some h') (hd : decode Y.2.1 pc = .ok (.putfield 60, 3)) (hY : Y.1.cls = RX31) (kk : wp w d Y (pc + 3) ls st h' Q) : wp w d Y pc ls (.int x :: .ref a :: st) h Q := x_pI (ci := 30) (k := 11) hf hd rfl (by decide) (by rw [hY]; exact q1728) rfl rfl kk
theorem SX31_63 {w : eW} {d : Nat} {Y : eY} {pc : Nat} {ls : eL} {st : List Value} {h : eH} {Q : eO → eH → Prop} {a : Nat} {h' : eH} {x : Int32} (hf : p_V 30 h a 12 (.int x) = some h') (hd : decode Y.2.1 pc = .ok (.putfield 63, 3)) (hY : Y.1.cls = RX31) (kk : wp w d Y (pc + 3) ls st h' Q) : wp w d Y pc ls (.int x :: .ref a :: st) h Q := x_pI (ci := 30) (k := 12) hf hd rfl (by decide) (by rw [hY]; exact q1729) rfl rfl kk
theorem SX31_66 {w : eW} {d : Nat} {Y : eY} {pc : Nat} {ls : eL} {st : List Value} {h : eH} {Q : eO → eH → Prop} {a : Nat} {h' : eH} {x : Int32} (hf : p_V 31 h a 1 (.int x) = some h') (hd : decode Y.2.1 pc = .ok (.putfield 66, 3)) (hY : Y.1.cls = RX31) (kk : wp w d Y (pc + 3) ls st h' Q) : wp w d Y pc ls (.int x :: .ref a :: st) h Q := x_pIN (ci := 31) (k := 1) hf hd rfl (by decide) (by rw [hY]; exact q1673) rfl rfl kk
theorem SX31_69 {w : eW} {d : Nat} {Y : eY} {pc : Nat} {ls : eL} {st : List Value} {h : eH} {Q : eO → eH → Prop} {a : Nat} {h' : eH} {x : Int32} (hf : p_V 30 h a 8 (.int x) = some h') (hd : decode Y.2.1 pc = .ok (.putfield 69, 3)) (hY : Y.1.cls = RX31) (kk : wp w d Y (pc + 3) ls st h' Q) : wp w d Y pc ls (.int x :: .ref a :: st) h Q := x_pI (ci := 30) (k := 8) hf hd rfl (by decide) (by rw [hY]; exact q1724) rfl rfl kk
theorem SX31_72 {w : eW} {d : Nat} {Y : eY} {pc : Nat} {ls : eL} {st : List Value} {h : eH} {Q : eO → eH → Prop} {a : Nat} {h' : eH} {x : Int32} (hf : p_V 30 h a 13 (.int x) = some h') (hd : decode Y.2.1 pc = .ok (.putfield 72, 3)) (hY : Y.1.cls = RX31) (kk : wp w d Y (pc + 3) ls st h' Q) : wp w d Y pc ls (.int x :: .ref a :: st) h Q := x_pI (ci := 30) (k := 13) hf hd rfl (by decide) (by rw [hY]; exact q1730) rfl rfl kk
theorem SX31_75 {w : eW} {d : Nat} {Y : eY} {pc : Nat} {ls : eL} {st : List Value} {h : eH} {Q : eO → eH → Prop} {a : Nat} {h' : eH} {x : Int32} (hf : p_V 30 h a 15 (.int x) = some h') (hd : decode Y.2.1 pc = .ok (.putfield 75, 3)) (hY : Y.1.cls = RX31) (kk : wp w d Y (pc + 3) ls st h' Q) : wp w d Y pc ls (.int x :: .ref a :: st) h Q := x_pI (ci := 30) (k := 15) hf hd rfl (by decide) (by rw [hY]; exact q1733) rfl rfl kk
theorem SX31_78 {w : eW} {d : Nat} {Y : eY} {pc : Nat} {ls : eL} {st : List Value} {h : eH} {Q : eO → eH → Prop} {a : Nat} {h' : eH} {x : Int32} (hf : p_V 30 h a 16 (.int x) = some h') (hd : decode Y.2.1 pc = .ok (.putfield 78, 3)) (hY : Y.1.cls = RX31) (kk : wp w d Y (pc + 3) ls st h' Q) : wp w d Y pc ls (.int x :: .ref a :: st) h Q := x_pI (ci := 30) (k := 16) hf hd rfl (by decide) (by rw [hY]; exact q1734) rfl rfl kk
theorem SX31_81 {w : eW} {d : Nat} {Y : eY} {pc : Nat} {ls : eL} {st : List Value} {h : eH} {Q : eO → eH → Prop} {a : Nat} {h' : eH} {x : Int32} (hf : p_Z 30 h a 17 x = some h') (hd : decode Y.2.1 pc = .ok (.putfield 81, 3)) (hY : Y.1.cls = RX31) (kk : wp w d Y (pc + 3) ls st h' Q) : wp w d Y pc ls (.int x :: .ref a :: st) h Q := x_pZ (ci := 30) (k := 17) hf hd rfl (by decide) (by rw [hY]; exact q1735) rfl rfl kk
def fX31_begin (N : Nat) (this : Nat) (p0 : Int32) (p1 : Int32) (h : eH) : Option (Unit × eH) :=
  (p_V 30 h this 11 (.int p0)).bind fun h1 =>
  (p_V 30 h1 this 12 (.int p1)).bind fun h3 =>
  (g_A 30 h3 this 1).bind fun a5 =>
  (p_V 31 h3 a5 1 (.int (0 : Int32))).bind fun h7 =>
  (p_V 30 h7 this 8 (.int (0 : Int32))).bind fun h9 =>
  (p_V 30 h9 this 13 (.int (0 : Int32))).bind fun h11 =>
  (p_V 30 h11 this 14 (.int (-1 : Int32))).bind fun h13 =>
  (p_V 30 h13 this 15 (.int (0 : Int32))).bind fun h15 =>
  (p_V 30 h15 this 16 (.int (0 : Int32))).bind fun h17 =>
  (p_Z 30 h17 this 17 (0 : Int32)).bind fun h19 =>
  (g_A 30 h19 this 0).bind fun a21 =>
  (k_ok 4 h19 a21).bind fun _ =>
  (fX5_clear N a21 h19).bind fun q24 =>
  some ((), q24.2)
theorem pX31_begin {w : eW} {d : Nat} (hd : 2 ≤ d) {N : Nat} {this : Nat} {p0 : Int32} {p1 : Int32} {h : eH} {q} (hf : fX31_begin N this p0 p1 h = some q) : wm w d YX31_begin [.ref this, .int p0, .int p1] h (e_is (e_rn c_V q)) := by
  obtain ⟨d, rfl⟩ : ∃ e, d = e + 1 := ⟨d - 1, by omega⟩
  show wp w (d + 1) YX31_begin 0 [some (.ref this), some (.int p0), some (.int p1)] [] h _
  unfold fX31_begin at hf
  refine w_aload_n dX31_begin_0 rfl rfl ?_
  refine w_iload_n dX31_begin_1 rfl rfl ?_
  obtain ⟨h1, b2, hf⟩ := Option.bind_eq_some_iff.mp hf
  refine SX31_60 b2 dX31_begin_2 rfl ?_
  refine w_aload_n dX31_begin_5 rfl rfl ?_
  refine w_iload_n dX31_begin_6 rfl rfl ?_
  obtain ⟨h3, b4, hf⟩ := Option.bind_eq_some_iff.mp hf
  refine SX31_63 b4 dX31_begin_7 rfl ?_
  refine w_aload_n dX31_begin_10 rfl rfl ?_
  obtain ⟨a5, b6, hf⟩ := Option.bind_eq_some_iff.mp hf
  refine GX31_15 b6 dX31_begin_11 rfl ?_
  refine w_iconst dX31_begin_14 (v := 0) (by decide) ?_
  obtain ⟨h7, b8, hf⟩ := Option.bind_eq_some_iff.mp hf
  refine SX31_66 b8 dX31_begin_15 rfl ?_
  refine w_aload_n dX31_begin_18 rfl rfl ?_
  refine w_iconst dX31_begin_19 (v := 0) (by decide) ?_
  obtain ⟨h9, b10, hf⟩ := Option.bind_eq_some_iff.mp hf
  refine SX31_69 b10 dX31_begin_20 rfl ?_
  refine w_aload_n dX31_begin_23 rfl rfl ?_
  refine w_iconst dX31_begin_24 (v := 0) (by decide) ?_
  obtain ⟨h11, b12, hf⟩ := Option.bind_eq_some_iff.mp hf
  refine SX31_72 b12 dX31_begin_25 rfl ?_
  refine w_aload_n dX31_begin_28 rfl rfl ?_
  refine w_iconst dX31_begin_29 (v := -1) (by decide) ?_
  obtain ⟨h13, b14, hf⟩ := Option.bind_eq_some_iff.mp hf
  refine SX31_52 b14 dX31_begin_30 rfl ?_
  refine w_aload_n dX31_begin_33 rfl rfl ?_
  refine w_iconst dX31_begin_34 (v := 0) (by decide) ?_
  obtain ⟨h15, b16, hf⟩ := Option.bind_eq_some_iff.mp hf
  refine SX31_75 b16 dX31_begin_35 rfl ?_
  refine w_aload_n dX31_begin_38 rfl rfl ?_
  refine w_iconst dX31_begin_39 (v := 0) (by decide) ?_
  obtain ⟨h17, b18, hf⟩ := Option.bind_eq_some_iff.mp hf
  refine SX31_78 b18 dX31_begin_40 rfl ?_
  refine w_aload_n dX31_begin_43 rfl rfl ?_
  refine w_iconst dX31_begin_44 (v := 0) (by decide) ?_
  obtain ⟨h19, b20, hf⟩ := Option.bind_eq_some_iff.mp hf
  refine SX31_81 b20 dX31_begin_45 rfl ?_
  refine w_aload_n dX31_begin_48 rfl rfl ?_
  obtain ⟨a21, b22, hf⟩ := Option.bind_eq_some_iff.mp hf
  refine GX31_56 b22 dX31_begin_49 rfl ?_
  obtain ⟨_, b23, hf⟩ := Option.bind_eq_some_iff.mp hf
  refine x_cnV hf (e_stV (Yc := YX5_clear) (ci := 4) (av := []) (st := []) dX31_begin_52 q2051 mX5_clear rfl (k_ok_some b23).1 (k_ok_some b23).2) mX5_clear.2.2.1 mX5_clear.2.2.2.2.1 (Nat.le_of_ble_eq_true rfl) (Nat.le_of_ble_eq_true rfl) (fun q hq => pX5_clear (by omega) hq) (fun q24 hf => ?_)
  cases hf
  exact w_vret dX31_begin_55 rfl rfl
abbrev cX3_begin : ByteArray := prog_26_method_2_code
def yX3_begin : MethodName := ⟨RX3, "begin", "()V"⟩
def YX3_begin : eY := (yX3_begin, cX3_begin, 1, none, [])
theorem mX3_begin : e_mv YX3_begin RX3 0 := ⟨q1908, qs2, q1909, by decide, by decide +kernel, (e_sig (by decide +kernel))⟩
theorem dX3_begin_0 : decode cX3_begin 0 = .ok (.aload_n 0, 1) := dc_42 (by decide +kernel)
theorem dX3_begin_1 : decode cX3_begin 1 = .ok (.getfield 45, 3) := dc_180 (a := 0) (b := 45) (n := 45) (by decide +kernel)
theorem dX3_begin_4 : decode cX3_begin 4 = .ok (.invokevirtual 181, 3) := dc_182 (a := 0) (b := 181) (n := 181) (by decide +kernel)
theorem dX3_begin_7 : decode cX3_begin 7 = .ok (.aload_n 0, 1) := dc_42 (by decide +kernel)
theorem dX3_begin_8 : decode cX3_begin 8 = .ok (.getfield 23, 3) := dc_180 (a := 0) (b := 23) (n := 23) (by decide +kernel)
theorem dX3_begin_11 : decode cX3_begin 11 = .ok (.invokevirtual 184, 3) := dc_182 (a := 0) (b := 184) (n := 184) (by decide +kernel)
theorem dX3_begin_14 : decode cX3_begin 14 = .ok (.aload_n 0, 1) := dc_42 (by decide +kernel)
theorem dX3_begin_15 : decode cX3_begin 15 = .ok (.getfield 30, 3) := dc_180 (a := 0) (b := 30) (n := 30) (by decide +kernel)
theorem dX3_begin_18 : decode cX3_begin 18 = .ok (.iconst 0, 1) := dc_3 (by decide +kernel)
theorem dX3_begin_19 : decode cX3_begin 19 = .ok (.putfield 187, 3) := dc_181 (a := 0) (b := 187) (n := 187) (by decide +kernel)
theorem dX3_begin_22 : decode cX3_begin 22 = .ok (.aload_n 0, 1) := dc_42 (by decide +kernel)
theorem dX3_begin_23 : decode cX3_begin 23 = .ok (.iconst 0, 1) := dc_3 (by decide +kernel)
theorem dX3_begin_24 : decode cX3_begin 24 = .ok (.putfield 191, 3) := dc_181 (a := 0) (b := 191) (n := 191) (by decide +kernel)
theorem dX3_begin_27 : decode cX3_begin 27 = .ok (.aload_n 0, 1) := dc_42 (by decide +kernel)
theorem dX3_begin_28 : decode cX3_begin 28 = .ok (.getfield 94, 3) := dc_180 (a := 0) (b := 94) (n := 94) (by decide +kernel)
theorem dX3_begin_31 : decode cX3_begin 31 = .ok (.iconst 0, 1) := dc_3 (by decide +kernel)
theorem dX3_begin_32 : decode cX3_begin 32 = .ok (.putfield 194, 3) := dc_181 (a := 0) (b := 194) (n := 194) (by decide +kernel)
theorem dX3_begin_35 : decode cX3_begin 35 = .ok (.aload_n 0, 1) := dc_42 (by decide +kernel)
theorem dX3_begin_36 : decode cX3_begin 36 = .ok (.getfield 103, 3) := dc_180 (a := 0) (b := 103) (n := 103) (by decide +kernel)
theorem dX3_begin_39 : decode cX3_begin 39 = .ok (.invokevirtual 195, 3) := dc_182 (a := 0) (b := 195) (n := 195) (by decide +kernel)
theorem dX3_begin_42 : decode cX3_begin 42 = .ok (.aload_n 0, 1) := dc_42 (by decide +kernel)
theorem dX3_begin_43 : decode cX3_begin 43 = .ok (.getfield 87, 3) := dc_180 (a := 0) (b := 87) (n := 87) (by decide +kernel)
theorem dX3_begin_46 : decode cX3_begin 46 = .ok (.getfield 198, 3) := dc_180 (a := 0) (b := 198) (n := 198) (by decide +kernel)
theorem dX3_begin_49 : decode cX3_begin 49 = .ok (.iconst 0, 1) := dc_3 (by decide +kernel)
theorem dX3_begin_50 : decode cX3_begin 50 = .ok (.putfield 202, 3) := dc_181 (a := 0) (b := 202) (n := 202) (by decide +kernel)
theorem dX3_begin_53 : decode cX3_begin 53 = .ok (.aload_n 0, 1) := dc_42 (by decide +kernel)
theorem dX3_begin_54 : decode cX3_begin 54 = .ok (.getfield 119, 3) := dc_180 (a := 0) (b := 119) (n := 119) (by decide +kernel)
theorem dX3_begin_57 : decode cX3_begin 57 = .ok (.iconst 0, 1) := dc_3 (by decide +kernel)
theorem dX3_begin_58 : decode cX3_begin 58 = .ok (.iconst 0, 1) := dc_3 (by decide +kernel)
theorem dX3_begin_59 : decode cX3_begin 59 = .ok (.invokevirtual 207, 3) := dc_182 (a := 0) (b := 207) (n := 207) (by decide +kernel)
theorem dX3_begin_62 : decode cX3_begin 62 = .ok (.aload_n 0, 1) := dc_42 (by decide +kernel)
theorem dX3_begin_63 : decode cX3_begin 63 = .ok (.getfield 126, 3) := dc_180 (a := 0) (b := 126) (n := 126) (by decide +kernel)
theorem dX3_begin_66 : decode cX3_begin 66 = .ok (.iconst 0, 1) := dc_3 (by decide +kernel)
theorem dX3_begin_67 : decode cX3_begin 67 = .ok (.putfield 210, 3) := dc_181 (a := 0) (b := 210) (n := 210) (by decide +kernel)
theorem dX3_begin_70 : decode cX3_begin 70 = .ok (.aload_n 0, 1) := dc_42 (by decide +kernel)
theorem dX3_begin_71 : decode cX3_begin 71 = .ok (.iconst 0, 1) := dc_3 (by decide +kernel)
theorem dX3_begin_72 : decode cX3_begin 72 = .ok (.putfield 211, 3) := dc_181 (a := 0) (b := 211) (n := 211) (by decide +kernel)
theorem dX3_begin_75 : decode cX3_begin 75 = .ok (.aload_n 0, 1) := dc_42 (by decide +kernel)
theorem dX3_begin_76 : decode cX3_begin 76 = .ok (.getfield 136, 3) := dc_180 (a := 0) (b := 136) (n := 136) (by decide +kernel)
theorem dX3_begin_79 : decode cX3_begin 79 = .ok (.iconst 0, 1) := dc_3 (by decide +kernel)
theorem dX3_begin_80 : decode cX3_begin 80 = .ok (.iconst 0, 1) := dc_3 (by decide +kernel)
theorem dX3_begin_81 : decode cX3_begin 81 = .ok (.iastore, 1) := dc_79 (by decide +kernel)
theorem dX3_begin_82 : decode cX3_begin 82 = .ok (.aload_n 0, 1) := dc_42 (by decide +kernel)
theorem dX3_begin_83 : decode cX3_begin 83 = .ok (.getfield 140, 3) := dc_180 (a := 0) (b := 140) (n := 140) (by decide +kernel)
theorem dX3_begin_86 : decode cX3_begin 86 = .ok (.iconst 0, 1) := dc_3 (by decide +kernel)
theorem dX3_begin_87 : decode cX3_begin 87 = .ok (.iconst 0, 1) := dc_3 (by decide +kernel)
theorem dX3_begin_88 : decode cX3_begin 88 = .ok (.iastore, 1) := dc_79 (by decide +kernel)
theorem dX3_begin_89 : decode cX3_begin 89 = .ok (.aload_n 0, 1) := dc_42 (by decide +kernel)
theorem dX3_begin_90 : decode cX3_begin 90 = .ok (.getfield 143, 3) := dc_180 (a := 0) (b := 143) (n := 143) (by decide +kernel)
theorem dX3_begin_93 : decode cX3_begin 93 = .ok (.iconst 0, 1) := dc_3 (by decide +kernel)
theorem dX3_begin_94 : decode cX3_begin 94 = .ok (.ldc 214, 2) := dc_18 (a := 214) (by decide +kernel)
theorem dX3_begin_96 : decode cX3_begin 96 = .ok (.iastore, 1) := dc_79 (by decide +kernel)
theorem dX3_begin_97 : decode cX3_begin 97 = .ok (.aload_n 0, 1) := dc_42 (by decide +kernel)
theorem dX3_begin_98 : decode cX3_begin 98 = .ok (.getfield 45, 3) := dc_180 (a := 0) (b := 45) (n := 45) (by decide +kernel)
theorem dX3_begin_101 : decode cX3_begin 101 = .ok (.iconst 1, 1) := dc_4 (by decide +kernel)
theorem dX3_begin_102 : decode cX3_begin 102 = .ok (.putfield 215, 3) := dc_181 (a := 0) (b := 215) (n := 215) (by decide +kernel)
theorem dX3_begin_105 : decode cX3_begin 105 = .ok (.aload_n 0, 1) := dc_42 (by decide +kernel)
theorem dX3_begin_106 : decode cX3_begin 106 = .ok (.iconst 0, 1) := dc_3 (by decide +kernel)
theorem dX3_begin_107 : decode cX3_begin 107 = .ok (.putfield 219, 3) := dc_181 (a := 0) (b := 219) (n := 219) (by decide +kernel)
theorem dX3_begin_110 : decode cX3_begin 110 = .ok (.aload_n 0, 1) := dc_42 (by decide +kernel)
theorem dX3_begin_111 : decode cX3_begin 111 = .ok (.iconst 0, 1) := dc_3 (by decide +kernel)
theorem dX3_begin_112 : decode cX3_begin 112 = .ok (.putfield 222, 3) := dc_181 (a := 0) (b := 222) (n := 222) (by decide +kernel)
theorem dX3_begin_115 : decode cX3_begin 115 = .ok (.aload_n 0, 1) := dc_42 (by decide +kernel)
theorem dX3_begin_116 : decode cX3_begin 116 = .ok (.getfield 178, 3) := dc_180 (a := 0) (b := 178) (n := 178) (by decide +kernel)
theorem dX3_begin_119 : decode cX3_begin 119 = .ok (.iconst 0, 1) := dc_3 (by decide +kernel)
theorem dX3_begin_120 : decode cX3_begin 120 = .ok (.invokestatic 225, 3) := dc_184 (a := 0) (b := 225) (n := 225) (by decide +kernel)
theorem dX3_begin_123 : decode cX3_begin 123 = .ok (.return_, 1) := dc_177 (by decide +kernel)
theorem GX3_103 {w : eW} {d : Nat} {Y : eY} {pc : Nat} {ls : eL} {st : List Value} {h : eH} {Q : eO → eH → Prop} {a : Nat} {x : Nat} (hf : g_A 2 h a 13 = some x) (hd : decode Y.2.1 pc = .ok (.getfield 103, 3)) (hY : Y.1.cls = RX3) (kk : wp w d Y (pc + 3) ls (.ref x :: st) h Q) : wp w d Y pc ls (.ref a :: st) h Q := x_gA (ci := 2) (k := 13) hf hd rfl (by decide) (by rw [hY]; exact q1804) kk
theorem GX3_119 {w : eW} {d : Nat} {Y : eY} {pc : Nat} {ls : eL} {st : List Value} {h : eH} {Q : eO → eH → Prop} {a : Nat} {x : Nat} (hf : g_A 2 h a 15 = some x) (hd : decode Y.2.1 pc = .ok (.getfield 119, 3)) (hY : Y.1.cls = RX3) (kk : wp w d Y (pc + 3) ls (.ref x :: st) h Q) : wp w d Y pc ls (.ref a :: st) h Q := x_gA (ci := 2) (k := 15) hf hd rfl (by decide) (by rw [hY]; exact q1806) kk
theorem GX3_126 {w : eW} {d : Nat} {Y : eY} {pc : Nat} {ls : eL} {st : List Value} {h : eH} {Q : eO → eH → Prop} {a : Nat} {x : Nat} (hf : g_A 2 h a 16 = some x) (hd : decode Y.2.1 pc = .ok (.getfield 126, 3)) (hY : Y.1.cls = RX3) (kk : wp w d Y (pc + 3) ls (.ref x :: st) h Q) : wp w d Y pc ls (.ref a :: st) h Q := x_gA (ci := 2) (k := 16) hf hd rfl (by decide) (by rw [hY]; exact q1808) kk
theorem GX3_136 {w : eW} {d : Nat} {Y : eY} {pc : Nat} {ls : eL} {st : List Value} {h : eH} {Q : eO → eH → Prop} {a : Nat} {x : Nat} (hf : g_A 2 h a 19 = some x) (hd : decode Y.2.1 pc = .ok (.getfield 136, 3)) (hY : Y.1.cls = RX3) (kk : wp w d Y (pc + 3) ls (.ref x :: st) h Q) : wp w d Y pc ls (.ref a :: st) h Q := x_gA (ci := 2) (k := 19) hf hd rfl (by decide) (by rw [hY]; exact q1811) kk
theorem GX3_140 {w : eW} {d : Nat} {Y : eY} {pc : Nat} {ls : eL} {st : List Value} {h : eH} {Q : eO → eH → Prop} {a : Nat} {x : Nat} (hf : g_A 2 h a 20 = some x) (hd : decode Y.2.1 pc = .ok (.getfield 140, 3)) (hY : Y.1.cls = RX3) (kk : wp w d Y (pc + 3) ls (.ref x :: st) h Q) : wp w d Y pc ls (.ref a :: st) h Q := x_gA (ci := 2) (k := 20) hf hd rfl (by decide) (by rw [hY]; exact q1812) kk
theorem GX3_143 {w : eW} {d : Nat} {Y : eY} {pc : Nat} {ls : eL} {st : List Value} {h : eH} {Q : eO → eH → Prop} {a : Nat} {x : Nat} (hf : g_A 2 h a 21 = some x) (hd : decode Y.2.1 pc = .ok (.getfield 143, 3)) (hY : Y.1.cls = RX3) (kk : wp w d Y (pc + 3) ls (.ref x :: st) h Q) : wp w d Y pc ls (.ref a :: st) h Q := x_gA (ci := 2) (k := 21) hf hd rfl (by decide) (by rw [hY]; exact q1813) kk
theorem GX3_178 {w : eW} {d : Nat} {Y : eY} {pc : Nat} {ls : eL} {st : List Value} {h : eH} {Q : eO → eH → Prop} {a : Nat} {x : Nat} (hf : g_A 2 h a 36 = some x) (hd : decode Y.2.1 pc = .ok (.getfield 178, 3)) (hY : Y.1.cls = RX3) (kk : wp w d Y (pc + 3) ls (.ref x :: st) h Q) : wp w d Y pc ls (.ref a :: st) h Q := x_gA (ci := 2) (k := 36) hf hd rfl (by decide) (by rw [hY]; exact q1828) kk
theorem GX3_198 {w : eW} {d : Nat} {Y : eY} {pc : Nat} {ls : eL} {st : List Value} {h : eH} {Q : eO → eH → Prop} {a : Nat} {x : Nat} (hf : g_A 20 h a 5 = some x) (hd : decode Y.2.1 pc = .ok (.getfield 198, 3)) (hY : Y.1.cls = RX3) (kk : wp w d Y (pc + 3) ls (.ref x :: st) h Q) : wp w d Y pc ls (.ref a :: st) h Q := x_gAN (ci := 20) (k := 5) hf hd rfl (by decide) (by rw [hY]; exact q1455) kk
theorem GX3_87 {w : eW} {d : Nat} {Y : eY} {pc : Nat} {ls : eL} {st : List Value} {h : eH} {Q : eO → eH → Prop} {a : Nat} {x : Nat} (hf : g_A 2 h a 11 = some x) (hd : decode Y.2.1 pc = .ok (.getfield 87, 3)) (hY : Y.1.cls = RX3) (kk : wp w d Y (pc + 3) ls (.ref x :: st) h Q) : wp w d Y pc ls (.ref a :: st) h Q := x_gA (ci := 2) (k := 11) hf hd rfl (by decide) (by rw [hY]; exact q1802) kk
theorem SX3_187 {w : eW} {d : Nat} {Y : eY} {pc : Nat} {ls : eL} {st : List Value} {h : eH} {Q : eO → eH → Prop} {a : Nat} {h' : eH} {x : Int32} (hf : p_V 6 h a 3 (.int x) = some h') (hd : decode Y.2.1 pc = .ok (.putfield 187, 3)) (hY : Y.1.cls = RX3) (kk : wp w d Y (pc + 3) ls st h' Q) : wp w d Y pc ls (.int x :: .ref a :: st) h Q := x_pIN (ci := 6) (k := 3) hf hd rfl (by decide) (by rw [hY]; exact q626) rfl rfl kk
theorem SX3_191 {w : eW} {d : Nat} {Y : eY} {pc : Nat} {ls : eL} {st : List Value} {h : eH} {Q : eO → eH → Prop} {a : Nat} {h' : eH} {x : Int32} (hf : p_V 2 h a 4 (.int x) = some h') (hd : decode Y.2.1 pc = .ok (.putfield 191, 3)) (hY : Y.1.cls = RX3) (kk : wp w d Y (pc + 3) ls st h' Q) : wp w d Y pc ls (.int x :: .ref a :: st) h Q := x_pI (ci := 2) (k := 4) hf hd rfl (by decide) (by rw [hY]; exact q1792) rfl rfl kk
theorem SX3_194 {w : eW} {d : Nat} {Y : eY} {pc : Nat} {ls : eL} {st : List Value} {h : eH} {Q : eO → eH → Prop} {a : Nat} {h' : eH} {x : Int32} (hf : p_V 26 h a 6 (.int x) = some h') (hd : decode Y.2.1 pc = .ok (.putfield 194, 3)) (hY : Y.1.cls = RX3) (kk : wp w d Y (pc + 3) ls st h' Q) : wp w d Y pc ls (.int x :: .ref a :: st) h Q := x_pIN (ci := 26) (k := 6) hf hd rfl (by decide) (by rw [hY]; exact q1509) rfl rfl kk
theorem SX3_202 {w : eW} {d : Nat} {Y : eY} {pc : Nat} {ls : eL} {st : List Value} {h : eH} {Q : eO → eH → Prop} {a : Nat} {h' : eH} {x : Int32} (hf : p_V 23 h a 14 (.int x) = some h') (hd : decode Y.2.1 pc = .ok (.putfield 202, 3)) (hY : Y.1.cls = RX3) (kk : wp w d Y (pc + 3) ls st h' Q) : wp w d Y pc ls (.int x :: .ref a :: st) h Q := x_pIN (ci := 23) (k := 14) hf hd rfl (by decide) (by rw [hY]; exact q1410) rfl rfl kk
theorem SX3_210 {w : eW} {d : Nat} {Y : eY} {pc : Nat} {ls : eL} {st : List Value} {h : eH} {Q : eO → eH → Prop} {a : Nat} {h' : eH} {x : Int32} (hf : p_V 33 h a 1 (.int x) = some h') (hd : decode Y.2.1 pc = .ok (.putfield 210, 3)) (hY : Y.1.cls = RX3) (kk : wp w d Y (pc + 3) ls st h' Q) : wp w d Y pc ls (.int x :: .ref a :: st) h Q := x_pIN (ci := 33) (k := 1) hf hd rfl (by decide) (by rw [hY]; exact q1781) rfl rfl kk
theorem SX3_211 {w : eW} {d : Nat} {Y : eY} {pc : Nat} {ls : eL} {st : List Value} {h : eH} {Q : eO → eH → Prop} {a : Nat} {h' : eH} {x : Int32} (hf : p_V 2 h a 27 (.int x) = some h') (hd : decode Y.2.1 pc = .ok (.putfield 211, 3)) (hY : Y.1.cls = RX3) (kk : wp w d Y (pc + 3) ls st h' Q) : wp w d Y pc ls (.int x :: .ref a :: st) h Q := x_pI (ci := 2) (k := 27) hf hd rfl (by decide) (by rw [hY]; exact q1819) rfl rfl kk
theorem SX3_215 {w : eW} {d : Nat} {Y : eY} {pc : Nat} {ls : eL} {st : List Value} {h : eH} {Q : eO → eH → Prop} {a : Nat} {h' : eH} {x : Int32} (hf : p_Z 7 h a 11 x = some h') (hd : decode Y.2.1 pc = .ok (.putfield 215, 3)) (hY : Y.1.cls = RX3) (kk : wp w d Y (pc + 3) ls st h' Q) : wp w d Y pc ls (.int x :: .ref a :: st) h Q := x_pZN (ci := 7) (k := 11) hf hd rfl (by decide) (by rw [hY]; exact q847) rfl rfl kk
theorem SX3_219 {w : eW} {d : Nat} {Y : eY} {pc : Nat} {ls : eL} {st : List Value} {h : eH} {Q : eO → eH → Prop} {a : Nat} {h' : eH} {x : Int32} (hf : p_V 2 h a 30 (.int x) = some h') (hd : decode Y.2.1 pc = .ok (.putfield 219, 3)) (hY : Y.1.cls = RX3) (kk : wp w d Y (pc + 3) ls st h' Q) : wp w d Y pc ls (.int x :: .ref a :: st) h Q := x_pI (ci := 2) (k := 30) hf hd rfl (by decide) (by rw [hY]; exact q1822) rfl rfl kk
theorem SX3_222 {w : eW} {d : Nat} {Y : eY} {pc : Nat} {ls : eL} {st : List Value} {h : eH} {Q : eO → eH → Prop} {a : Nat} {h' : eH} {x : Int32} (hf : p_Z 2 h a 35 x = some h') (hd : decode Y.2.1 pc = .ok (.putfield 222, 3)) (hY : Y.1.cls = RX3) (kk : wp w d Y (pc + 3) ls st h' Q) : wp w d Y pc ls (.int x :: .ref a :: st) h Q := x_pZ (ci := 2) (k := 35) hf hd rfl (by decide) (by rw [hY]; exact q1827) rfl rfl kk
def fX3_begin (N : Nat) (this : Nat) (h : eH) : Option (Unit × eH) :=
  (g_A 2 h this 5).bind fun a1 =>
  (k_ok 7 h a1).bind fun _ =>
  (fX8_begin N a1 h).bind fun q4 =>
  (g_A 2 q4.2 this 1).bind fun a5 =>
  (k_ok 4 q4.2 a5).bind fun _ =>
  (fX5_clear N a5 q4.2).bind fun q8 =>
  (g_A 2 q8.2 this 2).bind fun a9 =>
  (p_V 6 q8.2 a9 3 (.int (0 : Int32))).bind fun h11 =>
  (p_V 2 h11 this 4 (.int (0 : Int32))).bind fun h13 =>
  (g_A 2 h13 this 12).bind fun a15 =>
  (p_V 26 h13 a15 6 (.int (0 : Int32))).bind fun h17 =>
  (g_A 2 h17 this 13).bind fun a19 =>
  (k_ok 27 h17 a19).bind fun _ =>
  (fX28_restart N a19 h17).bind fun q22 =>
  (g_A 2 q22.2 this 11).bind fun a23 =>
  (g_A 20 q22.2 a23 5).bind fun a25 =>
  (p_V 23 q22.2 a25 14 (.int (0 : Int32))).bind fun h27 =>
  (g_A 2 h27 this 15).bind fun a29 =>
  (k_ok 30 h27 a29).bind fun _ =>
  (fX31_begin N a29 (0 : Int32) (0 : Int32) h27).bind fun q32 =>
  (g_A 2 q32.2 this 16).bind fun a33 =>
  (p_V 33 q32.2 a33 1 (.int (0 : Int32))).bind fun h35 =>
  (p_V 2 h35 this 27 (.int (0 : Int32))).bind fun h37 =>
  (g_A 2 h37 this 19).bind fun a39 =>
  (q_V 100 h37 a39 (0 : Int32) (.int (0 : Int32))).bind fun h41 =>
  (g_A 2 h41 this 20).bind fun a43 =>
  (q_V 100 h41 a43 (0 : Int32) (.int (0 : Int32))).bind fun h45 =>
  (g_A 2 h45 this 21).bind fun a47 =>
  (q_V 100 h45 a47 (0 : Int32) (.int (-2147483648 : Int32))).bind fun h49 =>
  (g_A 2 h49 this 5).bind fun a51 =>
  (p_Z 7 h49 a51 11 (1 : Int32)).bind fun h53 =>
  (p_V 2 h53 this 30 (.int (0 : Int32))).bind fun h55 =>
  (p_Z 2 h55 this 35 (0 : Int32)).bind fun h57 =>
  (g_A 2 h57 this 36).bind fun a59 =>
  (fJ0_fill N a59 (0 : Int32) h57).bind fun q61 =>
  some ((), q61.2)
theorem pX3_begin {w : eW} {d : Nat} (hd : 6 ≤ d) {N : Nat} {this : Nat} {h : eH} {q} (hf : fX3_begin N this h = some q) : wm w d YX3_begin [.ref this] h (e_is (e_rn c_V q)) := by
  obtain ⟨d, rfl⟩ : ∃ e, d = e + 1 := ⟨d - 1, by omega⟩
  show wp w (d + 1) YX3_begin 0 [some (.ref this)] [] h _
  unfold fX3_begin at hf
  refine w_aload_n dX3_begin_0 rfl rfl ?_
  obtain ⟨a1, b2, hf⟩ := Option.bind_eq_some_iff.mp hf
  refine GX3_45 b2 dX3_begin_1 rfl ?_
  obtain ⟨_, b3, hf⟩ := Option.bind_eq_some_iff.mp hf
  refine x_cnV hf (e_stVN (Yc := YX8_begin) (ci := 7) (av := []) (st := []) dX3_begin_4 q1910 mX8_begin rfl (k_ok_some b3).1 (k_ok_some b3).2) mX8_begin.2.2.1 mX8_begin.2.2.2.2.1 (Nat.le_of_ble_eq_true rfl) (Nat.le_of_ble_eq_true rfl) (fun q hq => pX8_begin (by omega) hq) (fun q4 hf => ?_)
  refine w_aload_n dX3_begin_7 rfl rfl ?_
  obtain ⟨a5, b6, hf⟩ := Option.bind_eq_some_iff.mp hf
  refine GX3_23 b6 dX3_begin_8 rfl ?_
  obtain ⟨_, b7, hf⟩ := Option.bind_eq_some_iff.mp hf
  refine x_cnV hf (e_stV (Yc := YX5_clear) (ci := 4) (av := []) (st := []) dX3_begin_11 q2036 mX5_clear rfl (k_ok_some b7).1 (k_ok_some b7).2) mX5_clear.2.2.1 mX5_clear.2.2.2.2.1 (Nat.le_of_ble_eq_true rfl) (Nat.le_of_ble_eq_true rfl) (fun q hq => pX5_clear (by omega) hq) (fun q8 hf => ?_)
  refine w_aload_n dX3_begin_14 rfl rfl ?_
  obtain ⟨a9, b10, hf⟩ := Option.bind_eq_some_iff.mp hf
  refine GX3_30 b10 dX3_begin_15 rfl ?_
  refine w_iconst dX3_begin_18 (v := 0) (by decide) ?_
  obtain ⟨h11, b12, hf⟩ := Option.bind_eq_some_iff.mp hf
  refine SX3_187 b12 dX3_begin_19 rfl ?_
  refine w_aload_n dX3_begin_22 rfl rfl ?_
  refine w_iconst dX3_begin_23 (v := 0) (by decide) ?_
  obtain ⟨h13, b14, hf⟩ := Option.bind_eq_some_iff.mp hf
  refine SX3_191 b14 dX3_begin_24 rfl ?_
  refine w_aload_n dX3_begin_27 rfl rfl ?_
  obtain ⟨a15, b16, hf⟩ := Option.bind_eq_some_iff.mp hf
  refine GX3_94 b16 dX3_begin_28 rfl ?_
  refine w_iconst dX3_begin_31 (v := 0) (by decide) ?_
  obtain ⟨h17, b18, hf⟩ := Option.bind_eq_some_iff.mp hf
  refine SX3_194 b18 dX3_begin_32 rfl ?_
  refine w_aload_n dX3_begin_35 rfl rfl ?_
  obtain ⟨a19, b20, hf⟩ := Option.bind_eq_some_iff.mp hf
  refine GX3_103 b20 dX3_begin_36 rfl ?_
  obtain ⟨_, b21, hf⟩ := Option.bind_eq_some_iff.mp hf
  refine x_cnV hf (e_stV (Yc := YX28_restart) (ci := 27) (av := []) (st := []) dX3_begin_39 q2043 mX28_restart rfl (k_ok_some b21).1 (k_ok_some b21).2) mX28_restart.2.2.1 mX28_restart.2.2.2.2.1 (Nat.le_of_ble_eq_true rfl) (Nat.le_of_ble_eq_true rfl) (fun q hq => pX28_restart (by omega) hq) (fun q22 hf => ?_)
  refine w_aload_n dX3_begin_42 rfl rfl ?_
  obtain ⟨a23, b24, hf⟩ := Option.bind_eq_some_iff.mp hf
  refine GX3_87 b24 dX3_begin_43 rfl ?_
  obtain ⟨a25, b26, hf⟩ := Option.bind_eq_some_iff.mp hf
  refine GX3_198 b26 dX3_begin_46 rfl ?_
  refine w_iconst dX3_begin_49 (v := 0) (by decide) ?_
  obtain ⟨h27, b28, hf⟩ := Option.bind_eq_some_iff.mp hf
  refine SX3_202 b28 dX3_begin_50 rfl ?_
  refine w_aload_n dX3_begin_53 rfl rfl ?_
  obtain ⟨a29, b30, hf⟩ := Option.bind_eq_some_iff.mp hf
  refine GX3_119 b30 dX3_begin_54 rfl ?_
  refine w_iconst dX3_begin_57 (v := 0) (by decide) ?_
  refine w_iconst dX3_begin_58 (v := 0) (by decide) ?_
  obtain ⟨_, b31, hf⟩ := Option.bind_eq_some_iff.mp hf
  refine x_cnV hf (e_stV (Yc := YX31_begin) (ci := 30) (av := [.int (0 : Int32), .int (0 : Int32)]) (st := []) dX3_begin_59 q2047 mX31_begin rfl (k_ok_some b31).1 (k_ok_some b31).2) mX31_begin.2.2.1 mX31_begin.2.2.2.2.1 (Nat.le_of_ble_eq_true rfl) (Nat.le_of_ble_eq_true rfl) (fun q hq => pX31_begin (by omega) hq) (fun q32 hf => ?_)
  refine w_aload_n dX3_begin_62 rfl rfl ?_
  obtain ⟨a33, b34, hf⟩ := Option.bind_eq_some_iff.mp hf
  refine GX3_126 b34 dX3_begin_63 rfl ?_
  refine w_iconst dX3_begin_66 (v := 0) (by decide) ?_
  obtain ⟨h35, b36, hf⟩ := Option.bind_eq_some_iff.mp hf
  refine SX3_210 b36 dX3_begin_67 rfl ?_
  refine w_aload_n dX3_begin_70 rfl rfl ?_
  refine w_iconst dX3_begin_71 (v := 0) (by decide) ?_
  obtain ⟨h37, b38, hf⟩ := Option.bind_eq_some_iff.mp hf
  refine SX3_211 b38 dX3_begin_72 rfl ?_
  refine w_aload_n dX3_begin_75 rfl rfl ?_
  obtain ⟨a39, b40, hf⟩ := Option.bind_eq_some_iff.mp hf
  refine GX3_136 b40 dX3_begin_76 rfl ?_
  refine w_iconst dX3_begin_79 (v := 0) (by decide) ?_
  refine w_iconst dX3_begin_80 (v := 0) (by decide) ?_
  obtain ⟨h41, b42, hf⟩ := Option.bind_eq_some_iff.mp hf
  refine x_qI b42 dX3_begin_81 ?_
  refine w_aload_n dX3_begin_82 rfl rfl ?_
  obtain ⟨a43, b44, hf⟩ := Option.bind_eq_some_iff.mp hf
  refine GX3_140 b44 dX3_begin_83 rfl ?_
  refine w_iconst dX3_begin_86 (v := 0) (by decide) ?_
  refine w_iconst dX3_begin_87 (v := 0) (by decide) ?_
  obtain ⟨h45, b46, hf⟩ := Option.bind_eq_some_iff.mp hf
  refine x_qI b46 dX3_begin_88 ?_
  refine w_aload_n dX3_begin_89 rfl rfl ?_
  obtain ⟨a47, b48, hf⟩ := Option.bind_eq_some_iff.mp hf
  refine GX3_143 b48 dX3_begin_90 rfl ?_
  refine w_iconst dX3_begin_93 (v := 0) (by decide) ?_
  refine w_ldc dX3_begin_94 q2052 ?_
  obtain ⟨h49, b50, hf⟩ := Option.bind_eq_some_iff.mp hf
  refine x_qI b50 dX3_begin_96 ?_
  refine w_aload_n dX3_begin_97 rfl rfl ?_
  obtain ⟨a51, b52, hf⟩ := Option.bind_eq_some_iff.mp hf
  refine GX3_45 b52 dX3_begin_98 rfl ?_
  refine w_iconst dX3_begin_101 (v := 1) (by decide) ?_
  obtain ⟨h53, b54, hf⟩ := Option.bind_eq_some_iff.mp hf
  refine SX3_215 b54 dX3_begin_102 rfl ?_
  refine w_aload_n dX3_begin_105 rfl rfl ?_
  refine w_iconst dX3_begin_106 (v := 0) (by decide) ?_
  obtain ⟨h55, b56, hf⟩ := Option.bind_eq_some_iff.mp hf
  refine SX3_219 b56 dX3_begin_107 rfl ?_
  refine w_aload_n dX3_begin_110 rfl rfl ?_
  refine w_iconst dX3_begin_111 (v := 0) (by decide) ?_
  obtain ⟨h57, b58, hf⟩ := Option.bind_eq_some_iff.mp hf
  refine SX3_222 b58 dX3_begin_112 rfl ?_
  refine w_aload_n dX3_begin_115 rfl rfl ?_
  obtain ⟨a59, b60, hf⟩ := Option.bind_eq_some_iff.mp hf
  refine GX3_178 b60 dX3_begin_116 rfl ?_
  refine w_iconst dX3_begin_119 (v := 0) (by decide) ?_
  refine x_cnV hf (e_stS (Yc := YJ0_fill) (av := [.ref a59, .int (0 : Int32)]) (st := []) dX3_begin_120 q2053 mJ0_fill) mJ0_fill.2.2.1 mJ0_fill.2.2.2.2.1 (Nat.le_of_ble_eq_true rfl) (Nat.le_of_ble_eq_true rfl) (fun q hq => pJ0_fill (by omega) hq) (fun q61 hf => ?_)
  cases hf
  exact w_vret dX3_begin_123 rfl rfl
abbrev cX1_init : ByteArray := prog_1_method_9_code
def yX1_init : MethodName := ⟨RX1, "<init>", "()V"⟩
def YX1_init : eY := (yX1_init, cX1_init, 1, none, [])
theorem mX1_init : e_mi YX1_init 0 := ⟨q487, rfl, rfl, q488, by decide, by decide +kernel, (e_sig (by decide +kernel))⟩
theorem dX1_init_0 : decode cX1_init 0 = .ok (.aload_n 0, 1) := dc_42 (by decide +kernel)
theorem dX1_init_1 : decode cX1_init 1 = .ok (.invokespecial 24, 3) := dc_183 (a := 0) (b := 24) (n := 24) (by decide +kernel)
theorem dX1_init_4 : decode cX1_init 4 = .ok (.aload_n 0, 1) := dc_42 (by decide +kernel)
theorem dX1_init_5 : decode cX1_init 5 = .ok (.ldc 30, 2) := dc_18 (a := 30) (by decide +kernel)
theorem dX1_init_7 : decode cX1_init 7 = .ok (.newarray .byte, 2) := dc_188_8 (by decide +kernel)
theorem dX1_init_9 : decode cX1_init 9 = .ok (.putfield 31, 3) := dc_181 (a := 0) (b := 31) (n := 31) (by decide +kernel)
theorem dX1_init_12 : decode cX1_init 12 = .ok (.aload_n 0, 1) := dc_42 (by decide +kernel)
theorem dX1_init_13 : decode cX1_init 13 = .ok (.new 35, 3) := dc_187 (a := 0) (b := 35) (n := 35) (by decide +kernel)
theorem dX1_init_16 : decode cX1_init 16 = .ok (.dup, 1) := dc_89 (by decide +kernel)
theorem dX1_init_17 : decode cX1_init 17 = .ok (.invokespecial 37, 3) := dc_183 (a := 0) (b := 37) (n := 37) (by decide +kernel)
theorem dX1_init_20 : decode cX1_init 20 = .ok (.putfield 38, 3) := dc_181 (a := 0) (b := 38) (n := 38) (by decide +kernel)
theorem dX1_init_23 : decode cX1_init 23 = .ok (.aload_n 0, 1) := dc_42 (by decide +kernel)
theorem dX1_init_24 : decode cX1_init 24 = .ok (.new 42, 3) := dc_187 (a := 0) (b := 42) (n := 42) (by decide +kernel)
theorem dX1_init_27 : decode cX1_init 27 = .ok (.dup, 1) := dc_89 (by decide +kernel)
theorem dX1_init_28 : decode cX1_init 28 = .ok (.invokespecial 44, 3) := dc_183 (a := 0) (b := 44) (n := 44) (by decide +kernel)
theorem dX1_init_31 : decode cX1_init 31 = .ok (.putfield 45, 3) := dc_181 (a := 0) (b := 45) (n := 45) (by decide +kernel)
theorem dX1_init_34 : decode cX1_init 34 = .ok (.aload_n 0, 1) := dc_42 (by decide +kernel)
theorem dX1_init_35 : decode cX1_init 35 = .ok (.ldc 49, 2) := dc_18 (a := 49) (by decide +kernel)
theorem dX1_init_37 : decode cX1_init 37 = .ok (.putfield 50, 3) := dc_181 (a := 0) (b := 50) (n := 50) (by decide +kernel)
theorem dX1_init_40 : decode cX1_init 40 = .ok (.aload_n 0, 1) := dc_42 (by decide +kernel)
theorem dX1_init_41 : decode cX1_init 41 = .ok (.getfield 45, 3) := dc_180 (a := 0) (b := 45) (n := 45) (by decide +kernel)
theorem dX1_init_44 : decode cX1_init 44 = .ok (.invokevirtual 54, 3) := dc_182 (a := 0) (b := 54) (n := 54) (by decide +kernel)
theorem dX1_init_47 : decode cX1_init 47 = .ok (.return_, 1) := dc_177 (by decide +kernel)
theorem GX1_45 {w : eW} {d : Nat} {Y : eY} {pc : Nat} {ls : eL} {st : List Value} {h : eH} {Q : eO → eH → Prop} {a : Nat} {x : Nat} (hf : g_A 0 h a 3 = some x) (hd : decode Y.2.1 pc = .ok (.getfield 45, 3)) (hY : Y.1.cls = RX1) (kk : wp w d Y (pc + 3) ls (.ref x :: st) h Q) : wp w d Y pc ls (.ref a :: st) h Q := x_gA (ci := 0) (k := 3) hf hd rfl (by decide) (by rw [hY]; exact q2057) kk
theorem SX1_31 {w : eW} {d : Nat} {Y : eY} {pc : Nat} {ls : eL} {st : List Value} {h : eH} {Q : eO → eH → Prop} {a : Nat} {h' : eH} {v : Value} (hf : p_F 0 h a 0 v = some h') (hd : decode Y.2.1 pc = .ok (.putfield 31, 3)) (hY : Y.1.cls = RX1) (hI : Y.1.name = "<init>") (hn : narrow (tyX1 0) v = v) (hfit : fits (tyX1 0) v = true) (kk : wp w d Y (pc + 3) ls st h' Q) : wp w d Y pc ls (v :: .ref a :: st) h Q := x_pF (ci := 0) (k := 0) hf hd rfl (by decide) (by rw [hY]; exact q2054) rfl hI (by rw [hY]; rfl) (tyX1_ok 0 (by decide)) hn hfit kk
theorem SX1_38 {w : eW} {d : Nat} {Y : eY} {pc : Nat} {ls : eL} {st : List Value} {h : eH} {Q : eO → eH → Prop} {a : Nat} {h' : eH} {v : Value} (hf : p_F 0 h a 2 v = some h') (hd : decode Y.2.1 pc = .ok (.putfield 38, 3)) (hY : Y.1.cls = RX1) (hI : Y.1.name = "<init>") (hn : narrow (tyX1 2) v = v) (hfit : fits (tyX1 2) v = true) (kk : wp w d Y (pc + 3) ls st h' Q) : wp w d Y pc ls (v :: .ref a :: st) h Q := x_pF (ci := 0) (k := 2) hf hd rfl (by decide) (by rw [hY]; exact q2056) rfl hI (by rw [hY]; rfl) (tyX1_ok 2 (by decide)) hn hfit kk
theorem SX1_45 {w : eW} {d : Nat} {Y : eY} {pc : Nat} {ls : eL} {st : List Value} {h : eH} {Q : eO → eH → Prop} {a : Nat} {h' : eH} {v : Value} (hf : p_F 0 h a 3 v = some h') (hd : decode Y.2.1 pc = .ok (.putfield 45, 3)) (hY : Y.1.cls = RX1) (hI : Y.1.name = "<init>") (hn : narrow (tyX1 3) v = v) (hfit : fits (tyX1 3) v = true) (kk : wp w d Y (pc + 3) ls st h' Q) : wp w d Y pc ls (v :: .ref a :: st) h Q := x_pF (ci := 0) (k := 3) hf hd rfl (by decide) (by rw [hY]; exact q2057) rfl hI (by rw [hY]; rfl) (tyX1_ok 3 (by decide)) hn hfit kk
theorem SX1_50 {w : eW} {d : Nat} {Y : eY} {pc : Nat} {ls : eL} {st : List Value} {h : eH} {Q : eO → eH → Prop} {a : Nat} {h' : eH} {x : Int32} (hf : p_V 0 h a 4 (.int x) = some h') (hd : decode Y.2.1 pc = .ok (.putfield 50, 3)) (hY : Y.1.cls = RX1) (kk : wp w d Y (pc + 3) ls st h' Q) : wp w d Y pc ls (.int x :: .ref a :: st) h Q := x_pI (ci := 0) (k := 4) hf hd rfl (by decide) (by rw [hY]; exact q2058) rfl rfl kk
def fX1_init (N : Nat) (this : Nat) (h : eH) : Option (Unit × eH) :=
  (n_arr 102 178 (.int 0) h (65536 : Int32)).bind fun q1 =>
  (p_F 0 q1.2 this 0 (.ref q1.1)).bind fun h3 =>
  (n_obj 1 179 2 tyX2 h3).bind fun q5 =>
  (fX2_init q5.1 q5.2).bind fun q7 =>
  (p_F 0 q7.2 this 2 (.ref q5.1)).bind fun h8 =>
  (n_obj 2 180 37 tyX3 h8).bind fun q10 =>
  (fX3_init N q10.1 q10.2).bind fun q12 =>
  (p_F 0 q12.2 this 3 (.ref q10.1)).bind fun h13 =>
  (p_V 0 h13 this 4 (.int (100000 : Int32))).bind fun h15 =>
  (g_A 0 h15 this 3).bind fun a17 =>
  (k_ok 2 h15 a17).bind fun _ =>
  (fX3_begin N a17 h15).bind fun q20 =>
  some ((), q20.2)
theorem pX1_init {w : eW} {d : Nat} (hd : 7 ≤ d) {N : Nat} {this : Nat} {h : eH} {q} (hf : fX1_init N this h = some q) : wm w d YX1_init [.ref this] h (e_is (e_rn c_V q)) := by
  obtain ⟨d, rfl⟩ : ∃ e, d = e + 1 := ⟨d - 1, by omega⟩
  show wp w (d + 1) YX1_init 0 [some (.ref this)] [] h _
  unfold fX1_init at hf
  refine w_aload_n dX1_init_0 rfl rfl ?_
  refine w_obj dX1_init_1 q489 q490 q491 (by decide) ?_
  refine w_aload_n dX1_init_4 rfl rfl ?_
  refine w_ldc dX1_init_5 q492 ?_
  obtain ⟨q1, b2, hf⟩ := Option.bind_eq_some_iff.mp hf
  refine x_newB (g := 178) b2 dX1_init_7 q507 ?_
  obtain ⟨h3, b4, hf⟩ := Option.bind_eq_some_iff.mp hf
  refine SX1_31 b4 dX1_init_9 rfl rfl rfl rfl ?_
  refine w_aload_n dX1_init_12 rfl rfl ?_
  obtain ⟨q5, b6, hf⟩ := Option.bind_eq_some_iff.mp hf
  refine x_new (ci := 1) (g := 179) b6 dX1_init_13 rfl tyX2_ok q493 q494 q427 ?_
  refine w_dup dX1_init_16 rfl ?_
  refine x_cnV hf (e_stIN (Yc := YX2_init) (b := q5.1) (av := []) (st := [.ref q5.1, .ref this]) dX1_init_17 q495 mX2_init) (e_mi.cd mX2_init) mX2_init.2.2.2.2.2.1 (Nat.le_of_ble_eq_true rfl) (Nat.le_of_ble_eq_true rfl) (fun q hq => pX2_init (by omega) hq) (fun q7 hf => ?_)
  obtain ⟨h8, b9, hf⟩ := Option.bind_eq_some_iff.mp hf
  refine SX1_38 b9 dX1_init_20 rfl rfl rfl rfl ?_
  refine w_aload_n dX1_init_23 rfl rfl ?_
  obtain ⟨q10, b11, hf⟩ := Option.bind_eq_some_iff.mp hf
  refine x_new (ci := 2) (g := 180) b11 dX1_init_24 rfl tyX3_ok q508 q509 q428 ?_
  refine w_dup dX1_init_27 rfl ?_
  refine x_cnV hf (e_stIN (Yc := YX3_init) (b := q10.1) (av := []) (st := [.ref q10.1, .ref this]) dX1_init_28 q510 mX3_init) (e_mi.cd mX3_init) mX3_init.2.2.2.2.2.1 (Nat.le_of_ble_eq_true rfl) (Nat.le_of_ble_eq_true rfl) (fun q hq => pX3_init (by omega) hq) (fun q12 hf => ?_)
  obtain ⟨h13, b14, hf⟩ := Option.bind_eq_some_iff.mp hf
  refine SX1_45 b14 dX1_init_31 rfl rfl rfl rfl ?_
  refine w_aload_n dX1_init_34 rfl rfl ?_
  refine w_ldc dX1_init_35 q1905 ?_
  obtain ⟨h15, b16, hf⟩ := Option.bind_eq_some_iff.mp hf
  refine SX1_50 b16 dX1_init_37 rfl ?_
  refine w_aload_n dX1_init_40 rfl rfl ?_
  obtain ⟨a17, b18, hf⟩ := Option.bind_eq_some_iff.mp hf
  refine GX1_45 b18 dX1_init_41 rfl ?_
  obtain ⟨_, b19, hf⟩ := Option.bind_eq_some_iff.mp hf
  refine x_cnV hf (e_stVN (Yc := YX3_begin) (ci := 2) (av := []) (st := []) dX1_init_44 q1906 mX3_begin rfl (k_ok_some b19).1 (k_ok_some b19).2) mX3_begin.2.2.1 mX3_begin.2.2.2.2.1 (Nat.le_of_ble_eq_true rfl) (Nat.le_of_ble_eq_true rfl) (fun q hq => pX3_begin (by omega) hq) (fun q20 hf => ?_)
  cases hf
  exact w_vret dX1_init_47 rfl rfl
abbrev cX1_about : ByteArray := prog_1_method_18_code
def yX1_about : MethodName := ⟨RX1, "about", "(I)I"⟩
def YX1_about : eY := (yX1_about, cX1_about, 2, (Option.some FieldType.int), [])
theorem mX1_about : e_mv YX1_about RX1 1 := ⟨q4103, q4104, q4105, by decide, by decide +kernel, (e_sig (by decide +kernel))⟩
theorem dX1_about_0 : decode cX1_about 0 = .ok (.iload_n 1, 1) := dc_27 (by decide +kernel)
theorem dX1_about_1 : decode cX1_about 1 = .ok (.ifCond .lt 9, 3) := dc_155 (a := 0) (b := 9) (v := 9) (by decide +kernel)
theorem dX1_about_4 : decode cX1_about 4 = .ok (.iload_n 1, 1) := dc_27 (by decide +kernel)
theorem dX1_about_5 : decode cX1_about 5 = .ok (.bipush 7, 2) := dc_16 (a := 7) (v := 7) (by decide +kernel)
theorem dX1_about_7 : decode cX1_about 7 = .ok (.if_icmp .le 11, 3) := dc_164 (a := 0) (b := 11) (v := 11) (by decide +kernel)
theorem dX1_about_10 : decode cX1_about 10 = .ok (.new 136, 3) := dc_187 (a := 0) (b := 136) (n := 136) (by decide +kernel)
theorem dX1_about_13 : decode cX1_about 13 = .ok (.dup, 1) := dc_89 (by decide +kernel)
theorem dX1_about_14 : decode cX1_about 14 = .ok (.invokespecial 138, 3) := dc_183 (a := 0) (b := 138) (n := 138) (by decide +kernel)
theorem dX1_about_17 : decode cX1_about 17 = .ok (.athrow, 1) := dc_191 (by decide +kernel)
theorem dX1_about_18 : decode cX1_about 18 = .ok (.aload_n 0, 1) := dc_42 (by decide +kernel)
theorem dX1_about_19 : decode cX1_about 19 = .ok (.getfield 45, 3) := dc_180 (a := 0) (b := 45) (n := 45) (by decide +kernel)
theorem dX1_about_22 : decode cX1_about 22 = .ok (.getfield 142, 3) := dc_180 (a := 0) (b := 142) (n := 142) (by decide +kernel)
theorem dX1_about_25 : decode cX1_about 25 = .ok (.iload_n 1, 1) := dc_27 (by decide +kernel)
theorem dX1_about_26 : decode cX1_about 26 = .ok (.iaload, 1) := dc_46 (by decide +kernel)
theorem dX1_about_27 : decode cX1_about 27 = .ok (.ireturn, 1) := dc_172 (by decide +kernel)
theorem GX1_142 {w : eW} {d : Nat} {Y : eY} {pc : Nat} {ls : eL} {st : List Value} {h : eH} {Q : eO → eH → Prop} {a : Nat} {x : Nat} (hf : g_A 2 h a 36 = some x) (hd : decode Y.2.1 pc = .ok (.getfield 142, 3)) (hY : Y.1.cls = RX1) (kk : wp w d Y (pc + 3) ls (.ref x :: st) h Q) : wp w d Y pc ls (.ref a :: st) h Q := x_gAN (ci := 2) (k := 36) hf hd rfl (by decide) (by rw [hY]; exact q1829) kk
def fX1_about_b10  (h : eH) : Option ((Int32 ⊕ Nat) × eH) :=
  (n_exc 52 h).bind fun q1 => some (.inr q1.1, q1.2)
theorem pX1_about_b10 {w : eW} {d : Nat} (hd : 6 ≤ d + 1)  {h : eH} {q} (hf : fX1_about_b10  h = some q) : wp w (d + 1) YX1_about 10 [none, none] [] h (e_is (e_rt c_I q)) := by
  unfold fX1_about_b10 at hf
  obtain ⟨q1, b2, hf⟩ := Option.bind_eq_some_iff.mp hf
  cases hf
  exact x_thr (ci := 52) b2 (Nat.le_of_ble_eq_true rfl) (Nat.le_of_ble_eq_true rfl) dX1_about_10 dX1_about_13 dX1_about_14 dX1_about_17 rfl q4080 q4081 q480 q4089 (Nat.le_of_ble_eq_true rfl) rfl (by omega)
def fX1_about (this : Nat) (p0 : Int32) (h : eH) : Option ((Int32 ⊕ Nat) × eH) :=
  if p0 < 0 then
    fX1_about_b10 h
  else
    if p0 ≤ (7 : Int32) then
      (g_A 0 h this 3).bind fun a3 =>
      (g_A 2 h a3 36).bind fun a5 =>
      (r_I 100 h a5 p0).bind fun x7 =>
      some (.inl x7, h)
    else
      fX1_about_b10 h
theorem pX1_about {w : eW} {d : Nat} (hd : 6 ≤ d) {this : Nat} {p0 : Int32} {h : eH} {q} (hf : fX1_about this p0 h = some q) : wm w d YX1_about [.ref this, .int p0] h (e_is (e_rt c_I q)) := by
  obtain ⟨d, rfl⟩ : ∃ e, d = e + 1 := ⟨d - 1, by omega⟩
  show wp w (d + 1) YX1_about 0 [some (.ref this), some (.int p0)] [] h _
  unfold fX1_about at hf
  refine w_iload_n dX1_about_0 rfl rfl ?_
  refine w_if_lt 10 dX1_about_1 (by decide) (fun c1 => ?_) (fun c1 => ?_)
  · replace hf := (if_pos (show p0 < 0 from c1)).symm.trans hf
    exact (pX1_about_b10 hd hf).to trivial
  · replace hf := (if_neg (show ¬ (p0 < 0) from c1)).symm.trans hf
    refine w_iload_n dX1_about_4 rfl rfl ?_
    refine w_bipush dX1_about_5 (v := 7) (by decide) ?_
    refine w_icmp_le 18 dX1_about_7 (by decide) (fun c2 => ?_) (fun c2 => ?_)
    · replace hf := (if_pos (show p0 ≤ (7 : Int32) from c2)).symm.trans hf
      refine w_aload_n dX1_about_18 rfl rfl ?_
      obtain ⟨a3, b4, hf⟩ := Option.bind_eq_some_iff.mp hf
      refine GX1_45 b4 dX1_about_19 rfl ?_
      obtain ⟨a5, b6, hf⟩ := Option.bind_eq_some_iff.mp hf
      refine GX1_142 b6 dX1_about_22 rfl ?_
      refine w_iload_n dX1_about_25 rfl rfl ?_
      obtain ⟨x7, b8, hf⟩ := Option.bind_eq_some_iff.mp hf
      refine x_rI b8 dX1_about_26 ?_
      cases hf
      exact w_iret dX1_about_27 rfl rfl rfl
    · replace hf := (if_neg (show ¬ (p0 ≤ (7 : Int32)) from c2)).symm.trans hf
      exact (pX1_about_b10 hd hf).to trivial
abbrev cX1_category : ByteArray := prog_1_method_5_code
def yX1_category : MethodName := ⟨RX1, "category", "(I)I"⟩
def YX1_category : eY := (yX1_category, cX1_category, 1, (Option.some FieldType.int), [])
theorem mX1_category : e_ms YX1_category 1 := ⟨q2523, q426, q2524, by decide, by decide +kernel, (e_sig (by decide +kernel))⟩
theorem dX1_category_0 : decode cX1_category 0 = .ok (.iload_n 0, 1) := dc_26 (by decide +kernel)
theorem dX1_category_1 : decode cX1_category 1 = .ok (.bipush 8, 2) := dc_16 (a := 8) (v := 8) (by decide +kernel)
theorem dX1_category_3 : decode cX1_category 3 = .ok (.ishr, 1) := dc_122 (by decide +kernel)
theorem dX1_category_4 : decode cX1_category 4 = .ok (.ireturn, 1) := dc_172 (by decide +kernel)
def fX1_category (p0 : Int32) (h : eH) : Option (Int32 × eH) :=
  some ((p0 >>> ((8 : Int32) &&& 31)), h)
theorem pX1_category {w : eW} {d : Nat} (hd : 0 ≤ d) {p0 : Int32} {h : eH} {q} (hf : fX1_category p0 h = some q) : wm w d YX1_category [.int p0] h (e_is (e_rn c_I q)) := by
  show wp w d YX1_category 0 [some (.int p0)] [] h _
  unfold fX1_category at hf
  refine w_iload_n dX1_category_0 rfl rfl ?_
  refine w_bipush dX1_category_1 (v := 8) (by decide) ?_
  refine w_ishr dX1_category_3 ?_
  cases hf
  exact w_iret dX1_category_4 rfl rfl rfl
abbrev cX16_clear : ByteArray := prog_32_method_2_code
def yX16_clear : MethodName := ⟨RX16, "clear", "()V"⟩
def YX16_clear : eY := (yX16_clear, cX16_clear, 2, none, [])
theorem mX16_clear : e_mv YX16_clear RX16 0 := ⟨q2079, q2080, q2081, by decide, by decide +kernel, (e_sig (by decide +kernel))⟩
theorem dX16_clear_0 : decode cX16_clear 0 = .ok (.aload_n 0, 1) := dc_42 (by decide +kernel)
theorem dX16_clear_1 : decode cX16_clear 1 = .ok (.iconst 0, 1) := dc_3 (by decide +kernel)
theorem dX16_clear_2 : decode cX16_clear 2 = .ok (.putfield 36, 3) := dc_181 (a := 0) (b := 36) (n := 36) (by decide +kernel)
theorem dX16_clear_5 : decode cX16_clear 5 = .ok (.aload_n 0, 1) := dc_42 (by decide +kernel)
theorem dX16_clear_6 : decode cX16_clear 6 = .ok (.iconst 0, 1) := dc_3 (by decide +kernel)
theorem dX16_clear_7 : decode cX16_clear 7 = .ok (.putfield 40, 3) := dc_181 (a := 0) (b := 40) (n := 40) (by decide +kernel)
theorem dX16_clear_10 : decode cX16_clear 10 = .ok (.iconst 0, 1) := dc_3 (by decide +kernel)
theorem dX16_clear_11 : decode cX16_clear 11 = .ok (.istore_n 1, 1) := dc_60 (by decide +kernel)
theorem dX16_clear_12 : decode cX16_clear 12 = .ok (.iload_n 1, 1) := dc_27 (by decide +kernel)
theorem dX16_clear_13 : decode cX16_clear 13 = .ok (.sipush 512, 3) := dc_17 (a := 2) (b := 0) (v := 512) (by decide +kernel)
theorem dX16_clear_16 : decode cX16_clear 16 = .ok (.if_icmp .ge 16, 3) := dc_162 (a := 0) (b := 16) (v := 16) (by decide +kernel)
theorem dX16_clear_19 : decode cX16_clear 19 = .ok (.aload_n 0, 1) := dc_42 (by decide +kernel)
theorem dX16_clear_20 : decode cX16_clear 20 = .ok (.getfield 11, 3) := dc_180 (a := 0) (b := 11) (n := 11) (by decide +kernel)
theorem dX16_clear_23 : decode cX16_clear 23 = .ok (.iload_n 1, 1) := dc_27 (by decide +kernel)
theorem dX16_clear_24 : decode cX16_clear 24 = .ok (.iconst 0, 1) := dc_3 (by decide +kernel)
theorem dX16_clear_25 : decode cX16_clear 25 = .ok (.iastore, 1) := dc_79 (by decide +kernel)
theorem dX16_clear_26 : decode cX16_clear 26 = .ok (.iinc 1 1, 3) := dc_132 (a := 1) (b := 1) (v := 1) (by decide +kernel)
theorem dX16_clear_29 : decode cX16_clear 29 = .ok (.goto (-17), 3) := dc_167 (a := 255) (b := 239) (v := -17) (by decide +kernel)
theorem dX16_clear_32 : decode cX16_clear 32 = .ok (.return_, 1) := dc_177 (by decide +kernel)
theorem GX16_11 {w : eW} {d : Nat} {Y : eY} {pc : Nat} {ls : eL} {st : List Value} {h : eH} {Q : eO → eH → Prop} {a : Nat} {x : Nat} (hf : g_A 15 h a 0 = some x) (hd : decode Y.2.1 pc = .ok (.getfield 11, 3)) (hY : Y.1.cls = RX16) (kk : wp w d Y (pc + 3) ls (.ref x :: st) h Q) : wp w d Y pc ls (.ref a :: st) h Q := x_gA (ci := 15) (k := 0) hf hd rfl (by decide) (by rw [hY]; exact q1042) kk
theorem SX16_36 {w : eW} {d : Nat} {Y : eY} {pc : Nat} {ls : eL} {st : List Value} {h : eH} {Q : eO → eH → Prop} {a : Nat} {h' : eH} {x : Int32} (hf : p_V 15 h a 5 (.int x) = some h') (hd : decode Y.2.1 pc = .ok (.putfield 36, 3)) (hY : Y.1.cls = RX16) (kk : wp w d Y (pc + 3) ls st h' Q) : wp w d Y pc ls (.int x :: .ref a :: st) h Q := x_pI (ci := 15) (k := 5) hf hd rfl (by decide) (by rw [hY]; exact q1047) rfl rfl kk
theorem SX16_40 {w : eW} {d : Nat} {Y : eY} {pc : Nat} {ls : eL} {st : List Value} {h : eH} {Q : eO → eH → Prop} {a : Nat} {h' : eH} {x : Int32} (hf : p_V 15 h a 6 (.int x) = some h') (hd : decode Y.2.1 pc = .ok (.putfield 40, 3)) (hY : Y.1.cls = RX16) (kk : wp w d Y (pc + 3) ls st h' Q) : wp w d Y pc ls (.int x :: .ref a :: st) h Q := x_pI (ci := 15) (k := 6) hf hd rfl (by decide) (by rw [hY]; exact q1049) rfl rfl kk
def fX16_clear_b12 (N : Nat) : Nat → Nat → Int32 → eH → Option (Unit × eH)
  | 0, _, _, _ => none
  | n + 1, l0, l1, h =>
    if (512 : Int32) ≤ l1 then
      some ((), h)
    else
      (g_A 15 h l0 0).bind fun a2 =>
      (q_V 100 h a2 l1 (.int (0 : Int32))).bind fun h4 =>
      fX16_clear_b12 N n l0 (l1 + (1 : Int32)) h4
theorem pX16_clear_b12 {w : eW} {d : Nat} (hd : 0 ≤ d) {N : Nat} : ∀ (n : Nat) l0 l1 h q, fX16_clear_b12 N n l0 l1 h = some q → wp w d YX16_clear 12 [some (.ref l0), some (.int l1)] [] h (e_is (e_rn c_V q)) := by
  intro n
  induction n with
  | zero => intro l0 l1 h q hf; simp [fX16_clear_b12] at hf
  | succ n ih =>
    intro l0 l1 h q hf
    rw [fX16_clear_b12] at hf
    refine w_iload_n dX16_clear_12 rfl rfl ?_
    refine w_sipush dX16_clear_13 (v := 512) (by decide) ?_
    refine w_icmp_ge 32 dX16_clear_16 (by decide) (fun c1 => ?_) (fun c1 => ?_)
    · replace hf := (if_pos (show (512 : Int32) ≤ l1 from c1)).symm.trans hf
      cases hf
      exact w_vret dX16_clear_32 rfl rfl
    · replace hf := (if_neg (show ¬ ((512 : Int32) ≤ l1) from c1)).symm.trans hf
      refine w_aload_n dX16_clear_19 rfl rfl ?_
      obtain ⟨a2, b3, hf⟩ := Option.bind_eq_some_iff.mp hf
      refine GX16_11 b3 dX16_clear_20 rfl ?_
      refine w_iload_n dX16_clear_23 rfl rfl ?_
      refine w_iconst dX16_clear_24 (v := 0) (by decide) ?_
      obtain ⟨h4, b5, hf⟩ := Option.bind_eq_some_iff.mp hf
      refine x_qI b5 dX16_clear_25 ?_
      refine w_iinc dX16_clear_26 (v := (l1 + (1 : Int32))) rfl rfl (by decide) (ls' := [some (.ref l0), some (.int (l1 + (1 : Int32)))]) rfl ?_
      refine w_goto 12 dX16_clear_29 (by decide) ?_
      exact (ih _ _ _ _ hf).to ⟨rfl, rfl, trivial⟩
def fX16_clear (N : Nat) (this : Nat) (h : eH) : Option (Unit × eH) :=
  (p_V 15 h this 5 (.int (0 : Int32))).bind fun h1 =>
  (p_V 15 h1 this 6 (.int (0 : Int32))).bind fun h3 =>
  fX16_clear_b12 N N this (0 : Int32) h3
theorem pX16_clear {w : eW} {d : Nat} (hd : 0 ≤ d) {N : Nat} {this : Nat} {h : eH} {q} (hf : fX16_clear N this h = some q) : wm w d YX16_clear [.ref this] h (e_is (e_rn c_V q)) := by
  show wp w d YX16_clear 0 [some (.ref this), none] [] h _
  unfold fX16_clear at hf
  refine w_aload_n dX16_clear_0 rfl rfl ?_
  refine w_iconst dX16_clear_1 (v := 0) (by decide) ?_
  obtain ⟨h1, b2, hf⟩ := Option.bind_eq_some_iff.mp hf
  refine SX16_36 b2 dX16_clear_2 rfl ?_
  refine w_aload_n dX16_clear_5 rfl rfl ?_
  refine w_iconst dX16_clear_6 (v := 0) (by decide) ?_
  obtain ⟨h3, b4, hf⟩ := Option.bind_eq_some_iff.mp hf
  refine SX16_40 b4 dX16_clear_7 rfl ?_
  refine w_iconst dX16_clear_10 (v := 0) (by decide) ?_
  refine w_istore_n dX16_clear_11 rfl (by decide) (ls' := [some (.ref this), some (.int (0 : Int32))]) rfl ?_
  exact (pX16_clear_b12 hd N _ _ _ _ hf).to ⟨rfl, rfl, trivial⟩
abbrev cX14_clear : ByteArray := prog_10_method_13_code
def yX14_clear : MethodName := ⟨RX14, "clear", "(Z)I"⟩
def YX14_clear : eY := (yX14_clear, cX14_clear, 3, (Option.some FieldType.int), [])
theorem mX14_clear : e_mv YX14_clear RX14 1 := ⟨q2075, q2076, q2077, by decide, by decide +kernel, (e_sig (by decide +kernel))⟩
theorem dX14_clear_0 : decode cX14_clear 0 = .ok (.iload_n 1, 1) := dc_27 (by decide +kernel)
theorem dX14_clear_1 : decode cX14_clear 1 = .ok (.ifCond .eq 13, 3) := dc_153 (a := 0) (b := 13) (v := 13) (by decide +kernel)
theorem dX14_clear_4 : decode cX14_clear 4 = .ok (.aload_n 0, 1) := dc_42 (by decide +kernel)
theorem dX14_clear_5 : decode cX14_clear 5 = .ok (.getfield 21, 3) := dc_180 (a := 0) (b := 21) (n := 21) (by decide +kernel)
theorem dX14_clear_8 : decode cX14_clear 8 = .ok (.getfield 107, 3) := dc_180 (a := 0) (b := 107) (n := 107) (by decide +kernel)
theorem dX14_clear_11 : decode cX14_clear 11 = .ok (.goto 10, 3) := dc_167 (a := 0) (b := 10) (v := 10) (by decide +kernel)
theorem dX14_clear_14 : decode cX14_clear 14 = .ok (.aload_n 0, 1) := dc_42 (by decide +kernel)
theorem dX14_clear_15 : decode cX14_clear 15 = .ok (.getfield 12, 3) := dc_180 (a := 0) (b := 12) (n := 12) (by decide +kernel)
theorem dX14_clear_18 : decode cX14_clear 18 = .ok (.getfield 97, 3) := dc_180 (a := 0) (b := 97) (n := 97) (by decide +kernel)
theorem dX14_clear_21 : decode cX14_clear 21 = .ok (.istore_n 2, 1) := dc_61 (by decide +kernel)
theorem dX14_clear_22 : decode cX14_clear 22 = .ok (.iload_n 1, 1) := dc_27 (by decide +kernel)
theorem dX14_clear_23 : decode cX14_clear 23 = .ok (.ifCond .eq 13, 3) := dc_153 (a := 0) (b := 13) (v := 13) (by decide +kernel)
theorem dX14_clear_26 : decode cX14_clear 26 = .ok (.aload_n 0, 1) := dc_42 (by decide +kernel)
theorem dX14_clear_27 : decode cX14_clear 27 = .ok (.getfield 21, 3) := dc_180 (a := 0) (b := 21) (n := 21) (by decide +kernel)
theorem dX14_clear_30 : decode cX14_clear 30 = .ok (.invokevirtual 132, 3) := dc_182 (a := 0) (b := 132) (n := 132) (by decide +kernel)
theorem dX14_clear_33 : decode cX14_clear 33 = .ok (.goto 10, 3) := dc_167 (a := 0) (b := 10) (v := 10) (by decide +kernel)
theorem dX14_clear_36 : decode cX14_clear 36 = .ok (.aload_n 0, 1) := dc_42 (by decide +kernel)
theorem dX14_clear_37 : decode cX14_clear 37 = .ok (.getfield 12, 3) := dc_180 (a := 0) (b := 12) (n := 12) (by decide +kernel)
theorem dX14_clear_40 : decode cX14_clear 40 = .ok (.invokevirtual 133, 3) := dc_182 (a := 0) (b := 133) (n := 133) (by decide +kernel)
theorem dX14_clear_43 : decode cX14_clear 43 = .ok (.iload_n 2, 1) := dc_28 (by decide +kernel)
theorem dX14_clear_44 : decode cX14_clear 44 = .ok (.ireturn, 1) := dc_172 (by decide +kernel)
theorem GX14_107 {w : eW} {d : Nat} {Y : eY} {pc : Nat} {ls : eL} {st : List Value} {h : eH} {Q : eO → eH → Prop} {a : Nat} {x : Int32} (hf : g_I 15 h a 5 = some x) (hd : decode Y.2.1 pc = .ok (.getfield 107, 3)) (hY : Y.1.cls = RX14) (kk : wp w d Y (pc + 3) ls (.int x :: st) h Q) : wp w d Y pc ls (.ref a :: st) h Q := x_gIN (ci := 15) (k := 5) hf hd rfl (by decide) (by rw [hY]; exact q1048) kk
theorem GX14_12 {w : eW} {d : Nat} {Y : eY} {pc : Nat} {ls : eL} {st : List Value} {h : eH} {Q : eO → eH → Prop} {a : Nat} {x : Nat} (hf : g_A 13 h a 0 = some x) (hd : decode Y.2.1 pc = .ok (.getfield 12, 3)) (hY : Y.1.cls = RX14) (kk : wp w d Y (pc + 3) ls (.ref x :: st) h Q) : wp w d Y pc ls (.ref a :: st) h Q := x_gA (ci := 13) (k := 0) hf hd rfl (by decide) (by rw [hY]; exact q1106) kk
theorem GX14_21 {w : eW} {d : Nat} {Y : eY} {pc : Nat} {ls : eL} {st : List Value} {h : eH} {Q : eO → eH → Prop} {a : Nat} {x : Nat} (hf : g_A 13 h a 1 = some x) (hd : decode Y.2.1 pc = .ok (.getfield 21, 3)) (hY : Y.1.cls = RX14) (kk : wp w d Y (pc + 3) ls (.ref x :: st) h Q) : wp w d Y pc ls (.ref a :: st) h Q := x_gA (ci := 13) (k := 1) hf hd rfl (by decide) (by rw [hY]; exact q1107) kk
theorem GX14_97 {w : eW} {d : Nat} {Y : eY} {pc : Nat} {ls : eL} {st : List Value} {h : eH} {Q : eO → eH → Prop} {a : Nat} {x : Int32} (hf : g_I 14 h a 16 = some x) (hd : decode Y.2.1 pc = .ok (.getfield 97, 3)) (hY : Y.1.cls = RX14) (kk : wp w d Y (pc + 3) ls (.int x :: st) h Q) : wp w d Y pc ls (.ref a :: st) h Q := x_gIN (ci := 14) (k := 16) hf hd rfl (by decide) (by rw [hY]; exact q974) kk
def fX14_clear_b43 (N : Nat) (l2 : Int32) (h : eH) : Option (Int32 × eH) :=
  some (l2, h)
theorem pX14_clear_b43 {w : eW} {d : Nat} (hd : 4 ≤ d + 1) {N : Nat} {l2 : Int32} {h : eH} {q} (hf : fX14_clear_b43 N l2 h = some q) : wp w (d + 1) YX14_clear 43 [none, none, some (.int l2)] [] h (e_is (e_rn c_I q)) := by
  unfold fX14_clear_b43 at hf
  refine w_iload_n dX14_clear_43 rfl rfl ?_
  cases hf
  exact w_iret dX14_clear_44 rfl rfl rfl
def fX14_clear_b21 (N : Nat) (l0 : Nat) (l1 : Int32) (s0 : Int32) (h : eH) : Option (Int32 × eH) :=
  if l1 = 0 then
    (g_A 13 h l0 0).bind fun a2 =>
    (k_ok 14 h a2).bind fun _ =>
    (fX15_clear a2 h).bind fun q5 =>
    fX14_clear_b43 N s0 q5.2
  else
    (g_A 13 h l0 1).bind fun a6 =>
    (k_ok 15 h a6).bind fun _ =>
    (fX16_clear N a6 h).bind fun q9 =>
    fX14_clear_b43 N s0 q9.2
theorem pX14_clear_b21 {w : eW} {d : Nat} (hd : 4 ≤ d + 1) {N : Nat} {l0 : Nat} {l1 : Int32} {s0 : Int32} {h : eH} {q} (hf : fX14_clear_b21 N l0 l1 s0 h = some q) : wp w (d + 1) YX14_clear 21 [some (.ref l0), some (.int l1), none] [.int s0] h (e_is (e_rn c_I q)) := by
  unfold fX14_clear_b21 at hf
  refine w_istore_n dX14_clear_21 rfl (by decide) (ls' := [some (.ref l0), some (.int l1), some (.int s0)]) rfl ?_
  refine w_iload_n dX14_clear_22 rfl rfl ?_
  refine w_if_eq 36 dX14_clear_23 (by decide) (fun c1 => ?_) (fun c1 => ?_)
  · replace hf := (if_pos (show l1 = 0 from c1)).symm.trans hf
    refine w_aload_n dX14_clear_36 rfl rfl ?_
    obtain ⟨a2, b3, hf⟩ := Option.bind_eq_some_iff.mp hf
    refine GX14_12 b3 dX14_clear_37 rfl ?_
    obtain ⟨_, b4, hf⟩ := Option.bind_eq_some_iff.mp hf
    refine x_cnV hf (e_stV (Yc := YX15_clear) (ci := 14) (av := []) (st := []) dX14_clear_40 q2082 mX15_clear rfl (k_ok_some b4).1 (k_ok_some b4).2) mX15_clear.2.2.1 mX15_clear.2.2.2.2.1 (Nat.le_of_ble_eq_true rfl) (Nat.le_of_ble_eq_true rfl) (fun q hq => pX15_clear (by omega) hq) (fun q5 hf => ?_)
    exact (pX14_clear_b43 hd hf).to ⟨rfl, trivial⟩
  · replace hf := (if_neg (show ¬ (l1 = 0) from c1)).symm.trans hf
    refine w_aload_n dX14_clear_26 rfl rfl ?_
    obtain ⟨a6, b7, hf⟩ := Option.bind_eq_some_iff.mp hf
    refine GX14_21 b7 dX14_clear_27 rfl ?_
    obtain ⟨_, b8, hf⟩ := Option.bind_eq_some_iff.mp hf
    refine x_cnV hf (e_stV (Yc := YX16_clear) (ci := 15) (av := []) (st := []) dX14_clear_30 q2078 mX16_clear rfl (k_ok_some b8).1 (k_ok_some b8).2) mX16_clear.2.2.1 mX16_clear.2.2.2.2.1 (Nat.le_of_ble_eq_true rfl) (Nat.le_of_ble_eq_true rfl) (fun q hq => pX16_clear (by omega) hq) (fun q9 hf => ?_)
    refine w_goto 43 dX14_clear_33 (by decide) ?_
    exact (pX14_clear_b43 hd hf).to ⟨rfl, trivial⟩
def fX14_clear (N : Nat) (this : Nat) (p0 : Int32) (h : eH) : Option (Int32 × eH) :=
  if p0 = 0 then
    (g_A 13 h this 0).bind fun a2 =>
    (g_I 14 h a2 16).bind fun x4 =>
    fX14_clear_b21 N this p0 x4 h
  else
    (g_A 13 h this 1).bind fun a6 =>
    (g_I 15 h a6 5).bind fun x8 =>
    fX14_clear_b21 N this p0 x8 h
theorem pX14_clear {w : eW} {d : Nat} (hd : 4 ≤ d) {N : Nat} {this : Nat} {p0 : Int32} {h : eH} {q} (hf : fX14_clear N this p0 h = some q) : wm w d YX14_clear [.ref this, .int p0] h (e_is (e_rn c_I q)) := by
  obtain ⟨d, rfl⟩ : ∃ e, d = e + 1 := ⟨d - 1, by omega⟩
  show wp w (d + 1) YX14_clear 0 [some (.ref this), some (.int p0), none] [] h _
  unfold fX14_clear at hf
  refine w_iload_n dX14_clear_0 rfl rfl ?_
  refine w_if_eq 14 dX14_clear_1 (by decide) (fun c1 => ?_) (fun c1 => ?_)
  · replace hf := (if_pos (show p0 = 0 from c1)).symm.trans hf
    refine w_aload_n dX14_clear_14 rfl rfl ?_
    obtain ⟨a2, b3, hf⟩ := Option.bind_eq_some_iff.mp hf
    refine GX14_12 b3 dX14_clear_15 rfl ?_
    obtain ⟨x4, b5, hf⟩ := Option.bind_eq_some_iff.mp hf
    refine GX14_97 b5 dX14_clear_18 rfl ?_
    exact (pX14_clear_b21 hd hf).to ⟨rfl, rfl, trivial⟩
  · replace hf := (if_neg (show ¬ (p0 = 0) from c1)).symm.trans hf
    refine w_aload_n dX14_clear_4 rfl rfl ?_
    obtain ⟨a6, b7, hf⟩ := Option.bind_eq_some_iff.mp hf
    refine GX14_21 b7 dX14_clear_5 rfl ?_
    obtain ⟨x8, b9, hf⟩ := Option.bind_eq_some_iff.mp hf
    refine GX14_107 b9 dX14_clear_8 rfl ?_
    refine w_goto 21 dX14_clear_11 (by decide) ?_
    exact (pX14_clear_b21 hd hf).to ⟨rfl, rfl, trivial⟩
abbrev cX1_clear : ByteArray := prog_1_method_15_code
def yX1_clear : MethodName := ⟨RX1, "clear", "(Z)I"⟩
def YX1_clear : eY := (yX1_clear, cX1_clear, 2, (Option.some FieldType.int), [])
theorem mX1_clear : e_mv YX1_clear RX1 1 := ⟨q2071, q2072, q2073, by decide, by decide +kernel, (e_sig (by decide +kernel))⟩
theorem dX1_clear_0 : decode cX1_clear 0 = .ok (.aload_n 0, 1) := dc_42 (by decide +kernel)
theorem dX1_clear_1 : decode cX1_clear 1 = .ok (.getfield 45, 3) := dc_180 (a := 0) (b := 45) (n := 45) (by decide +kernel)
theorem dX1_clear_4 : decode cX1_clear 4 = .ok (.getfield 85, 3) := dc_180 (a := 0) (b := 85) (n := 85) (by decide +kernel)
theorem dX1_clear_7 : decode cX1_clear 7 = .ok (.iload_n 1, 1) := dc_27 (by decide +kernel)
theorem dX1_clear_8 : decode cX1_clear 8 = .ok (.invokevirtual 119, 3) := dc_182 (a := 0) (b := 119) (n := 119) (by decide +kernel)
theorem dX1_clear_11 : decode cX1_clear 11 = .ok (.ireturn, 1) := dc_172 (by decide +kernel)
theorem GX1_85 {w : eW} {d : Nat} {Y : eY} {pc : Nat} {ls : eL} {st : List Value} {h : eH} {Q : eO → eH → Prop} {a : Nat} {x : Nat} (hf : g_A 2 h a 7 = some x) (hd : decode Y.2.1 pc = .ok (.getfield 85, 3)) (hY : Y.1.cls = RX1) (kk : wp w d Y (pc + 3) ls (.ref x :: st) h Q) : wp w d Y pc ls (.ref a :: st) h Q := x_gAN (ci := 2) (k := 7) hf hd rfl (by decide) (by rw [hY]; exact q1798) kk
def fX1_clear (N : Nat) (this : Nat) (p0 : Int32) (h : eH) : Option (Int32 × eH) :=
  (g_A 0 h this 3).bind fun a1 =>
  (g_A 2 h a1 7).bind fun a3 =>
  (k_ok 13 h a3).bind fun _ =>
  (fX14_clear N a3 p0 h).bind fun q6 =>
  some (q6.1, q6.2)
theorem pX1_clear {w : eW} {d : Nat} (hd : 5 ≤ d) {N : Nat} {this : Nat} {p0 : Int32} {h : eH} {q} (hf : fX1_clear N this p0 h = some q) : wm w d YX1_clear [.ref this, .int p0] h (e_is (e_rn c_I q)) := by
  obtain ⟨d, rfl⟩ : ∃ e, d = e + 1 := ⟨d - 1, by omega⟩
  show wp w (d + 1) YX1_clear 0 [some (.ref this), some (.int p0)] [] h _
  unfold fX1_clear at hf
  refine w_aload_n dX1_clear_0 rfl rfl ?_
  obtain ⟨a1, b2, hf⟩ := Option.bind_eq_some_iff.mp hf
  refine GX1_45 b2 dX1_clear_1 rfl ?_
  obtain ⟨a3, b4, hf⟩ := Option.bind_eq_some_iff.mp hf
  refine GX1_85 b4 dX1_clear_4 rfl ?_
  refine w_iload_n dX1_clear_7 rfl rfl ?_
  obtain ⟨_, b5, hf⟩ := Option.bind_eq_some_iff.mp hf
  refine x_cnI hf (e_stV (Yc := YX14_clear) (ci := 13) (av := [.int p0]) (st := []) dX1_clear_8 q2074 mX14_clear rfl (k_ok_some b5).1 (k_ok_some b5).2) mX14_clear.2.2.1 mX14_clear.2.2.2.2.1 (Nat.le_of_ble_eq_true rfl) (Nat.le_of_ble_eq_true rfl) (fun q hq => pX14_clear (by omega) hq) (fun q6 hf => ?_)
  cases hf
  exact w_iret dX1_clear_11 rfl rfl rfl
abbrev cX1_count : ByteArray := prog_1_method_19_code
def yX1_count : MethodName := ⟨RX1, "count", "(I)I"⟩
def YX1_count : eY := (yX1_count, cX1_count, 2, (Option.some FieldType.int), [])
theorem mX1_count : e_mv YX1_count RX1 1 := ⟨q4110, q4111, q4112, by decide, by decide +kernel, (e_sig (by decide +kernel))⟩
theorem dX1_count_0 : decode cX1_count 0 = .ok (.iload_n 1, 1) := dc_27 (by decide +kernel)
theorem dX1_count_1 : decode cX1_count 1 = .ok (.ifCond .lt 10, 3) := dc_155 (a := 0) (b := 10) (v := 10) (by decide +kernel)
theorem dX1_count_4 : decode cX1_count 4 = .ok (.iload_n 1, 1) := dc_27 (by decide +kernel)
theorem dX1_count_5 : decode cX1_count 5 = .ok (.sipush 256, 3) := dc_17 (a := 1) (b := 0) (v := 256) (by decide +kernel)
theorem dX1_count_8 : decode cX1_count 8 = .ok (.if_icmp .lt 11, 3) := dc_161 (a := 0) (b := 11) (v := 11) (by decide +kernel)
theorem dX1_count_11 : decode cX1_count 11 = .ok (.new 136, 3) := dc_187 (a := 0) (b := 136) (n := 136) (by decide +kernel)
theorem dX1_count_14 : decode cX1_count 14 = .ok (.dup, 1) := dc_89 (by decide +kernel)
theorem dX1_count_15 : decode cX1_count 15 = .ok (.invokespecial 138, 3) := dc_183 (a := 0) (b := 138) (n := 138) (by decide +kernel)
theorem dX1_count_18 : decode cX1_count 18 = .ok (.athrow, 1) := dc_191 (by decide +kernel)
theorem dX1_count_19 : decode cX1_count 19 = .ok (.aload_n 0, 1) := dc_42 (by decide +kernel)
theorem dX1_count_20 : decode cX1_count 20 = .ok (.getfield 45, 3) := dc_180 (a := 0) (b := 45) (n := 45) (by decide +kernel)
theorem dX1_count_23 : decode cX1_count 23 = .ok (.getfield 146, 3) := dc_180 (a := 0) (b := 146) (n := 146) (by decide +kernel)
theorem dX1_count_26 : decode cX1_count 26 = .ok (.getfield 150, 3) := dc_180 (a := 0) (b := 150) (n := 150) (by decide +kernel)
theorem dX1_count_29 : decode cX1_count 29 = .ok (.iload_n 1, 1) := dc_27 (by decide +kernel)
theorem dX1_count_30 : decode cX1_count 30 = .ok (.iaload, 1) := dc_46 (by decide +kernel)
theorem dX1_count_31 : decode cX1_count 31 = .ok (.ireturn, 1) := dc_172 (by decide +kernel)
theorem GX1_146 {w : eW} {d : Nat} {Y : eY} {pc : Nat} {ls : eL} {st : List Value} {h : eH} {Q : eO → eH → Prop} {a : Nat} {x : Nat} (hf : g_A 2 h a 6 = some x) (hd : decode Y.2.1 pc = .ok (.getfield 146, 3)) (hY : Y.1.cls = RX1) (kk : wp w d Y (pc + 3) ls (.ref x :: st) h Q) : wp w d Y pc ls (.ref a :: st) h Q := x_gAN (ci := 2) (k := 6) hf hd rfl (by decide) (by rw [hY]; exact q1796) kk
theorem GX1_150 {w : eW} {d : Nat} {Y : eY} {pc : Nat} {ls : eL} {st : List Value} {h : eH} {Q : eO → eH → Prop} {a : Nat} {x : Nat} (hf : g_A 8 h a 3 = some x) (hd : decode Y.2.1 pc = .ok (.getfield 150, 3)) (hY : Y.1.cls = RX1) (kk : wp w d Y (pc + 3) ls (.ref x :: st) h Q) : wp w d Y pc ls (.ref a :: st) h Q := x_gAN (ci := 8) (k := 3) hf hd rfl (by decide) (by rw [hY]; exact q657) kk
def fX1_count_b11  (h : eH) : Option ((Int32 ⊕ Nat) × eH) :=
  (n_exc 52 h).bind fun q1 => some (.inr q1.1, q1.2)
theorem pX1_count_b11 {w : eW} {d : Nat} (hd : 6 ≤ d + 1)  {h : eH} {q} (hf : fX1_count_b11  h = some q) : wp w (d + 1) YX1_count 11 [none, none] [] h (e_is (e_rt c_I q)) := by
  unfold fX1_count_b11 at hf
  obtain ⟨q1, b2, hf⟩ := Option.bind_eq_some_iff.mp hf
  cases hf
  exact x_thr (ci := 52) b2 (Nat.le_of_ble_eq_true rfl) (Nat.le_of_ble_eq_true rfl) dX1_count_11 dX1_count_14 dX1_count_15 dX1_count_18 rfl q4080 q4081 q480 q4089 (Nat.le_of_ble_eq_true rfl) rfl (by omega)
def fX1_count (this : Nat) (p0 : Int32) (h : eH) : Option ((Int32 ⊕ Nat) × eH) :=
  if p0 < 0 then
    fX1_count_b11 h
  else
    if p0 < (256 : Int32) then
      (g_A 0 h this 3).bind fun a3 =>
      (g_A 2 h a3 6).bind fun a5 =>
      (g_A 8 h a5 3).bind fun a7 =>
      (r_I 100 h a7 p0).bind fun x9 =>
      some (.inl x9, h)
    else
      fX1_count_b11 h
theorem pX1_count {w : eW} {d : Nat} (hd : 6 ≤ d) {this : Nat} {p0 : Int32} {h : eH} {q} (hf : fX1_count this p0 h = some q) : wm w d YX1_count [.ref this, .int p0] h (e_is (e_rt c_I q)) := by
  obtain ⟨d, rfl⟩ : ∃ e, d = e + 1 := ⟨d - 1, by omega⟩
  show wp w (d + 1) YX1_count 0 [some (.ref this), some (.int p0)] [] h _
  unfold fX1_count at hf
  refine w_iload_n dX1_count_0 rfl rfl ?_
  refine w_if_lt 11 dX1_count_1 (by decide) (fun c1 => ?_) (fun c1 => ?_)
  · replace hf := (if_pos (show p0 < 0 from c1)).symm.trans hf
    exact (pX1_count_b11 hd hf).to trivial
  · replace hf := (if_neg (show ¬ (p0 < 0) from c1)).symm.trans hf
    refine w_iload_n dX1_count_4 rfl rfl ?_
    refine w_sipush dX1_count_5 (v := 256) (by decide) ?_
    refine w_icmp_lt 19 dX1_count_8 (by decide) (fun c2 => ?_) (fun c2 => ?_)
    · replace hf := (if_pos (show p0 < (256 : Int32) from c2)).symm.trans hf
      refine w_aload_n dX1_count_19 rfl rfl ?_
      obtain ⟨a3, b4, hf⟩ := Option.bind_eq_some_iff.mp hf
      refine GX1_45 b4 dX1_count_20 rfl ?_
      obtain ⟨a5, b6, hf⟩ := Option.bind_eq_some_iff.mp hf
      refine GX1_146 b6 dX1_count_23 rfl ?_
      obtain ⟨a7, b8, hf⟩ := Option.bind_eq_some_iff.mp hf
      refine GX1_150 b8 dX1_count_26 rfl ?_
      refine w_iload_n dX1_count_29 rfl rfl ?_
      obtain ⟨x9, b10, hf⟩ := Option.bind_eq_some_iff.mp hf
      refine x_rI b10 dX1_count_30 ?_
      cases hf
      exact w_iret dX1_count_31 rfl rfl rfl
    · replace hf := (if_neg (show ¬ (p0 < (256 : Int32)) from c2)).symm.trans hf
      exact (pX1_count_b11 hd hf).to trivial
abbrev cX2_take : ByteArray := prog_8_method_2_code
def yX2_take : MethodName := ⟨RX2, "take", "([BI)Z"⟩
def YX2_take : eY := (yX2_take, cX2_take, 3, (Option.some FieldType.boolean), [])
theorem mX2_take : e_mv YX2_take RX2 2 := ⟨q2200, q2201, q2202, by decide, by decide +kernel, (e_sig (by decide +kernel))⟩
theorem dX2_take_0 : decode cX2_take 0 = .ok (.iload_n 2, 1) := dc_28 (by decide +kernel)
theorem dX2_take_1 : decode cX2_take 1 = .ok (.sipush 8192, 3) := dc_17 (a := 32) (b := 0) (v := 8192) (by decide +kernel)
theorem dX2_take_4 : decode cX2_take 4 = .ok (.if_icmp .le 5, 3) := dc_164 (a := 0) (b := 5) (v := 5) (by decide +kernel)
theorem dX2_take_7 : decode cX2_take 7 = .ok (.iconst 0, 1) := dc_3 (by decide +kernel)
theorem dX2_take_8 : decode cX2_take 8 = .ok (.ireturn, 1) := dc_172 (by decide +kernel)
theorem dX2_take_9 : decode cX2_take 9 = .ok (.aload_n 1, 1) := dc_43 (by decide +kernel)
theorem dX2_take_10 : decode cX2_take 10 = .ok (.iconst 0, 1) := dc_3 (by decide +kernel)
theorem dX2_take_11 : decode cX2_take 11 = .ok (.aload_n 0, 1) := dc_42 (by decide +kernel)
theorem dX2_take_12 : decode cX2_take 12 = .ok (.getfield 9, 3) := dc_180 (a := 0) (b := 9) (n := 9) (by decide +kernel)
theorem dX2_take_15 : decode cX2_take 15 = .ok (.iconst 0, 1) := dc_3 (by decide +kernel)
theorem dX2_take_16 : decode cX2_take 16 = .ok (.iload_n 2, 1) := dc_28 (by decide +kernel)
theorem dX2_take_17 : decode cX2_take 17 = .ok (.invokestatic 15, 3) := dc_184 (a := 0) (b := 15) (n := 15) (by decide +kernel)
theorem dX2_take_20 : decode cX2_take 20 = .ok (.aload_n 0, 1) := dc_42 (by decide +kernel)
theorem dX2_take_21 : decode cX2_take 21 = .ok (.iload_n 2, 1) := dc_28 (by decide +kernel)
theorem dX2_take_22 : decode cX2_take 22 = .ok (.putfield 21, 3) := dc_181 (a := 0) (b := 21) (n := 21) (by decide +kernel)
theorem dX2_take_25 : decode cX2_take 25 = .ok (.iconst 1, 1) := dc_4 (by decide +kernel)
theorem dX2_take_26 : decode cX2_take 26 = .ok (.ireturn, 1) := dc_172 (by decide +kernel)
theorem GX2_9 {w : eW} {d : Nat} {Y : eY} {pc : Nat} {ls : eL} {st : List Value} {h : eH} {Q : eO → eH → Prop} {a : Nat} {x : Nat} (hf : g_A 1 h a 0 = some x) (hd : decode Y.2.1 pc = .ok (.getfield 9, 3)) (hY : Y.1.cls = RX2) (kk : wp w d Y (pc + 3) ls (.ref x :: st) h Q) : wp w d Y pc ls (.ref a :: st) h Q := x_gA (ci := 1) (k := 0) hf hd rfl (by decide) (by rw [hY]; exact q499) kk
theorem SX2_21 {w : eW} {d : Nat} {Y : eY} {pc : Nat} {ls : eL} {st : List Value} {h : eH} {Q : eO → eH → Prop} {a : Nat} {h' : eH} {x : Int32} (hf : p_V 1 h a 1 (.int x) = some h') (hd : decode Y.2.1 pc = .ok (.putfield 21, 3)) (hY : Y.1.cls = RX2) (kk : wp w d Y (pc + 3) ls st h' Q) : wp w d Y pc ls (.int x :: .ref a :: st) h Q := x_pI (ci := 1) (k := 1) hf hd rfl (by decide) (by rw [hY]; exact q500) rfl rfl kk
def fX2_take (this : Nat) (p0 : Nat) (p1 : Int32) (h : eH) : Option (Int32 × eH) :=
  if p1 ≤ (8192 : Int32) then
    (g_A 1 h this 0).bind fun a2 =>
    (a_cpy h p0 (0 : Int32) a2 (0 : Int32) p1).bind fun h4 =>
    (p_V 1 h4 this 1 (.int p1)).bind fun h6 =>
    some ((1 : Int32), h6)
  else
    some ((0 : Int32), h)
theorem pX2_take {w : eW} {d : Nat} (hd : 1 ≤ d) {this : Nat} {p0 : Nat} {p1 : Int32} {h : eH} {q} (hf : fX2_take this p0 p1 h = some q) : wm w d YX2_take [.ref this, .ref p0, .int p1] h (e_is (e_rn c_I q)) := by
  obtain ⟨d, rfl⟩ : ∃ e, d = e + 1 := ⟨d - 1, by omega⟩
  show wp w (d + 1) YX2_take 0 [some (.ref this), some (.ref p0), some (.int p1)] [] h _
  unfold fX2_take at hf
  refine w_iload_n dX2_take_0 rfl rfl ?_
  refine w_sipush dX2_take_1 (v := 8192) (by decide) ?_
  refine w_icmp_le 9 dX2_take_4 (by decide) (fun c1 => ?_) (fun c1 => ?_)
  · replace hf := (if_pos (show p1 ≤ (8192 : Int32) from c1)).symm.trans hf
    refine w_aload_n dX2_take_9 rfl rfl ?_
    refine w_iconst dX2_take_10 (v := 0) (by decide) ?_
    refine w_aload_n dX2_take_11 rfl rfl ?_
    obtain ⟨a2, b3, hf⟩ := Option.bind_eq_some_iff.mp hf
    refine GX2_9 b3 dX2_take_12 rfl ?_
    refine w_iconst dX2_take_15 (v := 0) (by decide) ?_
    refine w_iload_n dX2_take_16 rfl rfl ?_
    obtain ⟨h4, b5, hf⟩ := Option.bind_eq_some_iff.mp hf
    refine x_cpy b5 dX2_take_17 q2203 q955 q954 q441 (Nat.le_of_ble_eq_true rfl) ?_
    refine w_aload_n dX2_take_20 rfl rfl ?_
    refine w_iload_n dX2_take_21 rfl rfl ?_
    obtain ⟨h6, b7, hf⟩ := Option.bind_eq_some_iff.mp hf
    refine SX2_21 b7 dX2_take_22 rfl ?_
    refine w_iconst dX2_take_25 (v := 1) (by decide) ?_
    cases hf
    exact w_iret dX2_take_26 rfl rfl rfl
  · replace hf := (if_neg (show ¬ (p1 ≤ (8192 : Int32)) from c1)).symm.trans hf
    refine w_iconst dX2_take_7 (v := 0) (by decide) ?_
    cases hf
    exact w_iret dX2_take_8 rfl rfl rfl
abbrev cX2_at : ByteArray := prog_8_method_4_code
def yX2_at : MethodName := ⟨RX2, "at", "(II)I"⟩
def YX2_at : eY := (yX2_at, cX2_at, 3, (Option.some FieldType.int), [])
theorem mX2_at : e_mv YX2_at RX2 2 := ⟨q2221, q2222, q2223, by decide, by decide +kernel, (e_sig (by decide +kernel))⟩
theorem dX2_at_0 : decode cX2_at 0 = .ok (.aload_n 0, 1) := dc_42 (by decide +kernel)
theorem dX2_at_1 : decode cX2_at 1 = .ok (.getfield 9, 3) := dc_180 (a := 0) (b := 9) (n := 9) (by decide +kernel)
theorem dX2_at_4 : decode cX2_at 4 = .ok (.iconst 4, 1) := dc_7 (by decide +kernel)
theorem dX2_at_5 : decode cX2_at 5 = .ok (.iload_n 1, 1) := dc_27 (by decide +kernel)
theorem dX2_at_6 : decode cX2_at 6 = .ok (.imul, 1) := dc_104 (by decide +kernel)
theorem dX2_at_7 : decode cX2_at 7 = .ok (.iload_n 2, 1) := dc_28 (by decide +kernel)
theorem dX2_at_8 : decode cX2_at 8 = .ok (.iadd, 1) := dc_96 (by decide +kernel)
theorem dX2_at_9 : decode cX2_at 9 = .ok (.baload, 1) := dc_51 (by decide +kernel)
theorem dX2_at_10 : decode cX2_at 10 = .ok (.sipush 255, 3) := dc_17 (a := 0) (b := 255) (v := 255) (by decide +kernel)
theorem dX2_at_13 : decode cX2_at 13 = .ok (.iand, 1) := dc_126 (by decide +kernel)
theorem dX2_at_14 : decode cX2_at 14 = .ok (.ireturn, 1) := dc_172 (by decide +kernel)
def fX2_at (this : Nat) (p0 : Int32) (p1 : Int32) (h : eH) : Option (Int32 × eH) :=
  (g_A 1 h this 0).bind fun a1 =>
  (r_I 102 h a1 (((4 : Int32) * p0) + p1)).bind fun x3 =>
  some ((x3 &&& (255 : Int32)), h)
theorem pX2_at {w : eW} {d : Nat} (hd : 0 ≤ d) {this : Nat} {p0 : Int32} {p1 : Int32} {h : eH} {q} (hf : fX2_at this p0 p1 h = some q) : wm w d YX2_at [.ref this, .int p0, .int p1] h (e_is (e_rn c_I q)) := by
  show wp w d YX2_at 0 [some (.ref this), some (.int p0), some (.int p1)] [] h _
  unfold fX2_at at hf
  refine w_aload_n dX2_at_0 rfl rfl ?_
  obtain ⟨a1, b2, hf⟩ := Option.bind_eq_some_iff.mp hf
  refine GX2_9 b2 dX2_at_1 rfl ?_
  refine w_iconst dX2_at_4 (v := 4) (by decide) ?_
  refine w_iload_n dX2_at_5 rfl rfl ?_
  refine w_imul dX2_at_6 ?_
  refine w_iload_n dX2_at_7 rfl rfl ?_
  refine w_iadd dX2_at_8 ?_
  obtain ⟨x3, b4, hf⟩ := Option.bind_eq_some_iff.mp hf
  refine x_rB b4 dX2_at_9 ?_
  refine w_sipush dX2_at_10 (v := 255) (by decide) ?_
  refine w_iand dX2_at_13 ?_
  cases hf
  exact w_iret dX2_at_14 rfl rfl rfl
abbrev cX2_half : ByteArray := prog_8_method_5_code
def yX2_half : MethodName := ⟨RX2, "half", "(I)I"⟩
def YX2_half : eY := (yX2_half, cX2_half, 2, (Option.some FieldType.int), [])
theorem mX2_half : e_mv YX2_half RX2 1 := ⟨q2217, q2218, q2219, by decide, by decide +kernel, (e_sig (by decide +kernel))⟩
theorem dX2_half_0 : decode cX2_half 0 = .ok (.aload_n 0, 1) := dc_42 (by decide +kernel)
theorem dX2_half_1 : decode cX2_half 1 = .ok (.iload_n 1, 1) := dc_27 (by decide +kernel)
theorem dX2_half_2 : decode cX2_half 2 = .ok (.iconst 2, 1) := dc_5 (by decide +kernel)
theorem dX2_half_3 : decode cX2_half 3 = .ok (.idiv, 1) := dc_108 (by decide +kernel)
theorem dX2_half_4 : decode cX2_half 4 = .ok (.iconst 2, 1) := dc_5 (by decide +kernel)
theorem dX2_half_5 : decode cX2_half 5 = .ok (.iload_n 1, 1) := dc_27 (by decide +kernel)
theorem dX2_half_6 : decode cX2_half 6 = .ok (.iconst 1, 1) := dc_4 (by decide +kernel)
theorem dX2_half_7 : decode cX2_half 7 = .ok (.iand, 1) := dc_126 (by decide +kernel)
theorem dX2_half_8 : decode cX2_half 8 = .ok (.imul, 1) := dc_104 (by decide +kernel)
theorem dX2_half_9 : decode cX2_half 9 = .ok (.invokevirtual 25, 3) := dc_182 (a := 0) (b := 25) (n := 25) (by decide +kernel)
theorem dX2_half_12 : decode cX2_half 12 = .ok (.bipush 8, 2) := dc_16 (a := 8) (v := 8) (by decide +kernel)
theorem dX2_half_14 : decode cX2_half 14 = .ok (.ishl, 1) := dc_120 (by decide +kernel)
theorem dX2_half_15 : decode cX2_half 15 = .ok (.aload_n 0, 1) := dc_42 (by decide +kernel)
theorem dX2_half_16 : decode cX2_half 16 = .ok (.iload_n 1, 1) := dc_27 (by decide +kernel)
theorem dX2_half_17 : decode cX2_half 17 = .ok (.iconst 2, 1) := dc_5 (by decide +kernel)
theorem dX2_half_18 : decode cX2_half 18 = .ok (.idiv, 1) := dc_108 (by decide +kernel)
theorem dX2_half_19 : decode cX2_half 19 = .ok (.iconst 2, 1) := dc_5 (by decide +kernel)
theorem dX2_half_20 : decode cX2_half 20 = .ok (.iload_n 1, 1) := dc_27 (by decide +kernel)
theorem dX2_half_21 : decode cX2_half 21 = .ok (.iconst 1, 1) := dc_4 (by decide +kernel)
theorem dX2_half_22 : decode cX2_half 22 = .ok (.iand, 1) := dc_126 (by decide +kernel)
theorem dX2_half_23 : decode cX2_half 23 = .ok (.imul, 1) := dc_104 (by decide +kernel)
theorem dX2_half_24 : decode cX2_half 24 = .ok (.iconst 1, 1) := dc_4 (by decide +kernel)
theorem dX2_half_25 : decode cX2_half 25 = .ok (.iadd, 1) := dc_96 (by decide +kernel)
theorem dX2_half_26 : decode cX2_half 26 = .ok (.invokevirtual 25, 3) := dc_182 (a := 0) (b := 25) (n := 25) (by decide +kernel)
theorem dX2_half_29 : decode cX2_half 29 = .ok (.ior, 1) := dc_128 (by decide +kernel)
theorem dX2_half_30 : decode cX2_half 30 = .ok (.ireturn, 1) := dc_172 (by decide +kernel)
def fX2_half (this : Nat) (p0 : Int32) (h : eH) : Option (Int32 × eH) :=
  (k_ok 1 h this).bind fun _ =>
  (fX2_at this (p0 / (2 : Int32)) ((2 : Int32) * (p0 &&& (1 : Int32))) h).bind fun q2 =>
  (k_ok 1 q2.2 this).bind fun _ =>
  (fX2_at this (p0 / (2 : Int32)) (((2 : Int32) * (p0 &&& (1 : Int32))) + (1 : Int32)) q2.2).bind fun q4 =>
  some (((q2.1 <<< ((8 : Int32) &&& 31)) ||| q4.1), q4.2)
theorem pX2_half {w : eW} {d : Nat} (hd : 1 ≤ d) {this : Nat} {p0 : Int32} {h : eH} {q} (hf : fX2_half this p0 h = some q) : wm w d YX2_half [.ref this, .int p0] h (e_is (e_rn c_I q)) := by
  obtain ⟨d, rfl⟩ : ∃ e, d = e + 1 := ⟨d - 1, by omega⟩
  show wp w (d + 1) YX2_half 0 [some (.ref this), some (.int p0)] [] h _
  unfold fX2_half at hf
  refine w_aload_n dX2_half_0 rfl rfl ?_
  refine w_iload_n dX2_half_1 rfl rfl ?_
  refine w_iconst dX2_half_2 (v := 2) (by decide) ?_
  refine w_idiv dX2_half_3 (by decide) ?_
  refine w_iconst dX2_half_4 (v := 2) (by decide) ?_
  refine w_iload_n dX2_half_5 rfl rfl ?_
  refine w_iconst dX2_half_6 (v := 1) (by decide) ?_
  refine w_iand dX2_half_7 ?_
  refine w_imul dX2_half_8 ?_
  obtain ⟨_, b1, hf⟩ := Option.bind_eq_some_iff.mp hf
  refine x_cnI hf (e_stV (Yc := YX2_at) (ci := 1) (av := [.int (p0 / (2 : Int32)), .int ((2 : Int32) * (p0 &&& (1 : Int32)))]) (st := []) dX2_half_9 q2220 mX2_at rfl (k_ok_some b1).1 (k_ok_some b1).2) mX2_at.2.2.1 mX2_at.2.2.2.2.1 (Nat.le_of_ble_eq_true rfl) (Nat.le_of_ble_eq_true rfl) (fun q hq => pX2_at (by omega) hq) (fun q2 hf => ?_)
  refine w_bipush dX2_half_12 (v := 8) (by decide) ?_
  refine w_ishl dX2_half_14 ?_
  refine w_aload_n dX2_half_15 rfl rfl ?_
  refine w_iload_n dX2_half_16 rfl rfl ?_
  refine w_iconst dX2_half_17 (v := 2) (by decide) ?_
  refine w_idiv dX2_half_18 (by decide) ?_
  refine w_iconst dX2_half_19 (v := 2) (by decide) ?_
  refine w_iload_n dX2_half_20 rfl rfl ?_
  refine w_iconst dX2_half_21 (v := 1) (by decide) ?_
  refine w_iand dX2_half_22 ?_
  refine w_imul dX2_half_23 ?_
  refine w_iconst dX2_half_24 (v := 1) (by decide) ?_
  refine w_iadd dX2_half_25 ?_
  obtain ⟨_, b3, hf⟩ := Option.bind_eq_some_iff.mp hf
  refine x_cnI hf (e_stV (Yc := YX2_at) (ci := 1) (av := [.int (p0 / (2 : Int32)), .int (((2 : Int32) * (p0 &&& (1 : Int32))) + (1 : Int32))]) (st := [.int (q2.1 <<< ((8 : Int32) &&& 31))]) dX2_half_26 q2220 mX2_at rfl (k_ok_some b3).1 (k_ok_some b3).2) mX2_at.2.2.1 mX2_at.2.2.2.2.1 (Nat.le_of_ble_eq_true rfl) (Nat.le_of_ble_eq_true rfl) (fun q hq => pX2_at (by omega) hq) (fun q4 hf => ?_)
  refine w_ior dX2_half_29 ?_
  cases hf
  exact w_iret dX2_half_30 rfl rfl rfl
abbrev cX2_whole : ByteArray := prog_8_method_6_code
def yX2_whole : MethodName := ⟨RX2, "whole", "(I)I"⟩
def YX2_whole : eY := (yX2_whole, cX2_whole, 2, (Option.some FieldType.int), [])
theorem mX2_whole : e_mv YX2_whole RX2 1 := ⟨q2226, q2227, q2228, by decide, by decide +kernel, (e_sig (by decide +kernel))⟩
theorem dX2_whole_0 : decode cX2_whole 0 = .ok (.aload_n 0, 1) := dc_42 (by decide +kernel)
theorem dX2_whole_1 : decode cX2_whole 1 = .ok (.iload_n 1, 1) := dc_27 (by decide +kernel)
theorem dX2_whole_2 : decode cX2_whole 2 = .ok (.iconst 0, 1) := dc_3 (by decide +kernel)
theorem dX2_whole_3 : decode cX2_whole 3 = .ok (.invokevirtual 25, 3) := dc_182 (a := 0) (b := 25) (n := 25) (by decide +kernel)
theorem dX2_whole_6 : decode cX2_whole 6 = .ok (.bipush 24, 2) := dc_16 (a := 24) (v := 24) (by decide +kernel)
theorem dX2_whole_8 : decode cX2_whole 8 = .ok (.ishl, 1) := dc_120 (by decide +kernel)
theorem dX2_whole_9 : decode cX2_whole 9 = .ok (.aload_n 0, 1) := dc_42 (by decide +kernel)
theorem dX2_whole_10 : decode cX2_whole 10 = .ok (.iload_n 1, 1) := dc_27 (by decide +kernel)
theorem dX2_whole_11 : decode cX2_whole 11 = .ok (.iconst 1, 1) := dc_4 (by decide +kernel)
theorem dX2_whole_12 : decode cX2_whole 12 = .ok (.invokevirtual 25, 3) := dc_182 (a := 0) (b := 25) (n := 25) (by decide +kernel)
theorem dX2_whole_15 : decode cX2_whole 15 = .ok (.bipush 16, 2) := dc_16 (a := 16) (v := 16) (by decide +kernel)
theorem dX2_whole_17 : decode cX2_whole 17 = .ok (.ishl, 1) := dc_120 (by decide +kernel)
theorem dX2_whole_18 : decode cX2_whole 18 = .ok (.ior, 1) := dc_128 (by decide +kernel)
theorem dX2_whole_19 : decode cX2_whole 19 = .ok (.aload_n 0, 1) := dc_42 (by decide +kernel)
theorem dX2_whole_20 : decode cX2_whole 20 = .ok (.iload_n 1, 1) := dc_27 (by decide +kernel)
theorem dX2_whole_21 : decode cX2_whole 21 = .ok (.iconst 2, 1) := dc_5 (by decide +kernel)
theorem dX2_whole_22 : decode cX2_whole 22 = .ok (.invokevirtual 25, 3) := dc_182 (a := 0) (b := 25) (n := 25) (by decide +kernel)
theorem dX2_whole_25 : decode cX2_whole 25 = .ok (.bipush 8, 2) := dc_16 (a := 8) (v := 8) (by decide +kernel)
theorem dX2_whole_27 : decode cX2_whole 27 = .ok (.ishl, 1) := dc_120 (by decide +kernel)
theorem dX2_whole_28 : decode cX2_whole 28 = .ok (.ior, 1) := dc_128 (by decide +kernel)
theorem dX2_whole_29 : decode cX2_whole 29 = .ok (.aload_n 0, 1) := dc_42 (by decide +kernel)
theorem dX2_whole_30 : decode cX2_whole 30 = .ok (.iload_n 1, 1) := dc_27 (by decide +kernel)
theorem dX2_whole_31 : decode cX2_whole 31 = .ok (.iconst 3, 1) := dc_6 (by decide +kernel)
theorem dX2_whole_32 : decode cX2_whole 32 = .ok (.invokevirtual 25, 3) := dc_182 (a := 0) (b := 25) (n := 25) (by decide +kernel)
theorem dX2_whole_35 : decode cX2_whole 35 = .ok (.ior, 1) := dc_128 (by decide +kernel)
theorem dX2_whole_36 : decode cX2_whole 36 = .ok (.ireturn, 1) := dc_172 (by decide +kernel)
def fX2_whole (this : Nat) (p0 : Int32) (h : eH) : Option (Int32 × eH) :=
  (k_ok 1 h this).bind fun _ =>
  (fX2_at this p0 (0 : Int32) h).bind fun q2 =>
  (k_ok 1 q2.2 this).bind fun _ =>
  (fX2_at this p0 (1 : Int32) q2.2).bind fun q4 =>
  (k_ok 1 q4.2 this).bind fun _ =>
  (fX2_at this p0 (2 : Int32) q4.2).bind fun q6 =>
  (k_ok 1 q6.2 this).bind fun _ =>
  (fX2_at this p0 (3 : Int32) q6.2).bind fun q8 =>
  some (((((q2.1 <<< ((24 : Int32) &&& 31)) ||| (q4.1 <<< ((16 : Int32) &&& 31))) ||| (q6.1 <<< ((8 : Int32) &&& 31))) ||| q8.1), q8.2)
theorem pX2_whole {w : eW} {d : Nat} (hd : 1 ≤ d) {this : Nat} {p0 : Int32} {h : eH} {q} (hf : fX2_whole this p0 h = some q) : wm w d YX2_whole [.ref this, .int p0] h (e_is (e_rn c_I q)) := by
  obtain ⟨d, rfl⟩ : ∃ e, d = e + 1 := ⟨d - 1, by omega⟩
  show wp w (d + 1) YX2_whole 0 [some (.ref this), some (.int p0)] [] h _
  unfold fX2_whole at hf
  refine w_aload_n dX2_whole_0 rfl rfl ?_
  refine w_iload_n dX2_whole_1 rfl rfl ?_
  refine w_iconst dX2_whole_2 (v := 0) (by decide) ?_
  obtain ⟨_, b1, hf⟩ := Option.bind_eq_some_iff.mp hf
  refine x_cnI hf (e_stV (Yc := YX2_at) (ci := 1) (av := [.int p0, .int (0 : Int32)]) (st := []) dX2_whole_3 q2220 mX2_at rfl (k_ok_some b1).1 (k_ok_some b1).2) mX2_at.2.2.1 mX2_at.2.2.2.2.1 (Nat.le_of_ble_eq_true rfl) (Nat.le_of_ble_eq_true rfl) (fun q hq => pX2_at (by omega) hq) (fun q2 hf => ?_)
  refine w_bipush dX2_whole_6 (v := 24) (by decide) ?_
  refine w_ishl dX2_whole_8 ?_
  refine w_aload_n dX2_whole_9 rfl rfl ?_
  refine w_iload_n dX2_whole_10 rfl rfl ?_
  refine w_iconst dX2_whole_11 (v := 1) (by decide) ?_
  obtain ⟨_, b3, hf⟩ := Option.bind_eq_some_iff.mp hf
  refine x_cnI hf (e_stV (Yc := YX2_at) (ci := 1) (av := [.int p0, .int (1 : Int32)]) (st := [.int (q2.1 <<< ((24 : Int32) &&& 31))]) dX2_whole_12 q2220 mX2_at rfl (k_ok_some b3).1 (k_ok_some b3).2) mX2_at.2.2.1 mX2_at.2.2.2.2.1 (Nat.le_of_ble_eq_true rfl) (Nat.le_of_ble_eq_true rfl) (fun q hq => pX2_at (by omega) hq) (fun q4 hf => ?_)
  refine w_bipush dX2_whole_15 (v := 16) (by decide) ?_
  refine w_ishl dX2_whole_17 ?_
  refine w_ior dX2_whole_18 ?_
  refine w_aload_n dX2_whole_19 rfl rfl ?_
  refine w_iload_n dX2_whole_20 rfl rfl ?_
  refine w_iconst dX2_whole_21 (v := 2) (by decide) ?_
  obtain ⟨_, b5, hf⟩ := Option.bind_eq_some_iff.mp hf
  refine x_cnI hf (e_stV (Yc := YX2_at) (ci := 1) (av := [.int p0, .int (2 : Int32)]) (st := [.int ((q2.1 <<< ((24 : Int32) &&& 31)) ||| (q4.1 <<< ((16 : Int32) &&& 31)))]) dX2_whole_22 q2220 mX2_at rfl (k_ok_some b5).1 (k_ok_some b5).2) mX2_at.2.2.1 mX2_at.2.2.2.2.1 (Nat.le_of_ble_eq_true rfl) (Nat.le_of_ble_eq_true rfl) (fun q hq => pX2_at (by omega) hq) (fun q6 hf => ?_)
  refine w_bipush dX2_whole_25 (v := 8) (by decide) ?_
  refine w_ishl dX2_whole_27 ?_
  refine w_ior dX2_whole_28 ?_
  refine w_aload_n dX2_whole_29 rfl rfl ?_
  refine w_iload_n dX2_whole_30 rfl rfl ?_
  refine w_iconst dX2_whole_31 (v := 3) (by decide) ?_
  obtain ⟨_, b7, hf⟩ := Option.bind_eq_some_iff.mp hf
  refine x_cnI hf (e_stV (Yc := YX2_at) (ci := 1) (av := [.int p0, .int (3 : Int32)]) (st := [.int (((q2.1 <<< ((24 : Int32) &&& 31)) ||| (q4.1 <<< ((16 : Int32) &&& 31))) ||| (q6.1 <<< ((8 : Int32) &&& 31)))]) dX2_whole_32 q2220 mX2_at rfl (k_ok_some b7).1 (k_ok_some b7).2) mX2_at.2.2.1 mX2_at.2.2.2.2.1 (Nat.le_of_ble_eq_true rfl) (Nat.le_of_ble_eq_true rfl) (fun q hq => pX2_at (by omega) hq) (fun q8 hf => ?_)
  refine w_ior dX2_whole_35 ?_
  cases hf
  exact w_iret dX2_whole_36 rfl rfl rfl
abbrev cX6_word : ByteArray := prog_7_method_2_code
def yX6_word : MethodName := ⟨RX6, "word", "(II)I"⟩
def YX6_word : eY := (yX6_word, cX6_word, 3, (Option.some FieldType.int), [])
theorem mX6_word : e_mv YX6_word RX6 2 := ⟨q2231, qs18, q2232, by decide, by decide +kernel, (e_sig (by decide +kernel))⟩
theorem dX6_word_0 : decode cX6_word 0 = .ok (.aload_n 0, 1) := dc_42 (by decide +kernel)
theorem dX6_word_1 : decode cX6_word 1 = .ok (.getfield 9, 3) := dc_180 (a := 0) (b := 9) (n := 9) (by decide +kernel)
theorem dX6_word_4 : decode cX6_word 4 = .ok (.aload_n 0, 1) := dc_42 (by decide +kernel)
theorem dX6_word_5 : decode cX6_word 5 = .ok (.getfield 18, 3) := dc_180 (a := 0) (b := 18) (n := 18) (by decide +kernel)
theorem dX6_word_8 : decode cX6_word 8 = .ok (.iload_n 1, 1) := dc_27 (by decide +kernel)
theorem dX6_word_9 : decode cX6_word 9 = .ok (.iaload, 1) := dc_46 (by decide +kernel)
theorem dX6_word_10 : decode cX6_word 10 = .ok (.iload_n 2, 1) := dc_28 (by decide +kernel)
theorem dX6_word_11 : decode cX6_word 11 = .ok (.iadd, 1) := dc_96 (by decide +kernel)
theorem dX6_word_12 : decode cX6_word 12 = .ok (.iaload, 1) := dc_46 (by decide +kernel)
theorem dX6_word_13 : decode cX6_word 13 = .ok (.ireturn, 1) := dc_172 (by decide +kernel)
theorem GX6_18 {w : eW} {d : Nat} {Y : eY} {pc : Nat} {ls : eL} {st : List Value} {h : eH} {Q : eO → eH → Prop} {a : Nat} {x : Nat} (hf : g_A 5 h a 2 = some x) (hd : decode Y.2.1 pc = .ok (.getfield 18, 3)) (hY : Y.1.cls = RX6) (kk : wp w d Y (pc + 3) ls (.ref x :: st) h Q) : wp w d Y pc ls (.ref a :: st) h Q := x_gA (ci := 5) (k := 2) hf hd rfl (by decide) (by rw [hY]; exact q544) kk
theorem GX6_9 {w : eW} {d : Nat} {Y : eY} {pc : Nat} {ls : eL} {st : List Value} {h : eH} {Q : eO → eH → Prop} {a : Nat} {x : Nat} (hf : g_A 5 h a 0 = some x) (hd : decode Y.2.1 pc = .ok (.getfield 9, 3)) (hY : Y.1.cls = RX6) (kk : wp w d Y (pc + 3) ls (.ref x :: st) h Q) : wp w d Y pc ls (.ref a :: st) h Q := x_gA (ci := 5) (k := 0) hf hd rfl (by decide) (by rw [hY]; exact q541) kk
def fX6_word (this : Nat) (p0 : Int32) (p1 : Int32) (h : eH) : Option (Int32 × eH) :=
  (g_A 5 h this 0).bind fun a1 =>
  (g_A 5 h this 2).bind fun a3 =>
  (r_I 100 h a3 p0).bind fun x5 =>
  (r_I 100 h a1 (x5 + p1)).bind fun x7 =>
  some (x7, h)
theorem pX6_word {w : eW} {d : Nat} (hd : 0 ≤ d) {this : Nat} {p0 : Int32} {p1 : Int32} {h : eH} {q} (hf : fX6_word this p0 p1 h = some q) : wm w d YX6_word [.ref this, .int p0, .int p1] h (e_is (e_rn c_I q)) := by
  show wp w d YX6_word 0 [some (.ref this), some (.int p0), some (.int p1)] [] h _
  unfold fX6_word at hf
  refine w_aload_n dX6_word_0 rfl rfl ?_
  obtain ⟨a1, b2, hf⟩ := Option.bind_eq_some_iff.mp hf
  refine GX6_9 b2 dX6_word_1 rfl ?_
  refine w_aload_n dX6_word_4 rfl rfl ?_
  obtain ⟨a3, b4, hf⟩ := Option.bind_eq_some_iff.mp hf
  refine GX6_18 b4 dX6_word_5 rfl ?_
  refine w_iload_n dX6_word_8 rfl rfl ?_
  obtain ⟨x5, b6, hf⟩ := Option.bind_eq_some_iff.mp hf
  refine x_rI b6 dX6_word_9 ?_
  refine w_iload_n dX6_word_10 rfl rfl ?_
  refine w_iadd dX6_word_11 ?_
  obtain ⟨x7, b8, hf⟩ := Option.bind_eq_some_iff.mp hf
  refine x_rI b8 dX6_word_12 ?_
  cases hf
  exact w_iret dX6_word_13 rfl rfl rfl
abbrev cX6_layOut : ByteArray := prog_7_method_9_code
def yX6_layOut : MethodName := ⟨RX6, "layOut", "(LTypeHouse$FontFile;)I"⟩
def YX6_layOut : eY := (yX6_layOut, cX6_layOut, 6, (Option.some FieldType.int), [])
theorem mX6_layOut : e_mv YX6_layOut RX6 1 := ⟨q2214, qs17, q2215, by decide, by decide +kernel, (e_sig (by decide +kernel))⟩
theorem dX6_layOut_0 : decode cX6_layOut 0 = .ok (.aload_n 1, 1) := dc_43 (by decide +kernel)
theorem dX6_layOut_1 : decode cX6_layOut 1 = .ok (.getfield 40, 3) := dc_180 (a := 0) (b := 40) (n := 40) (by decide +kernel)
theorem dX6_layOut_4 : decode cX6_layOut 4 = .ok (.bipush 24, 2) := dc_16 (a := 24) (v := 24) (by decide +kernel)
theorem dX6_layOut_6 : decode cX6_layOut 6 = .ok (.if_icmp .lt 7, 3) := dc_161 (a := 0) (b := 7) (v := 7) (by decide +kernel)
theorem dX6_layOut_9 : decode cX6_layOut 9 = .ok (.iconst 1, 1) := dc_4 (by decide +kernel)
theorem dX6_layOut_10 : decode cX6_layOut 10 = .ok (.goto 4, 3) := dc_167 (a := 0) (b := 4) (v := 4) (by decide +kernel)
theorem dX6_layOut_13 : decode cX6_layOut 13 = .ok (.iconst 0, 1) := dc_3 (by decide +kernel)
theorem dX6_layOut_14 : decode cX6_layOut 14 = .ok (.istore_n 2, 1) := dc_61 (by decide +kernel)
theorem dX6_layOut_15 : decode cX6_layOut 15 = .ok (.iconst 0, 1) := dc_3 (by decide +kernel)
theorem dX6_layOut_16 : decode cX6_layOut 16 = .ok (.istore_n 3, 1) := dc_62 (by decide +kernel)
theorem dX6_layOut_17 : decode cX6_layOut 17 = .ok (.iload_n 3, 1) := dc_29 (by decide +kernel)
theorem dX6_layOut_18 : decode cX6_layOut 18 = .ok (.bipush 12, 2) := dc_16 (a := 12) (v := 12) (by decide +kernel)
theorem dX6_layOut_20 : decode cX6_layOut 20 = .ok (.if_icmp .ge 29, 3) := dc_162 (a := 0) (b := 29) (v := 29) (by decide +kernel)
theorem dX6_layOut_23 : decode cX6_layOut 23 = .ok (.iload_n 2, 1) := dc_28 (by decide +kernel)
theorem dX6_layOut_24 : decode cX6_layOut 24 = .ok (.ifCond .eq 25, 3) := dc_153 (a := 0) (b := 25) (v := 25) (by decide +kernel)
theorem dX6_layOut_27 : decode cX6_layOut 27 = .ok (.aload_n 1, 1) := dc_43 (by decide +kernel)
theorem dX6_layOut_28 : decode cX6_layOut 28 = .ok (.iload_n 3, 1) := dc_29 (by decide +kernel)
theorem dX6_layOut_29 : decode cX6_layOut 29 = .ok (.invokevirtual 45, 3) := dc_182 (a := 0) (b := 45) (n := 45) (by decide +kernel)
theorem dX6_layOut_32 : decode cX6_layOut 32 = .ok (.ldc 48, 2) := dc_18 (a := 48) (by decide +kernel)
theorem dX6_layOut_34 : decode cX6_layOut 34 = .ok (.if_icmp .ge 7, 3) := dc_162 (a := 0) (b := 7) (v := 7) (by decide +kernel)
theorem dX6_layOut_37 : decode cX6_layOut 37 = .ok (.iconst 1, 1) := dc_4 (by decide +kernel)
theorem dX6_layOut_38 : decode cX6_layOut 38 = .ok (.goto 4, 3) := dc_167 (a := 0) (b := 4) (v := 4) (by decide +kernel)
theorem dX6_layOut_41 : decode cX6_layOut 41 = .ok (.iconst 0, 1) := dc_3 (by decide +kernel)
theorem dX6_layOut_42 : decode cX6_layOut 42 = .ok (.istore_n 2, 1) := dc_61 (by decide +kernel)
theorem dX6_layOut_43 : decode cX6_layOut 43 = .ok (.iinc 3 1, 3) := dc_132 (a := 3) (b := 1) (v := 1) (by decide +kernel)
theorem dX6_layOut_46 : decode cX6_layOut 46 = .ok (.goto (-29), 3) := dc_167 (a := 255) (b := 227) (v := -29) (by decide +kernel)
theorem dX6_layOut_49 : decode cX6_layOut 49 = .ok (.iload_n 2, 1) := dc_28 (by decide +kernel)
theorem dX6_layOut_50 : decode cX6_layOut 50 = .ok (.ifCond .ne 5, 3) := dc_154 (a := 0) (b := 5) (v := 5) (by decide +kernel)
theorem dX6_layOut_53 : decode cX6_layOut 53 = .ok (.iconst 1, 1) := dc_4 (by decide +kernel)
theorem dX6_layOut_54 : decode cX6_layOut 54 = .ok (.ireturn, 1) := dc_172 (by decide +kernel)
theorem dX6_layOut_55 : decode cX6_layOut 55 = .ok (.aload_n 0, 1) := dc_42 (by decide +kernel)
theorem dX6_layOut_56 : decode cX6_layOut 56 = .ok (.aload_n 1, 1) := dc_43 (by decide +kernel)
theorem dX6_layOut_57 : decode cX6_layOut 57 = .ok (.iconst 2, 1) := dc_5 (by decide +kernel)
theorem dX6_layOut_58 : decode cX6_layOut 58 = .ok (.invokevirtual 45, 3) := dc_182 (a := 0) (b := 45) (n := 45) (by decide +kernel)
theorem dX6_layOut_61 : decode cX6_layOut 61 = .ok (.putfield 25, 3) := dc_181 (a := 0) (b := 25) (n := 25) (by decide +kernel)
theorem dX6_layOut_64 : decode cX6_layOut 64 = .ok (.aload_n 0, 1) := dc_42 (by decide +kernel)
theorem dX6_layOut_65 : decode cX6_layOut 65 = .ok (.aload_n 1, 1) := dc_43 (by decide +kernel)
theorem dX6_layOut_66 : decode cX6_layOut 66 = .ok (.iconst 3, 1) := dc_6 (by decide +kernel)
theorem dX6_layOut_67 : decode cX6_layOut 67 = .ok (.invokevirtual 45, 3) := dc_182 (a := 0) (b := 45) (n := 45) (by decide +kernel)
theorem dX6_layOut_70 : decode cX6_layOut 70 = .ok (.putfield 29, 3) := dc_181 (a := 0) (b := 29) (n := 29) (by decide +kernel)
theorem dX6_layOut_73 : decode cX6_layOut 73 = .ok (.aload_n 0, 1) := dc_42 (by decide +kernel)
theorem dX6_layOut_74 : decode cX6_layOut 74 = .ok (.getfield 25, 3) := dc_180 (a := 0) (b := 25) (n := 25) (by decide +kernel)
theorem dX6_layOut_77 : decode cX6_layOut 77 = .ok (.aload_n 0, 1) := dc_42 (by decide +kernel)
theorem dX6_layOut_78 : decode cX6_layOut 78 = .ok (.getfield 29, 3) := dc_180 (a := 0) (b := 29) (n := 29) (by decide +kernel)
theorem dX6_layOut_81 : decode cX6_layOut 81 = .ok (.iconst 1, 1) := dc_4 (by decide +kernel)
theorem dX6_layOut_82 : decode cX6_layOut 82 = .ok (.iadd, 1) := dc_96 (by decide +kernel)
theorem dX6_layOut_83 : decode cX6_layOut 83 = .ok (.if_icmp .gt 13, 3) := dc_163 (a := 0) (b := 13) (v := 13) (by decide +kernel)
theorem dX6_layOut_86 : decode cX6_layOut 86 = .ok (.aload_n 0, 1) := dc_42 (by decide +kernel)
theorem dX6_layOut_87 : decode cX6_layOut 87 = .ok (.getfield 29, 3) := dc_180 (a := 0) (b := 29) (n := 29) (by decide +kernel)
theorem dX6_layOut_90 : decode cX6_layOut 90 = .ok (.sipush 255, 3) := dc_17 (a := 0) (b := 255) (v := 255) (by decide +kernel)
theorem dX6_layOut_93 : decode cX6_layOut 93 = .ok (.if_icmp .le 5, 3) := dc_164 (a := 0) (b := 5) (v := 5) (by decide +kernel)
theorem dX6_layOut_96 : decode cX6_layOut 96 = .ok (.iconst 2, 1) := dc_5 (by decide +kernel)
theorem dX6_layOut_97 : decode cX6_layOut 97 = .ok (.ireturn, 1) := dc_172 (by decide +kernel)
theorem dX6_layOut_98 : decode cX6_layOut 98 = .ok (.bipush 6, 2) := dc_16 (a := 6) (v := 6) (by decide +kernel)
theorem dX6_layOut_100 : decode cX6_layOut 100 = .ok (.istore_n 3, 1) := dc_62 (by decide +kernel)
theorem dX6_layOut_101 : decode cX6_layOut 101 = .ok (.iconst 0, 1) := dc_3 (by decide +kernel)
theorem dX6_layOut_102 : decode cX6_layOut 102 = .ok (.istore 4, 2) := dc_54 (a := 4) (by decide +kernel)
theorem dX6_layOut_104 : decode cX6_layOut 104 = .ok (.iload 4, 2) := dc_21 (a := 4) (by decide +kernel)
theorem dX6_layOut_106 : decode cX6_layOut 106 = .ok (.bipush 10, 2) := dc_16 (a := 10) (v := 10) (by decide +kernel)
theorem dX6_layOut_108 : decode cX6_layOut 108 = .ok (.if_icmp .ge 74, 3) := dc_162 (a := 0) (b := 74) (v := 74) (by decide +kernel)
theorem dX6_layOut_111 : decode cX6_layOut 111 = .ok (.iload 4, 2) := dc_21 (a := 4) (by decide +kernel)
theorem dX6_layOut_113 : decode cX6_layOut 113 = .ok (.ifCond .ne 11, 3) := dc_154 (a := 0) (b := 11) (v := 11) (by decide +kernel)
theorem dX6_layOut_116 : decode cX6_layOut 116 = .ok (.aload_n 1, 1) := dc_43 (by decide +kernel)
theorem dX6_layOut_117 : decode cX6_layOut 117 = .ok (.iconst 1, 1) := dc_4 (by decide +kernel)
theorem dX6_layOut_118 : decode cX6_layOut 118 = .ok (.invokevirtual 45, 3) := dc_182 (a := 0) (b := 45) (n := 45) (by decide +kernel)
theorem dX6_layOut_121 : decode cX6_layOut 121 = .ok (.goto 31, 3) := dc_167 (a := 0) (b := 31) (v := 31) (by decide +kernel)
theorem dX6_layOut_124 : decode cX6_layOut 124 = .ok (.iload 4, 2) := dc_21 (a := 4) (by decide +kernel)
theorem dX6_layOut_126 : decode cX6_layOut 126 = .ok (.iconst 1, 1) := dc_4 (by decide +kernel)
theorem dX6_layOut_127 : decode cX6_layOut 127 = .ok (.if_icmp .ne 17, 3) := dc_160 (a := 0) (b := 17) (v := 17) (by decide +kernel)
theorem dX6_layOut_130 : decode cX6_layOut 130 = .ok (.aload_n 0, 1) := dc_42 (by decide +kernel)
theorem dX6_layOut_131 : decode cX6_layOut 131 = .ok (.getfield 29, 3) := dc_180 (a := 0) (b := 29) (n := 29) (by decide +kernel)
theorem dX6_layOut_134 : decode cX6_layOut 134 = .ok (.aload_n 0, 1) := dc_42 (by decide +kernel)
theorem dX6_layOut_135 : decode cX6_layOut 135 = .ok (.getfield 25, 3) := dc_180 (a := 0) (b := 25) (n := 25) (by decide +kernel)
theorem dX6_layOut_138 : decode cX6_layOut 138 = .ok (.isub, 1) := dc_100 (by decide +kernel)
theorem dX6_layOut_139 : decode cX6_layOut 139 = .ok (.iconst 1, 1) := dc_4 (by decide +kernel)
theorem dX6_layOut_140 : decode cX6_layOut 140 = .ok (.iadd, 1) := dc_96 (by decide +kernel)
theorem dX6_layOut_141 : decode cX6_layOut 141 = .ok (.goto 11, 3) := dc_167 (a := 0) (b := 11) (v := 11) (by decide +kernel)
theorem dX6_layOut_144 : decode cX6_layOut 144 = .ok (.aload_n 1, 1) := dc_43 (by decide +kernel)
theorem dX6_layOut_145 : decode cX6_layOut 145 = .ok (.iload 4, 2) := dc_21 (a := 4) (by decide +kernel)
theorem dX6_layOut_147 : decode cX6_layOut 147 = .ok (.iconst 2, 1) := dc_5 (by decide +kernel)
theorem dX6_layOut_148 : decode cX6_layOut 148 = .ok (.iadd, 1) := dc_96 (by decide +kernel)
theorem dX6_layOut_149 : decode cX6_layOut 149 = .ok (.invokevirtual 45, 3) := dc_182 (a := 0) (b := 45) (n := 45) (by decide +kernel)
theorem dX6_layOut_152 : decode cX6_layOut 152 = .ok (.istore 5, 2) := dc_54 (a := 5) (by decide +kernel)
theorem dX6_layOut_154 : decode cX6_layOut 154 = .ok (.aload_n 0, 1) := dc_42 (by decide +kernel)
theorem dX6_layOut_155 : decode cX6_layOut 155 = .ok (.getfield 18, 3) := dc_180 (a := 0) (b := 18) (n := 18) (by decide +kernel)
theorem dX6_layOut_158 : decode cX6_layOut 158 = .ok (.iload 4, 2) := dc_21 (a := 4) (by decide +kernel)
theorem dX6_layOut_160 : decode cX6_layOut 160 = .ok (.iload_n 3, 1) := dc_29 (by decide +kernel)
theorem dX6_layOut_161 : decode cX6_layOut 161 = .ok (.iastore, 1) := dc_79 (by decide +kernel)
theorem dX6_layOut_162 : decode cX6_layOut 162 = .ok (.aload_n 0, 1) := dc_42 (by decide +kernel)
theorem dX6_layOut_163 : decode cX6_layOut 163 = .ok (.getfield 21, 3) := dc_180 (a := 0) (b := 21) (n := 21) (by decide +kernel)
theorem dX6_layOut_166 : decode cX6_layOut 166 = .ok (.iload 4, 2) := dc_21 (a := 4) (by decide +kernel)
theorem dX6_layOut_168 : decode cX6_layOut 168 = .ok (.iload 5, 2) := dc_21 (a := 5) (by decide +kernel)
theorem dX6_layOut_170 : decode cX6_layOut 170 = .ok (.iastore, 1) := dc_79 (by decide +kernel)
theorem dX6_layOut_171 : decode cX6_layOut 171 = .ok (.iload_n 3, 1) := dc_29 (by decide +kernel)
theorem dX6_layOut_172 : decode cX6_layOut 172 = .ok (.iload 5, 2) := dc_21 (a := 5) (by decide +kernel)
theorem dX6_layOut_174 : decode cX6_layOut 174 = .ok (.iadd, 1) := dc_96 (by decide +kernel)
theorem dX6_layOut_175 : decode cX6_layOut 175 = .ok (.istore_n 3, 1) := dc_62 (by decide +kernel)
theorem dX6_layOut_176 : decode cX6_layOut 176 = .ok (.iinc 4 1, 3) := dc_132 (a := 4) (b := 1) (v := 1) (by decide +kernel)
theorem dX6_layOut_179 : decode cX6_layOut 179 = .ok (.goto (-75), 3) := dc_167 (a := 255) (b := 181) (v := -75) (by decide +kernel)
theorem dX6_layOut_182 : decode cX6_layOut 182 = .ok (.aload_n 0, 1) := dc_42 (by decide +kernel)
theorem dX6_layOut_183 : decode cX6_layOut 183 = .ok (.getfield 21, 3) := dc_180 (a := 0) (b := 21) (n := 21) (by decide +kernel)
theorem dX6_layOut_186 : decode cX6_layOut 186 = .ok (.iconst 0, 1) := dc_3 (by decide +kernel)
theorem dX6_layOut_187 : decode cX6_layOut 187 = .ok (.iaload, 1) := dc_46 (by decide +kernel)
theorem dX6_layOut_188 : decode cX6_layOut 188 = .ok (.iconst 1, 1) := dc_4 (by decide +kernel)
theorem dX6_layOut_189 : decode cX6_layOut 189 = .ok (.if_icmp .le 20, 3) := dc_164 (a := 0) (b := 20) (v := 20) (by decide +kernel)
theorem dX6_layOut_192 : decode cX6_layOut 192 = .ok (.aload_n 0, 1) := dc_42 (by decide +kernel)
theorem dX6_layOut_193 : decode cX6_layOut 193 = .ok (.getfield 21, 3) := dc_180 (a := 0) (b := 21) (n := 21) (by decide +kernel)
theorem dX6_layOut_196 : decode cX6_layOut 196 = .ok (.bipush 8, 2) := dc_16 (a := 8) (v := 8) (by decide +kernel)
theorem dX6_layOut_198 : decode cX6_layOut 198 = .ok (.iaload, 1) := dc_46 (by decide +kernel)
theorem dX6_layOut_199 : decode cX6_layOut 199 = .ok (.sipush 256, 3) := dc_17 (a := 1) (b := 0) (v := 256) (by decide +kernel)
theorem dX6_layOut_202 : decode cX6_layOut 202 = .ok (.if_icmp .gt 7, 3) := dc_163 (a := 0) (b := 7) (v := 7) (by decide +kernel)
theorem dX6_layOut_205 : decode cX6_layOut 205 = .ok (.iconst 1, 1) := dc_4 (by decide +kernel)
theorem dX6_layOut_206 : decode cX6_layOut 206 = .ok (.goto 4, 3) := dc_167 (a := 0) (b := 4) (v := 4) (by decide +kernel)
theorem dX6_layOut_209 : decode cX6_layOut 209 = .ok (.iconst 0, 1) := dc_3 (by decide +kernel)
theorem dX6_layOut_210 : decode cX6_layOut 210 = .ok (.istore 4, 2) := dc_54 (a := 4) (by decide +kernel)
theorem dX6_layOut_212 : decode cX6_layOut 212 = .ok (.iconst 2, 1) := dc_5 (by decide +kernel)
theorem dX6_layOut_213 : decode cX6_layOut 213 = .ok (.istore 5, 2) := dc_54 (a := 5) (by decide +kernel)
theorem dX6_layOut_215 : decode cX6_layOut 215 = .ok (.iload 5, 2) := dc_21 (a := 5) (by decide +kernel)
theorem dX6_layOut_217 : decode cX6_layOut 217 = .ok (.iconst 5, 1) := dc_8 (by decide +kernel)
theorem dX6_layOut_218 : decode cX6_layOut 218 = .ok (.if_icmp .gt 29, 3) := dc_163 (a := 0) (b := 29) (v := 29) (by decide +kernel)
theorem dX6_layOut_221 : decode cX6_layOut 221 = .ok (.iload 4, 2) := dc_21 (a := 4) (by decide +kernel)
theorem dX6_layOut_223 : decode cX6_layOut 223 = .ok (.aload_n 0, 1) := dc_42 (by decide +kernel)
theorem dX6_layOut_224 : decode cX6_layOut 224 = .ok (.getfield 21, 3) := dc_180 (a := 0) (b := 21) (n := 21) (by decide +kernel)
theorem dX6_layOut_227 : decode cX6_layOut 227 = .ok (.iload 5, 2) := dc_21 (a := 5) (by decide +kernel)
theorem dX6_layOut_229 : decode cX6_layOut 229 = .ok (.iaload, 1) := dc_46 (by decide +kernel)
theorem dX6_layOut_230 : decode cX6_layOut 230 = .ok (.ifCond .le 7, 3) := dc_158 (a := 0) (b := 7) (v := 7) (by decide +kernel)
theorem dX6_layOut_233 : decode cX6_layOut 233 = .ok (.iconst 1, 1) := dc_4 (by decide +kernel)
theorem dX6_layOut_234 : decode cX6_layOut 234 = .ok (.goto 4, 3) := dc_167 (a := 0) (b := 4) (v := 4) (by decide +kernel)
theorem dX6_layOut_237 : decode cX6_layOut 237 = .ok (.iconst 0, 1) := dc_3 (by decide +kernel)
theorem dX6_layOut_238 : decode cX6_layOut 238 = .ok (.iand, 1) := dc_126 (by decide +kernel)
theorem dX6_layOut_239 : decode cX6_layOut 239 = .ok (.istore 4, 2) := dc_54 (a := 4) (by decide +kernel)
theorem dX6_layOut_241 : decode cX6_layOut 241 = .ok (.iinc 5 1, 3) := dc_132 (a := 5) (b := 1) (v := 1) (by decide +kernel)
theorem dX6_layOut_244 : decode cX6_layOut 244 = .ok (.goto (-29), 3) := dc_167 (a := 255) (b := 227) (v := -29) (by decide +kernel)
theorem dX6_layOut_247 : decode cX6_layOut 247 = .ok (.iload 4, 2) := dc_21 (a := 4) (by decide +kernel)
theorem dX6_layOut_249 : decode cX6_layOut 249 = .ok (.ifCond .ne 5, 3) := dc_154 (a := 0) (b := 5) (v := 5) (by decide +kernel)
theorem dX6_layOut_252 : decode cX6_layOut 252 = .ok (.iconst 3, 1) := dc_6 (by decide +kernel)
theorem dX6_layOut_253 : decode cX6_layOut 253 = .ok (.ireturn, 1) := dc_172 (by decide +kernel)
theorem dX6_layOut_254 : decode cX6_layOut 254 = .ok (.aload_n 1, 1) := dc_43 (by decide +kernel)
theorem dX6_layOut_255 : decode cX6_layOut 255 = .ok (.iconst 0, 1) := dc_3 (by decide +kernel)
theorem dX6_layOut_256 : decode cX6_layOut 256 = .ok (.invokevirtual 45, 3) := dc_182 (a := 0) (b := 45) (n := 45) (by decide +kernel)
theorem dX6_layOut_259 : decode cX6_layOut 259 = .ok (.iload_n 3, 1) := dc_29 (by decide +kernel)
theorem dX6_layOut_260 : decode cX6_layOut 260 = .ok (.if_icmp .ne 13, 3) := dc_160 (a := 0) (b := 13) (v := 13) (by decide +kernel)
theorem dX6_layOut_263 : decode cX6_layOut 263 = .ok (.aload_n 1, 1) := dc_43 (by decide +kernel)
theorem dX6_layOut_264 : decode cX6_layOut 264 = .ok (.getfield 40, 3) := dc_180 (a := 0) (b := 40) (n := 40) (by decide +kernel)
theorem dX6_layOut_267 : decode cX6_layOut 267 = .ok (.iconst 4, 1) := dc_7 (by decide +kernel)
theorem dX6_layOut_268 : decode cX6_layOut 268 = .ok (.iload_n 3, 1) := dc_29 (by decide +kernel)
theorem dX6_layOut_269 : decode cX6_layOut 269 = .ok (.imul, 1) := dc_104 (by decide +kernel)
theorem dX6_layOut_270 : decode cX6_layOut 270 = .ok (.if_icmp .eq 5, 3) := dc_159 (a := 0) (b := 5) (v := 5) (by decide +kernel)
theorem dX6_layOut_273 : decode cX6_layOut 273 = .ok (.iconst 4, 1) := dc_7 (by decide +kernel)
theorem dX6_layOut_274 : decode cX6_layOut 274 = .ok (.ireturn, 1) := dc_172 (by decide +kernel)
theorem dX6_layOut_275 : decode cX6_layOut 275 = .ok (.iconst 0, 1) := dc_3 (by decide +kernel)
theorem dX6_layOut_276 : decode cX6_layOut 276 = .ok (.istore 5, 2) := dc_54 (a := 5) (by decide +kernel)
theorem dX6_layOut_278 : decode cX6_layOut 278 = .ok (.iload 5, 2) := dc_21 (a := 5) (by decide +kernel)
theorem dX6_layOut_280 : decode cX6_layOut 280 = .ok (.iload_n 3, 1) := dc_29 (by decide +kernel)
theorem dX6_layOut_281 : decode cX6_layOut 281 = .ok (.if_icmp .ge 22, 3) := dc_162 (a := 0) (b := 22) (v := 22) (by decide +kernel)
theorem dX6_layOut_284 : decode cX6_layOut 284 = .ok (.aload_n 0, 1) := dc_42 (by decide +kernel)
theorem dX6_layOut_285 : decode cX6_layOut 285 = .ok (.getfield 9, 3) := dc_180 (a := 0) (b := 9) (n := 9) (by decide +kernel)
theorem dX6_layOut_288 : decode cX6_layOut 288 = .ok (.iload 5, 2) := dc_21 (a := 5) (by decide +kernel)
theorem dX6_layOut_290 : decode cX6_layOut 290 = .ok (.aload_n 1, 1) := dc_43 (by decide +kernel)
theorem dX6_layOut_291 : decode cX6_layOut 291 = .ok (.iload 5, 2) := dc_21 (a := 5) (by decide +kernel)
theorem dX6_layOut_293 : decode cX6_layOut 293 = .ok (.invokevirtual 49, 3) := dc_182 (a := 0) (b := 49) (n := 49) (by decide +kernel)
theorem dX6_layOut_296 : decode cX6_layOut 296 = .ok (.iastore, 1) := dc_79 (by decide +kernel)
theorem dX6_layOut_297 : decode cX6_layOut 297 = .ok (.iinc 5 1, 3) := dc_132 (a := 5) (b := 1) (v := 1) (by decide +kernel)
theorem dX6_layOut_300 : decode cX6_layOut 300 = .ok (.goto (-22), 3) := dc_167 (a := 255) (b := 234) (v := -22) (by decide +kernel)
theorem dX6_layOut_303 : decode cX6_layOut 303 = .ok (.aload_n 0, 1) := dc_42 (by decide +kernel)
theorem dX6_layOut_304 : decode cX6_layOut 304 = .ok (.iconst 0, 1) := dc_3 (by decide +kernel)
theorem dX6_layOut_305 : decode cX6_layOut 305 = .ok (.iconst 1, 1) := dc_4 (by decide +kernel)
theorem dX6_layOut_306 : decode cX6_layOut 306 = .ok (.invokevirtual 32, 3) := dc_182 (a := 0) (b := 32) (n := 32) (by decide +kernel)
theorem dX6_layOut_309 : decode cX6_layOut 309 = .ok (.ldc 52, 2) := dc_18 (a := 52) (by decide +kernel)
theorem dX6_layOut_311 : decode cX6_layOut 311 = .ok (.if_icmp .ge 7, 3) := dc_162 (a := 0) (b := 7) (v := 7) (by decide +kernel)
theorem dX6_layOut_314 : decode cX6_layOut 314 = .ok (.iconst 5, 1) := dc_8 (by decide +kernel)
theorem dX6_layOut_315 : decode cX6_layOut 315 = .ok (.goto 4, 3) := dc_167 (a := 0) (b := 4) (v := 4) (by decide +kernel)
theorem dX6_layOut_318 : decode cX6_layOut 318 = .ok (.iconst 0, 1) := dc_3 (by decide +kernel)
theorem dX6_layOut_319 : decode cX6_layOut 319 = .ok (.ireturn, 1) := dc_172 (by decide +kernel)
theorem GX6_21 {w : eW} {d : Nat} {Y : eY} {pc : Nat} {ls : eL} {st : List Value} {h : eH} {Q : eO → eH → Prop} {a : Nat} {x : Nat} (hf : g_A 5 h a 3 = some x) (hd : decode Y.2.1 pc = .ok (.getfield 21, 3)) (hY : Y.1.cls = RX6) (kk : wp w d Y (pc + 3) ls (.ref x :: st) h Q) : wp w d Y pc ls (.ref a :: st) h Q := x_gA (ci := 5) (k := 3) hf hd rfl (by decide) (by rw [hY]; exact q546) kk
theorem GX6_25 {w : eW} {d : Nat} {Y : eY} {pc : Nat} {ls : eL} {st : List Value} {h : eH} {Q : eO → eH → Prop} {a : Nat} {x : Int32} (hf : g_I 5 h a 4 = some x) (hd : decode Y.2.1 pc = .ok (.getfield 25, 3)) (hY : Y.1.cls = RX6) (kk : wp w d Y (pc + 3) ls (.int x :: st) h Q) : wp w d Y pc ls (.ref a :: st) h Q := x_gI (ci := 5) (k := 4) hf hd rfl (by decide) (by rw [hY]; exact q548) kk
theorem GX6_29 {w : eW} {d : Nat} {Y : eY} {pc : Nat} {ls : eL} {st : List Value} {h : eH} {Q : eO → eH → Prop} {a : Nat} {x : Int32} (hf : g_I 5 h a 5 = some x) (hd : decode Y.2.1 pc = .ok (.getfield 29, 3)) (hY : Y.1.cls = RX6) (kk : wp w d Y (pc + 3) ls (.int x :: st) h Q) : wp w d Y pc ls (.ref a :: st) h Q := x_gI (ci := 5) (k := 5) hf hd rfl (by decide) (by rw [hY]; exact q549) kk
theorem GX6_40 {w : eW} {d : Nat} {Y : eY} {pc : Nat} {ls : eL} {st : List Value} {h : eH} {Q : eO → eH → Prop} {a : Nat} {x : Int32} (hf : g_I 1 h a 1 = some x) (hd : decode Y.2.1 pc = .ok (.getfield 40, 3)) (hY : Y.1.cls = RX6) (kk : wp w d Y (pc + 3) ls (.int x :: st) h Q) : wp w d Y pc ls (.ref a :: st) h Q := x_gIN (ci := 1) (k := 1) hf hd rfl (by decide) (by rw [hY]; exact q501) kk
theorem SX6_25 {w : eW} {d : Nat} {Y : eY} {pc : Nat} {ls : eL} {st : List Value} {h : eH} {Q : eO → eH → Prop} {a : Nat} {h' : eH} {x : Int32} (hf : p_V 5 h a 4 (.int x) = some h') (hd : decode Y.2.1 pc = .ok (.putfield 25, 3)) (hY : Y.1.cls = RX6) (kk : wp w d Y (pc + 3) ls st h' Q) : wp w d Y pc ls (.int x :: .ref a :: st) h Q := x_pI (ci := 5) (k := 4) hf hd rfl (by decide) (by rw [hY]; exact q548) rfl rfl kk
theorem SX6_29 {w : eW} {d : Nat} {Y : eY} {pc : Nat} {ls : eL} {st : List Value} {h : eH} {Q : eO → eH → Prop} {a : Nat} {h' : eH} {x : Int32} (hf : p_V 5 h a 5 (.int x) = some h') (hd : decode Y.2.1 pc = .ok (.putfield 29, 3)) (hY : Y.1.cls = RX6) (kk : wp w d Y (pc + 3) ls st h' Q) : wp w d Y pc ls (.int x :: .ref a :: st) h Q := x_pI (ci := 5) (k := 5) hf hd rfl (by decide) (by rw [hY]; exact q549) rfl rfl kk
def fX6_layOut_b42 (N : Nat) (k17 : Nat → Nat → Int32 → Int32 → eH → Option (Int32 × eH)) (l0 : Nat) (l1 : Nat) (l3 : Int32) (s0 : Int32) (h : eH) : Option (Int32 × eH) :=
  k17 l0 l1 s0 (l3 + (1 : Int32)) h
theorem pX6_layOut_b42 {w : eW} {d : Nat} (hd : 2 ≤ d + 1) {N : Nat} {k17 : Nat → Nat → Int32 → Int32 → eH → Option (Int32 × eH)} (hk17 : ∀ l0 l1 l2 l3 h q, k17 l0 l1 l2 l3 h = some q → wp w (d + 1) YX6_layOut 17 [some (.ref l0), some (.ref l1), some (.int l2), some (.int l3), none, none] [] h (e_is (e_rn c_I q))) {l0 : Nat} {l1 : Nat} {l3 : Int32} {s0 : Int32} {h : eH} {q} (hf : fX6_layOut_b42 N k17 l0 l1 l3 s0 h = some q) : wp w (d + 1) YX6_layOut 42 [some (.ref l0), some (.ref l1), none, some (.int l3), none, none] [.int s0] h (e_is (e_rn c_I q)) := by
  unfold fX6_layOut_b42 at hf
  refine w_istore_n dX6_layOut_42 rfl (by decide) (ls' := [some (.ref l0), some (.ref l1), some (.int s0), some (.int l3), none, none]) rfl ?_
  refine w_iinc dX6_layOut_43 (v := (l3 + (1 : Int32))) rfl rfl (by decide) (ls' := [some (.ref l0), some (.ref l1), some (.int s0), some (.int (l3 + (1 : Int32))), none, none]) rfl ?_
  refine w_goto 17 dX6_layOut_46 (by decide) ?_
  exact (hk17 _ _ _ _ _ _ hf).to ⟨rfl, rfl, rfl, rfl, trivial⟩
def fX6_layOut_b96 (N : Nat)  (h : eH) : Option (Int32 × eH) :=
  some ((2 : Int32), h)
theorem pX6_layOut_b96 {w : eW} {d : Nat} (hd : 2 ≤ d + 1) {N : Nat}  {h : eH} {q} (hf : fX6_layOut_b96 N h = some q) : wp w (d + 1) YX6_layOut 96 [none, none, none, none, none, none] [] h (e_is (e_rn c_I q)) := by
  unfold fX6_layOut_b96 at hf
  refine w_iconst dX6_layOut_96 (v := 2) (by decide) ?_
  cases hf
  exact w_iret dX6_layOut_97 rfl rfl rfl
def fX6_layOut_b152 (N : Nat) (k104 : Nat → Nat → Int32 → Int32 → eH → Option (Int32 × eH)) (l0 : Nat) (l1 : Nat) (l3 : Int32) (l4 : Int32) (s0 : Int32) (h : eH) : Option (Int32 × eH) :=
  (g_A 5 h l0 2).bind fun a1 =>
  (q_V 100 h a1 l4 (.int l3)).bind fun h3 =>
  (g_A 5 h3 l0 3).bind fun a5 =>
  (q_V 100 h3 a5 l4 (.int s0)).bind fun h7 =>
  k104 l0 l1 (l3 + s0) (l4 + (1 : Int32)) h7
theorem pX6_layOut_b152 {w : eW} {d : Nat} (hd : 2 ≤ d + 1) {N : Nat} {k104 : Nat → Nat → Int32 → Int32 → eH → Option (Int32 × eH)} (hk104 : ∀ l0 l1 l3 l4 h q, k104 l0 l1 l3 l4 h = some q → wp w (d + 1) YX6_layOut 104 [some (.ref l0), some (.ref l1), none, some (.int l3), some (.int l4), none] [] h (e_is (e_rn c_I q))) {l0 : Nat} {l1 : Nat} {l3 : Int32} {l4 : Int32} {s0 : Int32} {h : eH} {q} (hf : fX6_layOut_b152 N k104 l0 l1 l3 l4 s0 h = some q) : wp w (d + 1) YX6_layOut 152 [some (.ref l0), some (.ref l1), none, some (.int l3), some (.int l4), none] [.int s0] h (e_is (e_rn c_I q)) := by
  unfold fX6_layOut_b152 at hf
  refine w_istore dX6_layOut_152 (by decide) (ls' := [some (.ref l0), some (.ref l1), none, some (.int l3), some (.int l4), some (.int s0)]) rfl ?_
  refine w_aload_n dX6_layOut_154 rfl rfl ?_
  obtain ⟨a1, b2, hf⟩ := Option.bind_eq_some_iff.mp hf
  refine GX6_18 b2 dX6_layOut_155 rfl ?_
  refine w_iload dX6_layOut_158 rfl ?_
  refine w_iload_n dX6_layOut_160 rfl rfl ?_
  obtain ⟨h3, b4, hf⟩ := Option.bind_eq_some_iff.mp hf
  refine x_qI b4 dX6_layOut_161 ?_
  refine w_aload_n dX6_layOut_162 rfl rfl ?_
  obtain ⟨a5, b6, hf⟩ := Option.bind_eq_some_iff.mp hf
  refine GX6_21 b6 dX6_layOut_163 rfl ?_
  refine w_iload dX6_layOut_166 rfl ?_
  refine w_iload dX6_layOut_168 rfl ?_
  obtain ⟨h7, b8, hf⟩ := Option.bind_eq_some_iff.mp hf
  refine x_qI b8 dX6_layOut_170 ?_
  refine w_iload_n dX6_layOut_171 rfl rfl ?_
  refine w_iload dX6_layOut_172 rfl ?_
  refine w_iadd dX6_layOut_174 ?_
  refine w_istore_n dX6_layOut_175 rfl (by decide) (ls' := [some (.ref l0), some (.ref l1), none, some (.int (l3 + s0)), some (.int l4), some (.int s0)]) rfl ?_
  refine w_iinc dX6_layOut_176 (v := (l4 + (1 : Int32))) rfl rfl (by decide) (ls' := [some (.ref l0), some (.ref l1), none, some (.int (l3 + s0)), some (.int (l4 + (1 : Int32))), some (.int s0)]) rfl ?_
  refine w_goto 104 dX6_layOut_179 (by decide) ?_
  exact (hk104 _ _ _ _ _ _ hf).to ⟨rfl, rfl, rfl, rfl, trivial⟩
def fX6_layOut_b238 (N : Nat) (k215 : Nat → Nat → Int32 → Int32 → Int32 → eH → Option (Int32 × eH)) (l0 : Nat) (l1 : Nat) (l3 : Int32) (l5 : Int32) (s0 : Int32) (s1 : Int32) (h : eH) : Option (Int32 × eH) :=
  k215 l0 l1 l3 (s0 &&& s1) (l5 + (1 : Int32)) h
theorem pX6_layOut_b238 {w : eW} {d : Nat} (hd : 2 ≤ d + 1) {N : Nat} {k215 : Nat → Nat → Int32 → Int32 → Int32 → eH → Option (Int32 × eH)} (hk215 : ∀ l0 l1 l3 l4 l5 h q, k215 l0 l1 l3 l4 l5 h = some q → wp w (d + 1) YX6_layOut 215 [some (.ref l0), some (.ref l1), none, some (.int l3), some (.int l4), some (.int l5)] [] h (e_is (e_rn c_I q))) {l0 : Nat} {l1 : Nat} {l3 : Int32} {l5 : Int32} {s0 : Int32} {s1 : Int32} {h : eH} {q} (hf : fX6_layOut_b238 N k215 l0 l1 l3 l5 s0 s1 h = some q) : wp w (d + 1) YX6_layOut 238 [some (.ref l0), some (.ref l1), none, some (.int l3), none, some (.int l5)] [.int s1, .int s0] h (e_is (e_rn c_I q)) := by
  unfold fX6_layOut_b238 at hf
  refine w_iand dX6_layOut_238 ?_
  refine w_istore dX6_layOut_239 (by decide) (ls' := [some (.ref l0), some (.ref l1), none, some (.int l3), some (.int (s0 &&& s1)), some (.int l5)]) rfl ?_
  refine w_iinc dX6_layOut_241 (v := (l5 + (1 : Int32))) rfl rfl (by decide) (ls' := [some (.ref l0), some (.ref l1), none, some (.int l3), some (.int (s0 &&& s1)), some (.int (l5 + (1 : Int32)))]) rfl ?_
  refine w_goto 215 dX6_layOut_244 (by decide) ?_
  exact (hk215 _ _ _ _ _ _ _ hf).to ⟨rfl, rfl, rfl, rfl, rfl, trivial⟩
def fX6_layOut_b273 (N : Nat)  (h : eH) : Option (Int32 × eH) :=
  some ((4 : Int32), h)
theorem pX6_layOut_b273 {w : eW} {d : Nat} (hd : 2 ≤ d + 1) {N : Nat}  {h : eH} {q} (hf : fX6_layOut_b273 N h = some q) : wp w (d + 1) YX6_layOut 273 [none, none, none, none, none, none] [] h (e_is (e_rn c_I q)) := by
  unfold fX6_layOut_b273 at hf
  refine w_iconst dX6_layOut_273 (v := 4) (by decide) ?_
  cases hf
  exact w_iret dX6_layOut_274 rfl rfl rfl
def fX6_layOut_b319 (N : Nat) (s0 : Int32) (h : eH) : Option (Int32 × eH) :=
  some (s0, h)
theorem pX6_layOut_b319 {w : eW} {d : Nat} (hd : 2 ≤ d + 1) {N : Nat} {s0 : Int32} {h : eH} {q} (hf : fX6_layOut_b319 N s0 h = some q) : wp w (d + 1) YX6_layOut 319 [none, none, none, none, none, none] [.int s0] h (e_is (e_rn c_I q)) := by
  unfold fX6_layOut_b319 at hf
  cases hf
  exact w_iret dX6_layOut_319 rfl rfl rfl
def fX6_layOut_b278 (N : Nat) : Nat → Nat → Nat → Int32 → Int32 → eH → Option (Int32 × eH)
  | 0, _, _, _, _, _ => none
  | n + 1, l0, l1, l3, l5, h =>
    if l3 ≤ l5 then
      (k_ok 5 h l0).bind fun _ =>
      (fX6_word l0 (0 : Int32) (1 : Int32) h).bind fun q3 =>
      if (1048576 : Int32) ≤ q3.1 then
        fX6_layOut_b319 N (0 : Int32) q3.2
      else
        fX6_layOut_b319 N (5 : Int32) q3.2
    else
      (g_A 5 h l0 0).bind fun a5 =>
      (k_ok 1 h l1).bind fun _ =>
      (fX2_whole l1 l5 h).bind fun q8 =>
      (q_V 100 q8.2 a5 l5 (.int q8.1)).bind fun h9 =>
      fX6_layOut_b278 N n l0 l1 l3 (l5 + (1 : Int32)) h9
theorem pX6_layOut_b278 {w : eW} {d : Nat} (hd : 2 ≤ d + 1) {N : Nat} : ∀ (n : Nat) l0 l1 l3 l5 h q, fX6_layOut_b278 N n l0 l1 l3 l5 h = some q → wp w (d + 1) YX6_layOut 278 [some (.ref l0), some (.ref l1), none, some (.int l3), none, some (.int l5)] [] h (e_is (e_rn c_I q)) := by
  intro n
  induction n with
  | zero => intro l0 l1 l3 l5 h q hf; simp [fX6_layOut_b278] at hf
  | succ n ih =>
    intro l0 l1 l3 l5 h q hf
    rw [fX6_layOut_b278] at hf
    refine w_iload dX6_layOut_278 rfl ?_
    refine w_iload_n dX6_layOut_280 rfl rfl ?_
    refine w_icmp_ge 303 dX6_layOut_281 (by decide) (fun c1 => ?_) (fun c1 => ?_)
    · replace hf := (if_pos (show l3 ≤ l5 from c1)).symm.trans hf
      refine w_aload_n dX6_layOut_303 rfl rfl ?_
      refine w_iconst dX6_layOut_304 (v := 0) (by decide) ?_
      refine w_iconst dX6_layOut_305 (v := 1) (by decide) ?_
      obtain ⟨_, b2, hf⟩ := Option.bind_eq_some_iff.mp hf
      refine x_cnI hf (e_stV (Yc := YX6_word) (ci := 5) (av := [.int (0 : Int32), .int (1 : Int32)]) (st := []) dX6_layOut_306 q2229 mX6_word rfl (k_ok_some b2).1 (k_ok_some b2).2) mX6_word.2.2.1 mX6_word.2.2.2.2.1 (Nat.le_of_ble_eq_true rfl) (Nat.le_of_ble_eq_true rfl) (fun q hq => pX6_word (by omega) hq) (fun q3 hf => ?_)
      refine w_ldc dX6_layOut_309 q2233 ?_
      refine w_icmp_ge 318 dX6_layOut_311 (by decide) (fun c4 => ?_) (fun c4 => ?_)
      · replace hf := (if_pos (show (1048576 : Int32) ≤ q3.1 from c4)).symm.trans hf
        refine w_iconst dX6_layOut_318 (v := 0) (by decide) ?_
        exact (pX6_layOut_b319 hd hf).to trivial
      · replace hf := (if_neg (show ¬ ((1048576 : Int32) ≤ q3.1) from c4)).symm.trans hf
        refine w_iconst dX6_layOut_314 (v := 5) (by decide) ?_
        refine w_goto 319 dX6_layOut_315 (by decide) ?_
        exact (pX6_layOut_b319 hd hf).to trivial
    · replace hf := (if_neg (show ¬ (l3 ≤ l5) from c1)).symm.trans hf
      refine w_aload_n dX6_layOut_284 rfl rfl ?_
      obtain ⟨a5, b6, hf⟩ := Option.bind_eq_some_iff.mp hf
      refine GX6_9 b6 dX6_layOut_285 rfl ?_
      refine w_iload dX6_layOut_288 rfl ?_
      refine w_aload_n dX6_layOut_290 rfl rfl ?_
      refine w_iload dX6_layOut_291 rfl ?_
      obtain ⟨_, b7, hf⟩ := Option.bind_eq_some_iff.mp hf
      refine x_cnI hf (e_stV (Yc := YX2_whole) (ci := 1) (av := [.int l5]) (st := [.int l5, .ref a5]) dX6_layOut_293 q2225 mX2_whole rfl (k_ok_some b7).1 (k_ok_some b7).2) mX2_whole.2.2.1 mX2_whole.2.2.2.2.1 (Nat.le_of_ble_eq_true rfl) (Nat.le_of_ble_eq_true rfl) (fun q hq => pX2_whole (by omega) hq) (fun q8 hf => ?_)
      obtain ⟨h9, b10, hf⟩ := Option.bind_eq_some_iff.mp hf
      refine x_qI b10 dX6_layOut_296 ?_
      refine w_iinc dX6_layOut_297 (v := (l5 + (1 : Int32))) rfl rfl (by decide) (ls' := [some (.ref l0), some (.ref l1), none, some (.int l3), none, some (.int (l5 + (1 : Int32)))]) rfl ?_
      refine w_goto 278 dX6_layOut_300 (by decide) ?_
      exact (ih _ _ _ _ _ _ hf).to ⟨rfl, rfl, rfl, rfl, trivial⟩
def fX6_layOut_b215 (N : Nat) : Nat → Nat → Nat → Int32 → Int32 → Int32 → eH → Option (Int32 × eH)
  | 0, _, _, _, _, _, _ => none
  | n + 1, l0, l1, l3, l4, l5, h =>
    if (5 : Int32) < l5 then
      if ¬ l4 = 0 then
        (k_ok 1 h l1).bind fun _ =>
        (fX2_half l1 (0 : Int32) h).bind fun q4 =>
        if ¬ q4.1 = l3 then
          fX6_layOut_b273 N q4.2
        else
          (g_I 1 q4.2 l1 1).bind fun x6 =>
          if x6 = ((4 : Int32) * l3) then
            fX6_layOut_b278 N N l0 l1 l3 (0 : Int32) q4.2
          else
            fX6_layOut_b273 N q4.2
      else
        some ((3 : Int32), h)
    else
      (g_A 5 h l0 3).bind fun a9 =>
      (r_I 100 h a9 l5).bind fun x11 =>
      if x11 ≤ 0 then
        fX6_layOut_b238 N (fX6_layOut_b215 N n) l0 l1 l3 l5 l4 (0 : Int32) h
      else
        fX6_layOut_b238 N (fX6_layOut_b215 N n) l0 l1 l3 l5 l4 (1 : Int32) h
theorem pX6_layOut_b215 {w : eW} {d : Nat} (hd : 2 ≤ d + 1) {N : Nat} : ∀ (n : Nat) l0 l1 l3 l4 l5 h q, fX6_layOut_b215 N n l0 l1 l3 l4 l5 h = some q → wp w (d + 1) YX6_layOut 215 [some (.ref l0), some (.ref l1), none, some (.int l3), some (.int l4), some (.int l5)] [] h (e_is (e_rn c_I q)) := by
  intro n
  induction n with
  | zero => intro l0 l1 l3 l4 l5 h q hf; simp [fX6_layOut_b215] at hf
  | succ n ih =>
    intro l0 l1 l3 l4 l5 h q hf
    rw [fX6_layOut_b215] at hf
    refine w_iload dX6_layOut_215 rfl ?_
    refine w_iconst dX6_layOut_217 (v := 5) (by decide) ?_
    refine w_icmp_gt 247 dX6_layOut_218 (by decide) (fun c1 => ?_) (fun c1 => ?_)
    · replace hf := (if_pos (show (5 : Int32) < l5 from c1)).symm.trans hf
      refine w_iload dX6_layOut_247 rfl ?_
      refine w_if_ne 254 dX6_layOut_249 (by decide) (fun c2 => ?_) (fun c2 => ?_)
      · replace hf := (if_pos (show ¬ l4 = 0 from c2)).symm.trans hf
        refine w_aload_n dX6_layOut_254 rfl rfl ?_
        refine w_iconst dX6_layOut_255 (v := 0) (by decide) ?_
        obtain ⟨_, b3, hf⟩ := Option.bind_eq_some_iff.mp hf
        refine x_cnI hf (e_stV (Yc := YX2_half) (ci := 1) (av := [.int (0 : Int32)]) (st := []) dX6_layOut_256 q2216 mX2_half rfl (k_ok_some b3).1 (k_ok_some b3).2) mX2_half.2.2.1 mX2_half.2.2.2.2.1 (Nat.le_of_ble_eq_true rfl) (Nat.le_of_ble_eq_true rfl) (fun q hq => pX2_half (by omega) hq) (fun q4 hf => ?_)
        refine w_iload_n dX6_layOut_259 rfl rfl ?_
        refine w_icmp_ne 273 dX6_layOut_260 (by decide) (fun c5 => ?_) (fun c5 => ?_)
        · replace hf := (if_pos (show ¬ q4.1 = l3 from c5)).symm.trans hf
          exact (pX6_layOut_b273 hd hf).to trivial
        · replace hf := (if_neg (show ¬ (¬ q4.1 = l3) from (fun z => z c5))).symm.trans hf
          refine w_aload_n dX6_layOut_263 rfl rfl ?_
          obtain ⟨x6, b7, hf⟩ := Option.bind_eq_some_iff.mp hf
          refine GX6_40 b7 dX6_layOut_264 rfl ?_
          refine w_iconst dX6_layOut_267 (v := 4) (by decide) ?_
          refine w_iload_n dX6_layOut_268 rfl rfl ?_
          refine w_imul dX6_layOut_269 ?_
          refine w_icmp_eq 275 dX6_layOut_270 (by decide) (fun c8 => ?_) (fun c8 => ?_)
          · replace hf := (if_pos (show x6 = ((4 : Int32) * l3) from c8)).symm.trans hf
            refine w_iconst dX6_layOut_275 (v := 0) (by decide) ?_
            refine w_istore dX6_layOut_276 (by decide) (ls' := [some (.ref l0), some (.ref l1), none, some (.int l3), some (.int l4), some (.int (0 : Int32))]) rfl ?_
            exact (pX6_layOut_b278 hd N _ _ _ _ _ _ hf).to ⟨rfl, rfl, rfl, rfl, trivial⟩
          · replace hf := (if_neg (show ¬ (x6 = ((4 : Int32) * l3)) from c8)).symm.trans hf
            exact (pX6_layOut_b273 hd hf).to trivial
      · replace hf := (if_neg (show ¬ (¬ l4 = 0) from (fun z => z c2))).symm.trans hf
        refine w_iconst dX6_layOut_252 (v := 3) (by decide) ?_
        cases hf
        exact w_iret dX6_layOut_253 rfl rfl rfl
    · replace hf := (if_neg (show ¬ ((5 : Int32) < l5) from c1)).symm.trans hf
      refine w_iload dX6_layOut_221 rfl ?_
      refine w_aload_n dX6_layOut_223 rfl rfl ?_
      obtain ⟨a9, b10, hf⟩ := Option.bind_eq_some_iff.mp hf
      refine GX6_21 b10 dX6_layOut_224 rfl ?_
      refine w_iload dX6_layOut_227 rfl ?_
      obtain ⟨x11, b12, hf⟩ := Option.bind_eq_some_iff.mp hf
      refine x_rI b12 dX6_layOut_229 ?_
      refine w_if_le 237 dX6_layOut_230 (by decide) (fun c13 => ?_) (fun c13 => ?_)
      · replace hf := (if_pos (show x11 ≤ 0 from c13)).symm.trans hf
        refine w_iconst dX6_layOut_237 (v := 0) (by decide) ?_
        exact (pX6_layOut_b238 hd ih hf).to ⟨rfl, rfl, rfl, rfl, trivial⟩
      · replace hf := (if_neg (show ¬ (x11 ≤ 0) from c13)).symm.trans hf
        refine w_iconst dX6_layOut_233 (v := 1) (by decide) ?_
        refine w_goto 238 dX6_layOut_234 (by decide) ?_
        exact (pX6_layOut_b238 hd ih hf).to ⟨rfl, rfl, rfl, rfl, trivial⟩
def fX6_layOut_b210 (N : Nat) (l0 : Nat) (l1 : Nat) (l3 : Int32) (s0 : Int32) (h : eH) : Option (Int32 × eH) :=
  fX6_layOut_b215 N N l0 l1 l3 s0 (2 : Int32) h
theorem pX6_layOut_b210 {w : eW} {d : Nat} (hd : 2 ≤ d + 1) {N : Nat} {l0 : Nat} {l1 : Nat} {l3 : Int32} {s0 : Int32} {h : eH} {q} (hf : fX6_layOut_b210 N l0 l1 l3 s0 h = some q) : wp w (d + 1) YX6_layOut 210 [some (.ref l0), some (.ref l1), none, some (.int l3), none, none] [.int s0] h (e_is (e_rn c_I q)) := by
  unfold fX6_layOut_b210 at hf
  refine w_istore dX6_layOut_210 (by decide) (ls' := [some (.ref l0), some (.ref l1), none, some (.int l3), some (.int s0), none]) rfl ?_
  refine w_iconst dX6_layOut_212 (v := 2) (by decide) ?_
  refine w_istore dX6_layOut_213 (by decide) (ls' := [some (.ref l0), some (.ref l1), none, some (.int l3), some (.int s0), some (.int (2 : Int32))]) rfl ?_
  exact (pX6_layOut_b215 hd N _ _ _ _ _ _ _ hf).to ⟨rfl, rfl, rfl, rfl, rfl, trivial⟩
def fX6_layOut_b209 (N : Nat) (l0 : Nat) (l1 : Nat) (l3 : Int32) (h : eH) : Option (Int32 × eH) :=
  fX6_layOut_b210 N l0 l1 l3 (0 : Int32) h
theorem pX6_layOut_b209 {w : eW} {d : Nat} (hd : 2 ≤ d + 1) {N : Nat} {l0 : Nat} {l1 : Nat} {l3 : Int32} {h : eH} {q} (hf : fX6_layOut_b209 N l0 l1 l3 h = some q) : wp w (d + 1) YX6_layOut 209 [some (.ref l0), some (.ref l1), none, some (.int l3), none, none] [] h (e_is (e_rn c_I q)) := by
  unfold fX6_layOut_b209 at hf
  refine w_iconst dX6_layOut_209 (v := 0) (by decide) ?_
  exact (pX6_layOut_b210 hd hf).to ⟨rfl, rfl, rfl, trivial⟩
def fX6_layOut_b104 (N : Nat) : Nat → Nat → Nat → Int32 → Int32 → eH → Option (Int32 × eH)
  | 0, _, _, _, _, _ => none
  | n + 1, l0, l1, l3, l4, h =>
    if (10 : Int32) ≤ l4 then
      (g_A 5 h l0 3).bind fun a2 =>
      (r_I 100 h a2 (0 : Int32)).bind fun x4 =>
      if x4 ≤ (1 : Int32) then
        fX6_layOut_b209 N l0 l1 l3 h
      else
        (g_A 5 h l0 3).bind fun a7 =>
        (r_I 100 h a7 (8 : Int32)).bind fun x9 =>
        if (256 : Int32) < x9 then
          fX6_layOut_b209 N l0 l1 l3 h
        else
          fX6_layOut_b210 N l0 l1 l3 (1 : Int32) h
    else
      if ¬ l4 = 0 then
        if ¬ l4 = (1 : Int32) then
          (k_ok 1 h l1).bind fun _ =>
          (fX2_half l1 (l4 + (2 : Int32)) h).bind fun q15 =>
          fX6_layOut_b152 N (fX6_layOut_b104 N n) l0 l1 l3 l4 q15.1 q15.2
        else
          (g_I 5 h l0 5).bind fun x16 =>
          (g_I 5 h l0 4).bind fun x18 =>
          fX6_layOut_b152 N (fX6_layOut_b104 N n) l0 l1 l3 l4 ((x16 - x18) + (1 : Int32)) h
      else
        (k_ok 1 h l1).bind fun _ =>
        (fX2_half l1 (1 : Int32) h).bind fun q21 =>
        fX6_layOut_b152 N (fX6_layOut_b104 N n) l0 l1 l3 l4 q21.1 q21.2
theorem pX6_layOut_b104 {w : eW} {d : Nat} (hd : 2 ≤ d + 1) {N : Nat} : ∀ (n : Nat) l0 l1 l3 l4 h q, fX6_layOut_b104 N n l0 l1 l3 l4 h = some q → wp w (d + 1) YX6_layOut 104 [some (.ref l0), some (.ref l1), none, some (.int l3), some (.int l4), none] [] h (e_is (e_rn c_I q)) := by
  intro n
  induction n with
  | zero => intro l0 l1 l3 l4 h q hf; simp [fX6_layOut_b104] at hf
  | succ n ih =>
    intro l0 l1 l3 l4 h q hf
    rw [fX6_layOut_b104] at hf
    refine w_iload dX6_layOut_104 rfl ?_
    refine w_bipush dX6_layOut_106 (v := 10) (by decide) ?_
    refine w_icmp_ge 182 dX6_layOut_108 (by decide) (fun c1 => ?_) (fun c1 => ?_)
    · replace hf := (if_pos (show (10 : Int32) ≤ l4 from c1)).symm.trans hf
      refine w_aload_n dX6_layOut_182 rfl rfl ?_
      obtain ⟨a2, b3, hf⟩ := Option.bind_eq_some_iff.mp hf
      refine GX6_21 b3 dX6_layOut_183 rfl ?_
      refine w_iconst dX6_layOut_186 (v := 0) (by decide) ?_
      obtain ⟨x4, b5, hf⟩ := Option.bind_eq_some_iff.mp hf
      refine x_rI b5 dX6_layOut_187 ?_
      refine w_iconst dX6_layOut_188 (v := 1) (by decide) ?_
      refine w_icmp_le 209 dX6_layOut_189 (by decide) (fun c6 => ?_) (fun c6 => ?_)
      · replace hf := (if_pos (show x4 ≤ (1 : Int32) from c6)).symm.trans hf
        exact (pX6_layOut_b209 hd hf).to ⟨rfl, rfl, rfl, trivial⟩
      · replace hf := (if_neg (show ¬ (x4 ≤ (1 : Int32)) from c6)).symm.trans hf
        refine w_aload_n dX6_layOut_192 rfl rfl ?_
        obtain ⟨a7, b8, hf⟩ := Option.bind_eq_some_iff.mp hf
        refine GX6_21 b8 dX6_layOut_193 rfl ?_
        refine w_bipush dX6_layOut_196 (v := 8) (by decide) ?_
        obtain ⟨x9, b10, hf⟩ := Option.bind_eq_some_iff.mp hf
        refine x_rI b10 dX6_layOut_198 ?_
        refine w_sipush dX6_layOut_199 (v := 256) (by decide) ?_
        refine w_icmp_gt 209 dX6_layOut_202 (by decide) (fun c11 => ?_) (fun c11 => ?_)
        · replace hf := (if_pos (show (256 : Int32) < x9 from c11)).symm.trans hf
          exact (pX6_layOut_b209 hd hf).to ⟨rfl, rfl, rfl, trivial⟩
        · replace hf := (if_neg (show ¬ ((256 : Int32) < x9) from c11)).symm.trans hf
          refine w_iconst dX6_layOut_205 (v := 1) (by decide) ?_
          refine w_goto 210 dX6_layOut_206 (by decide) ?_
          exact (pX6_layOut_b210 hd hf).to ⟨rfl, rfl, rfl, trivial⟩
    · replace hf := (if_neg (show ¬ ((10 : Int32) ≤ l4) from c1)).symm.trans hf
      refine w_iload dX6_layOut_111 rfl ?_
      refine w_if_ne 124 dX6_layOut_113 (by decide) (fun c12 => ?_) (fun c12 => ?_)
      · replace hf := (if_pos (show ¬ l4 = 0 from c12)).symm.trans hf
        refine w_iload dX6_layOut_124 rfl ?_
        refine w_iconst dX6_layOut_126 (v := 1) (by decide) ?_
        refine w_icmp_ne 144 dX6_layOut_127 (by decide) (fun c13 => ?_) (fun c13 => ?_)
        · replace hf := (if_pos (show ¬ l4 = (1 : Int32) from c13)).symm.trans hf
          refine w_aload_n dX6_layOut_144 rfl rfl ?_
          refine w_iload dX6_layOut_145 rfl ?_
          refine w_iconst dX6_layOut_147 (v := 2) (by decide) ?_
          refine w_iadd dX6_layOut_148 ?_
          obtain ⟨_, b14, hf⟩ := Option.bind_eq_some_iff.mp hf
          refine x_cnI hf (e_stV (Yc := YX2_half) (ci := 1) (av := [.int (l4 + (2 : Int32))]) (st := []) dX6_layOut_149 q2216 mX2_half rfl (k_ok_some b14).1 (k_ok_some b14).2) mX2_half.2.2.1 mX2_half.2.2.2.2.1 (Nat.le_of_ble_eq_true rfl) (Nat.le_of_ble_eq_true rfl) (fun q hq => pX2_half (by omega) hq) (fun q15 hf => ?_)
          exact (pX6_layOut_b152 hd ih hf).to ⟨rfl, rfl, rfl, rfl, trivial⟩
        · replace hf := (if_neg (show ¬ (¬ l4 = (1 : Int32)) from (fun z => z c13))).symm.trans hf
          refine w_aload_n dX6_layOut_130 rfl rfl ?_
          obtain ⟨x16, b17, hf⟩ := Option.bind_eq_some_iff.mp hf
          refine GX6_29 b17 dX6_layOut_131 rfl ?_
          refine w_aload_n dX6_layOut_134 rfl rfl ?_
          obtain ⟨x18, b19, hf⟩ := Option.bind_eq_some_iff.mp hf
          refine GX6_25 b19 dX6_layOut_135 rfl ?_
          refine w_isub dX6_layOut_138 ?_
          refine w_iconst dX6_layOut_139 (v := 1) (by decide) ?_
          refine w_iadd dX6_layOut_140 ?_
          refine w_goto 152 dX6_layOut_141 (by decide) ?_
          exact (pX6_layOut_b152 hd ih hf).to ⟨rfl, rfl, rfl, rfl, trivial⟩
      · replace hf := (if_neg (show ¬ (¬ l4 = 0) from (fun z => z c12))).symm.trans hf
        refine w_aload_n dX6_layOut_116 rfl rfl ?_
        refine w_iconst dX6_layOut_117 (v := 1) (by decide) ?_
        obtain ⟨_, b20, hf⟩ := Option.bind_eq_some_iff.mp hf
        refine x_cnI hf (e_stV (Yc := YX2_half) (ci := 1) (av := [.int (1 : Int32)]) (st := []) dX6_layOut_118 q2216 mX2_half rfl (k_ok_some b20).1 (k_ok_some b20).2) mX2_half.2.2.1 mX2_half.2.2.2.2.1 (Nat.le_of_ble_eq_true rfl) (Nat.le_of_ble_eq_true rfl) (fun q hq => pX2_half (by omega) hq) (fun q21 hf => ?_)
        refine w_goto 152 dX6_layOut_121 (by decide) ?_
        exact (pX6_layOut_b152 hd ih hf).to ⟨rfl, rfl, rfl, rfl, trivial⟩
def fX6_layOut_b49 (N : Nat) (l0 : Nat) (l1 : Nat) (l2 : Int32) (h : eH) : Option (Int32 × eH) :=
  if ¬ l2 = 0 then
    (k_ok 1 h l1).bind fun _ =>
    (fX2_half l1 (2 : Int32) h).bind fun q3 =>
    (p_V 5 q3.2 l0 4 (.int q3.1)).bind fun h4 =>
    (k_ok 1 h4 l1).bind fun _ =>
    (fX2_half l1 (3 : Int32) h4).bind fun q7 =>
    (p_V 5 q7.2 l0 5 (.int q7.1)).bind fun h8 =>
    (g_I 5 h8 l0 4).bind fun x10 =>
    (g_I 5 h8 l0 5).bind fun x12 =>
    if (x12 + (1 : Int32)) < x10 then
      fX6_layOut_b96 N h8
    else
      (g_I 5 h8 l0 5).bind fun x15 =>
      if x15 ≤ (255 : Int32) then
        fX6_layOut_b104 N N l0 l1 (6 : Int32) (0 : Int32) h8
      else
        fX6_layOut_b96 N h8
  else
    some ((1 : Int32), h)
theorem pX6_layOut_b49 {w : eW} {d : Nat} (hd : 2 ≤ d + 1) {N : Nat} {l0 : Nat} {l1 : Nat} {l2 : Int32} {h : eH} {q} (hf : fX6_layOut_b49 N l0 l1 l2 h = some q) : wp w (d + 1) YX6_layOut 49 [some (.ref l0), some (.ref l1), some (.int l2), none, none, none] [] h (e_is (e_rn c_I q)) := by
  unfold fX6_layOut_b49 at hf
  refine w_iload_n dX6_layOut_49 rfl rfl ?_
  refine w_if_ne 55 dX6_layOut_50 (by decide) (fun c1 => ?_) (fun c1 => ?_)
  · replace hf := (if_pos (show ¬ l2 = 0 from c1)).symm.trans hf
    refine w_aload_n dX6_layOut_55 rfl rfl ?_
    refine w_aload_n dX6_layOut_56 rfl rfl ?_
    refine w_iconst dX6_layOut_57 (v := 2) (by decide) ?_
    obtain ⟨_, b2, hf⟩ := Option.bind_eq_some_iff.mp hf
    refine x_cnI hf (e_stV (Yc := YX2_half) (ci := 1) (av := [.int (2 : Int32)]) (st := [.ref l0]) dX6_layOut_58 q2216 mX2_half rfl (k_ok_some b2).1 (k_ok_some b2).2) mX2_half.2.2.1 mX2_half.2.2.2.2.1 (Nat.le_of_ble_eq_true rfl) (Nat.le_of_ble_eq_true rfl) (fun q hq => pX2_half (by omega) hq) (fun q3 hf => ?_)
    obtain ⟨h4, b5, hf⟩ := Option.bind_eq_some_iff.mp hf
    refine SX6_25 b5 dX6_layOut_61 rfl ?_
    refine w_aload_n dX6_layOut_64 rfl rfl ?_
    refine w_aload_n dX6_layOut_65 rfl rfl ?_
    refine w_iconst dX6_layOut_66 (v := 3) (by decide) ?_
    obtain ⟨_, b6, hf⟩ := Option.bind_eq_some_iff.mp hf
    refine x_cnI hf (e_stV (Yc := YX2_half) (ci := 1) (av := [.int (3 : Int32)]) (st := [.ref l0]) dX6_layOut_67 q2216 mX2_half rfl (k_ok_some b6).1 (k_ok_some b6).2) mX2_half.2.2.1 mX2_half.2.2.2.2.1 (Nat.le_of_ble_eq_true rfl) (Nat.le_of_ble_eq_true rfl) (fun q hq => pX2_half (by omega) hq) (fun q7 hf => ?_)
    obtain ⟨h8, b9, hf⟩ := Option.bind_eq_some_iff.mp hf
    refine SX6_29 b9 dX6_layOut_70 rfl ?_
    refine w_aload_n dX6_layOut_73 rfl rfl ?_
    obtain ⟨x10, b11, hf⟩ := Option.bind_eq_some_iff.mp hf
    refine GX6_25 b11 dX6_layOut_74 rfl ?_
    refine w_aload_n dX6_layOut_77 rfl rfl ?_
    obtain ⟨x12, b13, hf⟩ := Option.bind_eq_some_iff.mp hf
    refine GX6_29 b13 dX6_layOut_78 rfl ?_
    refine w_iconst dX6_layOut_81 (v := 1) (by decide) ?_
    refine w_iadd dX6_layOut_82 ?_
    refine w_icmp_gt 96 dX6_layOut_83 (by decide) (fun c14 => ?_) (fun c14 => ?_)
    · replace hf := (if_pos (show (x12 + (1 : Int32)) < x10 from c14)).symm.trans hf
      exact (pX6_layOut_b96 hd hf).to trivial
    · replace hf := (if_neg (show ¬ ((x12 + (1 : Int32)) < x10) from c14)).symm.trans hf
      refine w_aload_n dX6_layOut_86 rfl rfl ?_
      obtain ⟨x15, b16, hf⟩ := Option.bind_eq_some_iff.mp hf
      refine GX6_29 b16 dX6_layOut_87 rfl ?_
      refine w_sipush dX6_layOut_90 (v := 255) (by decide) ?_
      refine w_icmp_le 98 dX6_layOut_93 (by decide) (fun c17 => ?_) (fun c17 => ?_)
      · replace hf := (if_pos (show x15 ≤ (255 : Int32) from c17)).symm.trans hf
        refine w_bipush dX6_layOut_98 (v := 6) (by decide) ?_
        refine w_istore_n dX6_layOut_100 rfl (by decide) (ls' := [some (.ref l0), some (.ref l1), some (.int l2), some (.int (6 : Int32)), none, none]) rfl ?_
        refine w_iconst dX6_layOut_101 (v := 0) (by decide) ?_
        refine w_istore dX6_layOut_102 (by decide) (ls' := [some (.ref l0), some (.ref l1), some (.int l2), some (.int (6 : Int32)), some (.int (0 : Int32)), none]) rfl ?_
        exact (pX6_layOut_b104 hd N _ _ _ _ _ _ hf).to ⟨rfl, rfl, rfl, rfl, trivial⟩
      · replace hf := (if_neg (show ¬ (x15 ≤ (255 : Int32)) from c17)).symm.trans hf
        exact (pX6_layOut_b96 hd hf).to trivial
  · replace hf := (if_neg (show ¬ (¬ l2 = 0) from (fun z => z c1))).symm.trans hf
    refine w_iconst dX6_layOut_53 (v := 1) (by decide) ?_
    cases hf
    exact w_iret dX6_layOut_54 rfl rfl rfl
def fX6_layOut_b17 (N : Nat) : Nat → Nat → Nat → Int32 → Int32 → eH → Option (Int32 × eH)
  | 0, _, _, _, _, _ => none
  | n + 1, l0, l1, l2, l3, h =>
    if (12 : Int32) ≤ l3 then
      fX6_layOut_b49 N l0 l1 l2 h
    else
      if l2 = 0 then
        fX6_layOut_b49 N l0 l1 l2 h
      else
        (k_ok 1 h l1).bind fun _ =>
        (fX2_half l1 l3 h).bind fun q4 =>
        if (32768 : Int32) ≤ q4.1 then
          fX6_layOut_b42 N (fX6_layOut_b17 N n) l0 l1 l3 (0 : Int32) q4.2
        else
          fX6_layOut_b42 N (fX6_layOut_b17 N n) l0 l1 l3 (1 : Int32) q4.2
theorem pX6_layOut_b17 {w : eW} {d : Nat} (hd : 2 ≤ d + 1) {N : Nat} : ∀ (n : Nat) l0 l1 l2 l3 h q, fX6_layOut_b17 N n l0 l1 l2 l3 h = some q → wp w (d + 1) YX6_layOut 17 [some (.ref l0), some (.ref l1), some (.int l2), some (.int l3), none, none] [] h (e_is (e_rn c_I q)) := by
  intro n
  induction n with
  | zero => intro l0 l1 l2 l3 h q hf; simp [fX6_layOut_b17] at hf
  | succ n ih =>
    intro l0 l1 l2 l3 h q hf
    rw [fX6_layOut_b17] at hf
    refine w_iload_n dX6_layOut_17 rfl rfl ?_
    refine w_bipush dX6_layOut_18 (v := 12) (by decide) ?_
    refine w_icmp_ge 49 dX6_layOut_20 (by decide) (fun c1 => ?_) (fun c1 => ?_)
    · replace hf := (if_pos (show (12 : Int32) ≤ l3 from c1)).symm.trans hf
      exact (pX6_layOut_b49 hd hf).to ⟨rfl, rfl, rfl, trivial⟩
    · replace hf := (if_neg (show ¬ ((12 : Int32) ≤ l3) from c1)).symm.trans hf
      refine w_iload_n dX6_layOut_23 rfl rfl ?_
      refine w_if_eq 49 dX6_layOut_24 (by decide) (fun c2 => ?_) (fun c2 => ?_)
      · replace hf := (if_pos (show l2 = 0 from c2)).symm.trans hf
        exact (pX6_layOut_b49 hd hf).to ⟨rfl, rfl, rfl, trivial⟩
      · replace hf := (if_neg (show ¬ (l2 = 0) from c2)).symm.trans hf
        refine w_aload_n dX6_layOut_27 rfl rfl ?_
        refine w_iload_n dX6_layOut_28 rfl rfl ?_
        obtain ⟨_, b3, hf⟩ := Option.bind_eq_some_iff.mp hf
        refine x_cnI hf (e_stV (Yc := YX2_half) (ci := 1) (av := [.int l3]) (st := []) dX6_layOut_29 q2216 mX2_half rfl (k_ok_some b3).1 (k_ok_some b3).2) mX2_half.2.2.1 mX2_half.2.2.2.2.1 (Nat.le_of_ble_eq_true rfl) (Nat.le_of_ble_eq_true rfl) (fun q hq => pX2_half (by omega) hq) (fun q4 hf => ?_)
        refine w_ldc dX6_layOut_32 q2224 ?_
        refine w_icmp_ge 41 dX6_layOut_34 (by decide) (fun c5 => ?_) (fun c5 => ?_)
        · replace hf := (if_pos (show (32768 : Int32) ≤ q4.1 from c5)).symm.trans hf
          refine w_iconst dX6_layOut_41 (v := 0) (by decide) ?_
          exact (pX6_layOut_b42 hd ih hf).to ⟨rfl, rfl, rfl, trivial⟩
        · replace hf := (if_neg (show ¬ ((32768 : Int32) ≤ q4.1) from c5)).symm.trans hf
          refine w_iconst dX6_layOut_37 (v := 1) (by decide) ?_
          refine w_goto 42 dX6_layOut_38 (by decide) ?_
          exact (pX6_layOut_b42 hd ih hf).to ⟨rfl, rfl, rfl, trivial⟩
def fX6_layOut_b14 (N : Nat) (l0 : Nat) (l1 : Nat) (s0 : Int32) (h : eH) : Option (Int32 × eH) :=
  fX6_layOut_b17 N N l0 l1 s0 (0 : Int32) h
theorem pX6_layOut_b14 {w : eW} {d : Nat} (hd : 2 ≤ d + 1) {N : Nat} {l0 : Nat} {l1 : Nat} {s0 : Int32} {h : eH} {q} (hf : fX6_layOut_b14 N l0 l1 s0 h = some q) : wp w (d + 1) YX6_layOut 14 [some (.ref l0), some (.ref l1), none, none, none, none] [.int s0] h (e_is (e_rn c_I q)) := by
  unfold fX6_layOut_b14 at hf
  refine w_istore_n dX6_layOut_14 rfl (by decide) (ls' := [some (.ref l0), some (.ref l1), some (.int s0), none, none, none]) rfl ?_
  refine w_iconst dX6_layOut_15 (v := 0) (by decide) ?_
  refine w_istore_n dX6_layOut_16 rfl (by decide) (ls' := [some (.ref l0), some (.ref l1), some (.int s0), some (.int (0 : Int32)), none, none]) rfl ?_
  exact (pX6_layOut_b17 hd N _ _ _ _ _ _ hf).to ⟨rfl, rfl, rfl, rfl, trivial⟩
def fX6_layOut (N : Nat) (this : Nat) (p0 : Nat) (h : eH) : Option (Int32 × eH) :=
  (g_I 1 h p0 1).bind fun x1 =>
  if x1 < (24 : Int32) then
    fX6_layOut_b14 N this p0 (0 : Int32) h
  else
    fX6_layOut_b14 N this p0 (1 : Int32) h
theorem pX6_layOut {w : eW} {d : Nat} (hd : 2 ≤ d) {N : Nat} {this : Nat} {p0 : Nat} {h : eH} {q} (hf : fX6_layOut N this p0 h = some q) : wm w d YX6_layOut [.ref this, .ref p0] h (e_is (e_rn c_I q)) := by
  obtain ⟨d, rfl⟩ : ∃ e, d = e + 1 := ⟨d - 1, by omega⟩
  show wp w (d + 1) YX6_layOut 0 [some (.ref this), some (.ref p0), none, none, none, none] [] h _
  unfold fX6_layOut at hf
  refine w_aload_n dX6_layOut_0 rfl rfl ?_
  obtain ⟨x1, b2, hf⟩ := Option.bind_eq_some_iff.mp hf
  refine GX6_40 b2 dX6_layOut_1 rfl ?_
  refine w_bipush dX6_layOut_4 (v := 24) (by decide) ?_
  refine w_icmp_lt 13 dX6_layOut_6 (by decide) (fun c3 => ?_) (fun c3 => ?_)
  · replace hf := (if_pos (show x1 < (24 : Int32) from c3)).symm.trans hf
    refine w_iconst dX6_layOut_13 (v := 0) (by decide) ?_
    exact (pX6_layOut_b14 hd hf).to ⟨rfl, rfl, trivial⟩
  · replace hf := (if_neg (show ¬ (x1 < (24 : Int32)) from c3)).symm.trans hf
    refine w_iconst dX6_layOut_9 (v := 1) (by decide) ?_
    refine w_goto 14 dX6_layOut_10 (by decide) ?_
    exact (pX6_layOut_b14 hd hf).to ⟨rfl, rfl, trivial⟩
abbrev cX6_a : ByteArray := prog_7_method_3_code
def yX6_a : MethodName := ⟨RX6, "a", "(I)I"⟩
def YX6_a : eY := (yX6_a, cX6_a, 1, (Option.some FieldType.int), [])
theorem mX6_a : e_ms YX6_a 1 := ⟨q2239, q431, q2240, by decide, by decide +kernel, (e_sig (by decide +kernel))⟩
theorem dX6_a_0 : decode cX6_a 0 = .ok (.iload_n 0, 1) := dc_26 (by decide +kernel)
theorem dX6_a_1 : decode cX6_a 1 = .ok (.bipush 24, 2) := dc_16 (a := 24) (v := 24) (by decide +kernel)
theorem dX6_a_3 : decode cX6_a 3 = .ok (.iushr, 1) := dc_124 (by decide +kernel)
theorem dX6_a_4 : decode cX6_a 4 = .ok (.ireturn, 1) := dc_172 (by decide +kernel)
def fX6_a (p0 : Int32) (h : eH) : Option (Int32 × eH) :=
  some (((p0).toUInt32 >>> (((24 : Int32)).toUInt32 &&& Int32.toUInt32 31)).toInt32, h)
theorem pX6_a {w : eW} {d : Nat} (hd : 0 ≤ d) {p0 : Int32} {h : eH} {q} (hf : fX6_a p0 h = some q) : wm w d YX6_a [.int p0] h (e_is (e_rn c_I q)) := by
  show wp w d YX6_a 0 [some (.int p0)] [] h _
  unfold fX6_a at hf
  refine w_iload_n dX6_a_0 rfl rfl ?_
  refine w_bipush dX6_a_1 (v := 24) (by decide) ?_
  refine w_iushr dX6_a_3 ?_
  cases hf
  exact w_iret dX6_a_4 rfl rfl rfl
abbrev cX6_b : ByteArray := prog_7_method_4_code
def yX6_b : MethodName := ⟨RX6, "b", "(I)I"⟩
def YX6_b : eY := (yX6_b, cX6_b, 1, (Option.some FieldType.int), [])
theorem mX6_b : e_ms YX6_b 1 := ⟨q2242, q431, q2243, by decide, by decide +kernel, (e_sig (by decide +kernel))⟩
theorem dX6_b_0 : decode cX6_b 0 = .ok (.iload_n 0, 1) := dc_26 (by decide +kernel)
theorem dX6_b_1 : decode cX6_b 1 = .ok (.bipush 16, 2) := dc_16 (a := 16) (v := 16) (by decide +kernel)
theorem dX6_b_3 : decode cX6_b 3 = .ok (.ishr, 1) := dc_122 (by decide +kernel)
theorem dX6_b_4 : decode cX6_b 4 = .ok (.sipush 255, 3) := dc_17 (a := 0) (b := 255) (v := 255) (by decide +kernel)
theorem dX6_b_7 : decode cX6_b 7 = .ok (.iand, 1) := dc_126 (by decide +kernel)
theorem dX6_b_8 : decode cX6_b 8 = .ok (.ireturn, 1) := dc_172 (by decide +kernel)
def fX6_b (p0 : Int32) (h : eH) : Option (Int32 × eH) :=
  some (((p0 >>> ((16 : Int32) &&& 31)) &&& (255 : Int32)), h)
theorem pX6_b {w : eW} {d : Nat} (hd : 0 ≤ d) {p0 : Int32} {h : eH} {q} (hf : fX6_b p0 h = some q) : wm w d YX6_b [.int p0] h (e_is (e_rn c_I q)) := by
  show wp w d YX6_b 0 [some (.int p0)] [] h _
  unfold fX6_b at hf
  refine w_iload_n dX6_b_0 rfl rfl ?_
  refine w_bipush dX6_b_1 (v := 16) (by decide) ?_
  refine w_ishr dX6_b_3 ?_
  refine w_sipush dX6_b_4 (v := 255) (by decide) ?_
  refine w_iand dX6_b_7 ?_
  cases hf
  exact w_iret dX6_b_8 rfl rfl rfl
abbrev cX6_c : ByteArray := prog_7_method_5_code
def yX6_c : MethodName := ⟨RX6, "c", "(I)I"⟩
def YX6_c : eY := (yX6_c, cX6_c, 1, (Option.some FieldType.int), [])
theorem mX6_c : e_ms YX6_c 1 := ⟨q2245, q431, q2246, by decide, by decide +kernel, (e_sig (by decide +kernel))⟩
theorem dX6_c_0 : decode cX6_c 0 = .ok (.iload_n 0, 1) := dc_26 (by decide +kernel)
theorem dX6_c_1 : decode cX6_c 1 = .ok (.bipush 8, 2) := dc_16 (a := 8) (v := 8) (by decide +kernel)
theorem dX6_c_3 : decode cX6_c 3 = .ok (.ishr, 1) := dc_122 (by decide +kernel)
theorem dX6_c_4 : decode cX6_c 4 = .ok (.sipush 255, 3) := dc_17 (a := 0) (b := 255) (v := 255) (by decide +kernel)
theorem dX6_c_7 : decode cX6_c 7 = .ok (.iand, 1) := dc_126 (by decide +kernel)
theorem dX6_c_8 : decode cX6_c 8 = .ok (.ireturn, 1) := dc_172 (by decide +kernel)
def fX6_c (p0 : Int32) (h : eH) : Option (Int32 × eH) :=
  some (((p0 >>> ((8 : Int32) &&& 31)) &&& (255 : Int32)), h)
theorem pX6_c {w : eW} {d : Nat} (hd : 0 ≤ d) {p0 : Int32} {h : eH} {q} (hf : fX6_c p0 h = some q) : wm w d YX6_c [.int p0] h (e_is (e_rn c_I q)) := by
  show wp w d YX6_c 0 [some (.int p0)] [] h _
  unfold fX6_c at hf
  refine w_iload_n dX6_c_0 rfl rfl ?_
  refine w_bipush dX6_c_1 (v := 8) (by decide) ?_
  refine w_ishr dX6_c_3 ?_
  refine w_sipush dX6_c_4 (v := 255) (by decide) ?_
  refine w_iand dX6_c_7 ?_
  cases hf
  exact w_iret dX6_c_8 rfl rfl rfl
abbrev cX6_areSizesRight : ByteArray := prog_7_method_11_code
def yX6_areSizesRight : MethodName := ⟨RX6, "areSizesRight", "()Z"⟩
def YX6_areSizesRight : eY := (yX6_areSizesRight, cX6_areSizesRight, 4, (Option.some FieldType.boolean), [])
theorem mX6_areSizesRight : e_mv YX6_areSizesRight RX6 0 := ⟨q2236, qs19, q2237, by decide, by decide +kernel, (e_sig (by decide +kernel))⟩
theorem dX6_areSizesRight_0 : decode cX6_areSizesRight 0 = .ok (.iconst 1, 1) := dc_4 (by decide +kernel)
theorem dX6_areSizesRight_1 : decode cX6_areSizesRight 1 = .ok (.istore_n 1, 1) := dc_60 (by decide +kernel)
theorem dX6_areSizesRight_2 : decode cX6_areSizesRight 2 = .ok (.aload_n 0, 1) := dc_42 (by decide +kernel)
theorem dX6_areSizesRight_3 : decode cX6_areSizesRight 3 = .ok (.getfield 25, 3) := dc_180 (a := 0) (b := 25) (n := 25) (by decide +kernel)
theorem dX6_areSizesRight_6 : decode cX6_areSizesRight 6 = .ok (.istore_n 2, 1) := dc_61 (by decide +kernel)
theorem dX6_areSizesRight_7 : decode cX6_areSizesRight 7 = .ok (.iload_n 2, 1) := dc_28 (by decide +kernel)
theorem dX6_areSizesRight_8 : decode cX6_areSizesRight 8 = .ok (.aload_n 0, 1) := dc_42 (by decide +kernel)
theorem dX6_areSizesRight_9 : decode cX6_areSizesRight 9 = .ok (.getfield 29, 3) := dc_180 (a := 0) (b := 29) (n := 29) (by decide +kernel)
theorem dX6_areSizesRight_12 : decode cX6_areSizesRight 12 = .ok (.if_icmp .gt 89, 3) := dc_163 (a := 0) (b := 89) (v := 89) (by decide +kernel)
theorem dX6_areSizesRight_15 : decode cX6_areSizesRight 15 = .ok (.aload_n 0, 1) := dc_42 (by decide +kernel)
theorem dX6_areSizesRight_16 : decode cX6_areSizesRight 16 = .ok (.iconst 1, 1) := dc_4 (by decide +kernel)
theorem dX6_areSizesRight_17 : decode cX6_areSizesRight 17 = .ok (.iload_n 2, 1) := dc_28 (by decide +kernel)
theorem dX6_areSizesRight_18 : decode cX6_areSizesRight 18 = .ok (.aload_n 0, 1) := dc_42 (by decide +kernel)
theorem dX6_areSizesRight_19 : decode cX6_areSizesRight 19 = .ok (.getfield 25, 3) := dc_180 (a := 0) (b := 25) (n := 25) (by decide +kernel)
theorem dX6_areSizesRight_22 : decode cX6_areSizesRight 22 = .ok (.isub, 1) := dc_100 (by decide +kernel)
theorem dX6_areSizesRight_23 : decode cX6_areSizesRight 23 = .ok (.invokevirtual 32, 3) := dc_182 (a := 0) (b := 32) (n := 32) (by decide +kernel)
theorem dX6_areSizesRight_26 : decode cX6_areSizesRight 26 = .ok (.istore_n 3, 1) := dc_62 (by decide +kernel)
theorem dX6_areSizesRight_27 : decode cX6_areSizesRight 27 = .ok (.iload_n 1, 1) := dc_27 (by decide +kernel)
theorem dX6_areSizesRight_28 : decode cX6_areSizesRight 28 = .ok (.iload_n 3, 1) := dc_29 (by decide +kernel)
theorem dX6_areSizesRight_29 : decode cX6_areSizesRight 29 = .ok (.invokestatic 36, 3) := dc_184 (a := 0) (b := 36) (n := 36) (by decide +kernel)
theorem dX6_areSizesRight_32 : decode cX6_areSizesRight 32 = .ok (.aload_n 0, 1) := dc_42 (by decide +kernel)
theorem dX6_areSizesRight_33 : decode cX6_areSizesRight 33 = .ok (.getfield 21, 3) := dc_180 (a := 0) (b := 21) (n := 21) (by decide +kernel)
theorem dX6_areSizesRight_36 : decode cX6_areSizesRight 36 = .ok (.iconst 2, 1) := dc_5 (by decide +kernel)
theorem dX6_areSizesRight_37 : decode cX6_areSizesRight 37 = .ok (.iaload, 1) := dc_46 (by decide +kernel)
theorem dX6_areSizesRight_38 : decode cX6_areSizesRight 38 = .ok (.if_icmp .ge 54, 3) := dc_162 (a := 0) (b := 54) (v := 54) (by decide +kernel)
theorem dX6_areSizesRight_41 : decode cX6_areSizesRight 41 = .ok (.iload_n 3, 1) := dc_29 (by decide +kernel)
theorem dX6_areSizesRight_42 : decode cX6_areSizesRight 42 = .ok (.invokestatic 53, 3) := dc_184 (a := 0) (b := 53) (n := 53) (by decide +kernel)
theorem dX6_areSizesRight_45 : decode cX6_areSizesRight 45 = .ok (.bipush 16, 2) := dc_16 (a := 16) (v := 16) (by decide +kernel)
theorem dX6_areSizesRight_47 : decode cX6_areSizesRight 47 = .ok (.idiv, 1) := dc_108 (by decide +kernel)
theorem dX6_areSizesRight_48 : decode cX6_areSizesRight 48 = .ok (.aload_n 0, 1) := dc_42 (by decide +kernel)
theorem dX6_areSizesRight_49 : decode cX6_areSizesRight 49 = .ok (.getfield 21, 3) := dc_180 (a := 0) (b := 21) (n := 21) (by decide +kernel)
theorem dX6_areSizesRight_52 : decode cX6_areSizesRight 52 = .ok (.iconst 3, 1) := dc_6 (by decide +kernel)
theorem dX6_areSizesRight_53 : decode cX6_areSizesRight 53 = .ok (.iaload, 1) := dc_46 (by decide +kernel)
theorem dX6_areSizesRight_54 : decode cX6_areSizesRight 54 = .ok (.if_icmp .ge 38, 3) := dc_162 (a := 0) (b := 38) (v := 38) (by decide +kernel)
theorem dX6_areSizesRight_57 : decode cX6_areSizesRight 57 = .ok (.iload_n 3, 1) := dc_29 (by decide +kernel)
theorem dX6_areSizesRight_58 : decode cX6_areSizesRight 58 = .ok (.invokestatic 53, 3) := dc_184 (a := 0) (b := 53) (n := 53) (by decide +kernel)
theorem dX6_areSizesRight_61 : decode cX6_areSizesRight 61 = .ok (.bipush 16, 2) := dc_16 (a := 16) (v := 16) (by decide +kernel)
theorem dX6_areSizesRight_63 : decode cX6_areSizesRight 63 = .ok (.irem, 1) := dc_112 (by decide +kernel)
theorem dX6_areSizesRight_64 : decode cX6_areSizesRight 64 = .ok (.aload_n 0, 1) := dc_42 (by decide +kernel)
theorem dX6_areSizesRight_65 : decode cX6_areSizesRight 65 = .ok (.getfield 21, 3) := dc_180 (a := 0) (b := 21) (n := 21) (by decide +kernel)
theorem dX6_areSizesRight_68 : decode cX6_areSizesRight 68 = .ok (.iconst 4, 1) := dc_7 (by decide +kernel)
theorem dX6_areSizesRight_69 : decode cX6_areSizesRight 69 = .ok (.iaload, 1) := dc_46 (by decide +kernel)
theorem dX6_areSizesRight_70 : decode cX6_areSizesRight 70 = .ok (.if_icmp .ge 22, 3) := dc_162 (a := 0) (b := 22) (v := 22) (by decide +kernel)
theorem dX6_areSizesRight_73 : decode cX6_areSizesRight 73 = .ok (.iload_n 3, 1) := dc_29 (by decide +kernel)
theorem dX6_areSizesRight_74 : decode cX6_areSizesRight 74 = .ok (.invokestatic 56, 3) := dc_184 (a := 0) (b := 56) (n := 56) (by decide +kernel)
theorem dX6_areSizesRight_77 : decode cX6_areSizesRight 77 = .ok (.iconst 4, 1) := dc_7 (by decide +kernel)
theorem dX6_areSizesRight_78 : decode cX6_areSizesRight 78 = .ok (.idiv, 1) := dc_108 (by decide +kernel)
theorem dX6_areSizesRight_79 : decode cX6_areSizesRight 79 = .ok (.aload_n 0, 1) := dc_42 (by decide +kernel)
theorem dX6_areSizesRight_80 : decode cX6_areSizesRight 80 = .ok (.getfield 21, 3) := dc_180 (a := 0) (b := 21) (n := 21) (by decide +kernel)
theorem dX6_areSizesRight_83 : decode cX6_areSizesRight 83 = .ok (.iconst 5, 1) := dc_8 (by decide +kernel)
theorem dX6_areSizesRight_84 : decode cX6_areSizesRight 84 = .ok (.iaload, 1) := dc_46 (by decide +kernel)
theorem dX6_areSizesRight_85 : decode cX6_areSizesRight 85 = .ok (.if_icmp .ge 7, 3) := dc_162 (a := 0) (b := 7) (v := 7) (by decide +kernel)
theorem dX6_areSizesRight_88 : decode cX6_areSizesRight 88 = .ok (.iconst 1, 1) := dc_4 (by decide +kernel)
theorem dX6_areSizesRight_89 : decode cX6_areSizesRight 89 = .ok (.goto 4, 3) := dc_167 (a := 0) (b := 4) (v := 4) (by decide +kernel)
theorem dX6_areSizesRight_92 : decode cX6_areSizesRight 92 = .ok (.iconst 0, 1) := dc_3 (by decide +kernel)
theorem dX6_areSizesRight_93 : decode cX6_areSizesRight 93 = .ok (.iand, 1) := dc_126 (by decide +kernel)
theorem dX6_areSizesRight_94 : decode cX6_areSizesRight 94 = .ok (.istore_n 1, 1) := dc_60 (by decide +kernel)
theorem dX6_areSizesRight_95 : decode cX6_areSizesRight 95 = .ok (.iinc 2 1, 3) := dc_132 (a := 2) (b := 1) (v := 1) (by decide +kernel)
theorem dX6_areSizesRight_98 : decode cX6_areSizesRight 98 = .ok (.goto (-91), 3) := dc_167 (a := 255) (b := 165) (v := -91) (by decide +kernel)
theorem dX6_areSizesRight_101 : decode cX6_areSizesRight 101 = .ok (.iload_n 1, 1) := dc_27 (by decide +kernel)
theorem dX6_areSizesRight_102 : decode cX6_areSizesRight 102 = .ok (.ireturn, 1) := dc_172 (by decide +kernel)
def fX6_areSizesRight_b93 (N : Nat) (k7 : Nat → Int32 → Int32 → eH → Option (Int32 × eH)) (l0 : Nat) (l2 : Int32) (s0 : Int32) (s1 : Int32) (h : eH) : Option (Int32 × eH) :=
  k7 l0 (s0 &&& s1) (l2 + (1 : Int32)) h
theorem pX6_areSizesRight_b93 {w : eW} {d : Nat} (hd : 1 ≤ d + 1) {N : Nat} {k7 : Nat → Int32 → Int32 → eH → Option (Int32 × eH)} (hk7 : ∀ l0 l1 l2 h q, k7 l0 l1 l2 h = some q → wp w (d + 1) YX6_areSizesRight 7 [some (.ref l0), some (.int l1), some (.int l2), none] [] h (e_is (e_rn c_I q))) {l0 : Nat} {l2 : Int32} {s0 : Int32} {s1 : Int32} {h : eH} {q} (hf : fX6_areSizesRight_b93 N k7 l0 l2 s0 s1 h = some q) : wp w (d + 1) YX6_areSizesRight 93 [some (.ref l0), none, some (.int l2), none] [.int s1, .int s0] h (e_is (e_rn c_I q)) := by
  unfold fX6_areSizesRight_b93 at hf
  refine w_iand dX6_areSizesRight_93 ?_
  refine w_istore_n dX6_areSizesRight_94 rfl (by decide) (ls' := [some (.ref l0), some (.int (s0 &&& s1)), some (.int l2), none]) rfl ?_
  refine w_iinc dX6_areSizesRight_95 (v := (l2 + (1 : Int32))) rfl rfl (by decide) (ls' := [some (.ref l0), some (.int (s0 &&& s1)), some (.int (l2 + (1 : Int32))), none]) rfl ?_
  refine w_goto 7 dX6_areSizesRight_98 (by decide) ?_
  exact (hk7 _ _ _ _ _ hf).to ⟨rfl, rfl, rfl, trivial⟩
def fX6_areSizesRight_b92 (N : Nat) (k7 : Nat → Int32 → Int32 → eH → Option (Int32 × eH)) (l0 : Nat) (l2 : Int32) (s0 : Int32) (h : eH) : Option (Int32 × eH) :=
  fX6_areSizesRight_b93 N k7 l0 l2 s0 (0 : Int32) h
theorem pX6_areSizesRight_b92 {w : eW} {d : Nat} (hd : 1 ≤ d + 1) {N : Nat} {k7 : Nat → Int32 → Int32 → eH → Option (Int32 × eH)} (hk7 : ∀ l0 l1 l2 h q, k7 l0 l1 l2 h = some q → wp w (d + 1) YX6_areSizesRight 7 [some (.ref l0), some (.int l1), some (.int l2), none] [] h (e_is (e_rn c_I q))) {l0 : Nat} {l2 : Int32} {s0 : Int32} {h : eH} {q} (hf : fX6_areSizesRight_b92 N k7 l0 l2 s0 h = some q) : wp w (d + 1) YX6_areSizesRight 92 [some (.ref l0), none, some (.int l2), none] [.int s0] h (e_is (e_rn c_I q)) := by
  unfold fX6_areSizesRight_b92 at hf
  refine w_iconst dX6_areSizesRight_92 (v := 0) (by decide) ?_
  exact (pX6_areSizesRight_b93 hd hk7 hf).to ⟨rfl, rfl, trivial⟩
def fX6_areSizesRight_b7 (N : Nat) : Nat → Nat → Int32 → Int32 → eH → Option (Int32 × eH)
  | 0, _, _, _, _ => none
  | n + 1, l0, l1, l2, h =>
    (g_I 5 h l0 5).bind fun x1 =>
    if x1 < l2 then
      z_r l1 (l1, h)
    else
      (g_I 5 h l0 4).bind fun x5 =>
      (k_ok 5 h l0).bind fun _ =>
      (fX6_word l0 (1 : Int32) (l2 - x5) h).bind fun q8 =>
      (fX6_a q8.1 q8.2).bind fun q9 =>
      (g_A 5 q9.2 l0 3).bind fun a10 =>
      (r_I 100 q9.2 a10 (2 : Int32)).bind fun x12 =>
      if x12 ≤ q9.1 then
        fX6_areSizesRight_b92 N (fX6_areSizesRight_b7 N n) l0 l2 l1 q9.2
      else
        (fX6_b q8.1 q9.2).bind fun q15 =>
        (g_A 5 q15.2 l0 3).bind fun a16 =>
        (r_I 100 q15.2 a16 (3 : Int32)).bind fun x18 =>
        if x18 ≤ (q15.1 / (16 : Int32)) then
          fX6_areSizesRight_b92 N (fX6_areSizesRight_b7 N n) l0 l2 l1 q15.2
        else
          (fX6_b q8.1 q15.2).bind fun q21 =>
          (g_A 5 q21.2 l0 3).bind fun a22 =>
          (r_I 100 q21.2 a22 (4 : Int32)).bind fun x24 =>
          if x24 ≤ (q21.1 - q21.1 / (16 : Int32) * (16 : Int32)) then
            fX6_areSizesRight_b92 N (fX6_areSizesRight_b7 N n) l0 l2 l1 q21.2
          else
            (fX6_c q8.1 q21.2).bind fun q27 =>
            (g_A 5 q27.2 l0 3).bind fun a28 =>
            (r_I 100 q27.2 a28 (5 : Int32)).bind fun x30 =>
            if x30 ≤ (q27.1 / (4 : Int32)) then
              fX6_areSizesRight_b92 N (fX6_areSizesRight_b7 N n) l0 l2 l1 q27.2
            else
              fX6_areSizesRight_b93 N (fX6_areSizesRight_b7 N n) l0 l2 l1 (1 : Int32) q27.2
theorem pX6_areSizesRight_b7 {w : eW} {d : Nat} (hd : 1 ≤ d + 1) {N : Nat} : ∀ (n : Nat) l0 l1 l2 h q, fX6_areSizesRight_b7 N n l0 l1 l2 h = some q → wp w (d + 1) YX6_areSizesRight 7 [some (.ref l0), some (.int l1), some (.int l2), none] [] h (e_is (e_rn c_I q)) := by
  intro n
  induction n with
  | zero => intro l0 l1 l2 h q hf; simp [fX6_areSizesRight_b7] at hf
  | succ n ih =>
    intro l0 l1 l2 h q hf
    rw [fX6_areSizesRight_b7] at hf
    refine w_iload_n dX6_areSizesRight_7 rfl rfl ?_
    refine w_aload_n dX6_areSizesRight_8 rfl rfl ?_
    obtain ⟨x1, b2, hf⟩ := Option.bind_eq_some_iff.mp hf
    refine GX6_29 b2 dX6_areSizesRight_9 rfl ?_
    refine w_icmp_gt 101 dX6_areSizesRight_12 (by decide) (fun c3 => ?_) (fun c3 => ?_)
    · replace hf := (if_pos (show x1 < l2 from c3)).symm.trans hf
      refine w_iload_n dX6_areSizesRight_101 rfl rfl ?_
      obtain ⟨b4, rfl⟩ := z_r_some hf
      exact w_iret dX6_areSizesRight_102 rfl b4 rfl
    · replace hf := (if_neg (show ¬ (x1 < l2) from c3)).symm.trans hf
      refine w_aload_n dX6_areSizesRight_15 rfl rfl ?_
      refine w_iconst dX6_areSizesRight_16 (v := 1) (by decide) ?_
      refine w_iload_n dX6_areSizesRight_17 rfl rfl ?_
      refine w_aload_n dX6_areSizesRight_18 rfl rfl ?_
      obtain ⟨x5, b6, hf⟩ := Option.bind_eq_some_iff.mp hf
      refine GX6_25 b6 dX6_areSizesRight_19 rfl ?_
      refine w_isub dX6_areSizesRight_22 ?_
      obtain ⟨_, b7, hf⟩ := Option.bind_eq_some_iff.mp hf
      refine x_cnI hf (e_stV (Yc := YX6_word) (ci := 5) (av := [.int (1 : Int32), .int (l2 - x5)]) (st := []) dX6_areSizesRight_23 q2229 mX6_word rfl (k_ok_some b7).1 (k_ok_some b7).2) mX6_word.2.2.1 mX6_word.2.2.2.2.1 (Nat.le_of_ble_eq_true rfl) (Nat.le_of_ble_eq_true rfl) (fun q hq => pX6_word (by omega) hq) (fun q8 hf => ?_)
      refine w_istore_n dX6_areSizesRight_26 rfl (by decide) (ls' := [some (.ref l0), some (.int l1), some (.int l2), some (.int q8.1)]) rfl ?_
      refine w_iload_n dX6_areSizesRight_27 rfl rfl ?_
      refine w_iload_n dX6_areSizesRight_28 rfl rfl ?_
      refine x_cnI hf (e_stS (Yc := YX6_a) (av := [.int q8.1]) (st := [.int l1]) dX6_areSizesRight_29 q2238 mX6_a) mX6_a.2.2.1 mX6_a.2.2.2.2.1 (Nat.le_of_ble_eq_true rfl) (Nat.le_of_ble_eq_true rfl) (fun q hq => pX6_a (by omega) hq) (fun q9 hf => ?_)
      refine w_aload_n dX6_areSizesRight_32 rfl rfl ?_
      obtain ⟨a10, b11, hf⟩ := Option.bind_eq_some_iff.mp hf
      refine GX6_21 b11 dX6_areSizesRight_33 rfl ?_
      refine w_iconst dX6_areSizesRight_36 (v := 2) (by decide) ?_
      obtain ⟨x12, b13, hf⟩ := Option.bind_eq_some_iff.mp hf
      refine x_rI b13 dX6_areSizesRight_37 ?_
      refine w_icmp_ge 92 dX6_areSizesRight_38 (by decide) (fun c14 => ?_) (fun c14 => ?_)
      · replace hf := (if_pos (show x12 ≤ q9.1 from c14)).symm.trans hf
        exact (pX6_areSizesRight_b92 hd ih hf).to ⟨rfl, rfl, trivial⟩
      · replace hf := (if_neg (show ¬ (x12 ≤ q9.1) from c14)).symm.trans hf
        refine w_iload_n dX6_areSizesRight_41 rfl rfl ?_
        refine x_cnI hf (e_stS (Yc := YX6_b) (av := [.int q8.1]) (st := [.int l1]) dX6_areSizesRight_42 q2241 mX6_b) mX6_b.2.2.1 mX6_b.2.2.2.2.1 (Nat.le_of_ble_eq_true rfl) (Nat.le_of_ble_eq_true rfl) (fun q hq => pX6_b (by omega) hq) (fun q15 hf => ?_)
        refine w_bipush dX6_areSizesRight_45 (v := 16) (by decide) ?_
        refine w_idiv dX6_areSizesRight_47 (by decide) ?_
        refine w_aload_n dX6_areSizesRight_48 rfl rfl ?_
        obtain ⟨a16, b17, hf⟩ := Option.bind_eq_some_iff.mp hf
        refine GX6_21 b17 dX6_areSizesRight_49 rfl ?_
        refine w_iconst dX6_areSizesRight_52 (v := 3) (by decide) ?_
        obtain ⟨x18, b19, hf⟩ := Option.bind_eq_some_iff.mp hf
        refine x_rI b19 dX6_areSizesRight_53 ?_
        refine w_icmp_ge 92 dX6_areSizesRight_54 (by decide) (fun c20 => ?_) (fun c20 => ?_)
        · replace hf := (if_pos (show x18 ≤ (q15.1 / (16 : Int32)) from c20)).symm.trans hf
          exact (pX6_areSizesRight_b92 hd ih hf).to ⟨rfl, rfl, trivial⟩
        · replace hf := (if_neg (show ¬ (x18 ≤ (q15.1 / (16 : Int32))) from c20)).symm.trans hf
          refine w_iload_n dX6_areSizesRight_57 rfl rfl ?_
          refine x_cnI hf (e_stS (Yc := YX6_b) (av := [.int q8.1]) (st := [.int l1]) dX6_areSizesRight_58 q2241 mX6_b) mX6_b.2.2.1 mX6_b.2.2.2.2.1 (Nat.le_of_ble_eq_true rfl) (Nat.le_of_ble_eq_true rfl) (fun q hq => pX6_b (by omega) hq) (fun q21 hf => ?_)
          refine w_bipush dX6_areSizesRight_61 (v := 16) (by decide) ?_
          refine w_irem dX6_areSizesRight_63 (by decide) ?_
          refine w_aload_n dX6_areSizesRight_64 rfl rfl ?_
          obtain ⟨a22, b23, hf⟩ := Option.bind_eq_some_iff.mp hf
          refine GX6_21 b23 dX6_areSizesRight_65 rfl ?_
          refine w_iconst dX6_areSizesRight_68 (v := 4) (by decide) ?_
          obtain ⟨x24, b25, hf⟩ := Option.bind_eq_some_iff.mp hf
          refine x_rI b25 dX6_areSizesRight_69 ?_
          refine w_icmp_ge 92 dX6_areSizesRight_70 (by decide) (fun c26 => ?_) (fun c26 => ?_)
          · replace hf := (if_pos (show x24 ≤ (q21.1 - q21.1 / (16 : Int32) * (16 : Int32)) from c26)).symm.trans hf
            exact (pX6_areSizesRight_b92 hd ih hf).to ⟨rfl, rfl, trivial⟩
          · replace hf := (if_neg (show ¬ (x24 ≤ (q21.1 - q21.1 / (16 : Int32) * (16 : Int32))) from c26)).symm.trans hf
            refine w_iload_n dX6_areSizesRight_73 rfl rfl ?_
            refine x_cnI hf (e_stS (Yc := YX6_c) (av := [.int q8.1]) (st := [.int l1]) dX6_areSizesRight_74 q2244 mX6_c) mX6_c.2.2.1 mX6_c.2.2.2.2.1 (Nat.le_of_ble_eq_true rfl) (Nat.le_of_ble_eq_true rfl) (fun q hq => pX6_c (by omega) hq) (fun q27 hf => ?_)
            refine w_iconst dX6_areSizesRight_77 (v := 4) (by decide) ?_
            refine w_idiv dX6_areSizesRight_78 (by decide) ?_
            refine w_aload_n dX6_areSizesRight_79 rfl rfl ?_
            obtain ⟨a28, b29, hf⟩ := Option.bind_eq_some_iff.mp hf
            refine GX6_21 b29 dX6_areSizesRight_80 rfl ?_
            refine w_iconst dX6_areSizesRight_83 (v := 5) (by decide) ?_
            obtain ⟨x30, b31, hf⟩ := Option.bind_eq_some_iff.mp hf
            refine x_rI b31 dX6_areSizesRight_84 ?_
            refine w_icmp_ge 92 dX6_areSizesRight_85 (by decide) (fun c32 => ?_) (fun c32 => ?_)
            · replace hf := (if_pos (show x30 ≤ (q27.1 / (4 : Int32)) from c32)).symm.trans hf
              exact (pX6_areSizesRight_b92 hd ih hf).to ⟨rfl, rfl, trivial⟩
            · replace hf := (if_neg (show ¬ (x30 ≤ (q27.1 / (4 : Int32))) from c32)).symm.trans hf
              refine w_iconst dX6_areSizesRight_88 (v := 1) (by decide) ?_
              refine w_goto 93 dX6_areSizesRight_89 (by decide) ?_
              exact (pX6_areSizesRight_b93 hd ih hf).to ⟨rfl, rfl, trivial⟩
def fX6_areSizesRight (N : Nat) (this : Nat) (h : eH) : Option (Int32 × eH) :=
  (g_I 5 h this 4).bind fun x1 =>
  fX6_areSizesRight_b7 N N this (1 : Int32) x1 h
theorem pX6_areSizesRight {w : eW} {d : Nat} (hd : 1 ≤ d) {N : Nat} {this : Nat} {h : eH} {q} (hf : fX6_areSizesRight N this h = some q) : wm w d YX6_areSizesRight [.ref this] h (e_is (e_rn c_I q)) := by
  obtain ⟨d, rfl⟩ : ∃ e, d = e + 1 := ⟨d - 1, by omega⟩
  show wp w (d + 1) YX6_areSizesRight 0 [some (.ref this), none, none, none] [] h _
  unfold fX6_areSizesRight at hf
  refine w_iconst dX6_areSizesRight_0 (v := 1) (by decide) ?_
  refine w_istore_n dX6_areSizesRight_1 rfl (by decide) (ls' := [some (.ref this), some (.int (1 : Int32)), none, none]) rfl ?_
  refine w_aload_n dX6_areSizesRight_2 rfl rfl ?_
  obtain ⟨x1, b2, hf⟩ := Option.bind_eq_some_iff.mp hf
  refine GX6_25 b2 dX6_areSizesRight_3 rfl ?_
  refine w_istore_n dX6_areSizesRight_6 rfl (by decide) (ls' := [some (.ref this), some (.int (1 : Int32)), some (.int x1), none]) rfl ?_
  exact (pX6_areSizesRight_b7 hd N _ _ _ _ _ hf).to ⟨rfl, rfl, rfl, trivial⟩
abbrev cX6_has : ByteArray := prog_7_method_8_code
def yX6_has : MethodName := ⟨RX6, "has", "(I)Z"⟩
def YX6_has : eY := (yX6_has, cX6_has, 2, (Option.some FieldType.boolean), [])
theorem mX6_has : e_mv YX6_has RX6 1 := ⟨q2252, q2253, q2254, by decide, by decide +kernel, (e_sig (by decide +kernel))⟩
theorem dX6_has_0 : decode cX6_has 0 = .ok (.iload_n 1, 1) := dc_27 (by decide +kernel)
theorem dX6_has_1 : decode cX6_has 1 = .ok (.aload_n 0, 1) := dc_42 (by decide +kernel)
theorem dX6_has_2 : decode cX6_has 2 = .ok (.getfield 25, 3) := dc_180 (a := 0) (b := 25) (n := 25) (by decide +kernel)
theorem dX6_has_5 : decode cX6_has 5 = .ok (.if_icmp .lt 32, 3) := dc_161 (a := 0) (b := 32) (v := 32) (by decide +kernel)
theorem dX6_has_8 : decode cX6_has 8 = .ok (.iload_n 1, 1) := dc_27 (by decide +kernel)
theorem dX6_has_9 : decode cX6_has 9 = .ok (.aload_n 0, 1) := dc_42 (by decide +kernel)
theorem dX6_has_10 : decode cX6_has 10 = .ok (.getfield 29, 3) := dc_180 (a := 0) (b := 29) (n := 29) (by decide +kernel)
theorem dX6_has_13 : decode cX6_has 13 = .ok (.if_icmp .gt 24, 3) := dc_163 (a := 0) (b := 24) (v := 24) (by decide +kernel)
theorem dX6_has_16 : decode cX6_has 16 = .ok (.aload_n 0, 1) := dc_42 (by decide +kernel)
theorem dX6_has_17 : decode cX6_has 17 = .ok (.iconst 1, 1) := dc_4 (by decide +kernel)
theorem dX6_has_18 : decode cX6_has 18 = .ok (.iload_n 1, 1) := dc_27 (by decide +kernel)
theorem dX6_has_19 : decode cX6_has 19 = .ok (.aload_n 0, 1) := dc_42 (by decide +kernel)
theorem dX6_has_20 : decode cX6_has 20 = .ok (.getfield 25, 3) := dc_180 (a := 0) (b := 25) (n := 25) (by decide +kernel)
theorem dX6_has_23 : decode cX6_has 23 = .ok (.isub, 1) := dc_100 (by decide +kernel)
theorem dX6_has_24 : decode cX6_has 24 = .ok (.invokevirtual 32, 3) := dc_182 (a := 0) (b := 32) (n := 32) (by decide +kernel)
theorem dX6_has_27 : decode cX6_has 27 = .ok (.invokestatic 36, 3) := dc_184 (a := 0) (b := 36) (n := 36) (by decide +kernel)
theorem dX6_has_30 : decode cX6_has 30 = .ok (.ifCond .le 7, 3) := dc_158 (a := 0) (b := 7) (v := 7) (by decide +kernel)
theorem dX6_has_33 : decode cX6_has 33 = .ok (.iconst 1, 1) := dc_4 (by decide +kernel)
theorem dX6_has_34 : decode cX6_has 34 = .ok (.goto 4, 3) := dc_167 (a := 0) (b := 4) (v := 4) (by decide +kernel)
theorem dX6_has_37 : decode cX6_has 37 = .ok (.iconst 0, 1) := dc_3 (by decide +kernel)
theorem dX6_has_38 : decode cX6_has 38 = .ok (.ireturn, 1) := dc_172 (by decide +kernel)
def fX6_has_b38 (s0 : Int32) (h : eH) : Option (Int32 × eH) :=
  z_r s0 (s0, h)
theorem pX6_has_b38 {w : eW} {d : Nat} (hd : 1 ≤ d + 1) {s0 : Int32} {h : eH} {q} (hf : fX6_has_b38 s0 h = some q) : wp w (d + 1) YX6_has 38 [none, none] [.int s0] h (e_is (e_rn c_I q)) := by
  unfold fX6_has_b38 at hf
  obtain ⟨b1, rfl⟩ := z_r_some hf
  exact w_iret dX6_has_38 rfl b1 rfl
def fX6_has_b37  (h : eH) : Option (Int32 × eH) :=
  fX6_has_b38 (0 : Int32) h
theorem pX6_has_b37 {w : eW} {d : Nat} (hd : 1 ≤ d + 1)  {h : eH} {q} (hf : fX6_has_b37  h = some q) : wp w (d + 1) YX6_has 37 [none, none] [] h (e_is (e_rn c_I q)) := by
  unfold fX6_has_b37 at hf
  refine w_iconst dX6_has_37 (v := 0) (by decide) ?_
  exact (pX6_has_b38 hd hf).to trivial
def fX6_has (this : Nat) (p0 : Int32) (h : eH) : Option (Int32 × eH) :=
  (g_I 5 h this 4).bind fun x1 =>
  if p0 < x1 then
    fX6_has_b37 h
  else
    (g_I 5 h this 5).bind fun x4 =>
    if x4 < p0 then
      fX6_has_b37 h
    else
      (g_I 5 h this 4).bind fun x7 =>
      (k_ok 5 h this).bind fun _ =>
      (fX6_word this (1 : Int32) (p0 - x7) h).bind fun q10 =>
      (fX6_a q10.1 q10.2).bind fun q11 =>
      if q11.1 ≤ 0 then
        fX6_has_b37 q11.2
      else
        fX6_has_b38 (1 : Int32) q11.2
theorem pX6_has {w : eW} {d : Nat} (hd : 1 ≤ d) {this : Nat} {p0 : Int32} {h : eH} {q} (hf : fX6_has this p0 h = some q) : wm w d YX6_has [.ref this, .int p0] h (e_is (e_rn c_I q)) := by
  obtain ⟨d, rfl⟩ : ∃ e, d = e + 1 := ⟨d - 1, by omega⟩
  show wp w (d + 1) YX6_has 0 [some (.ref this), some (.int p0)] [] h _
  unfold fX6_has at hf
  refine w_iload_n dX6_has_0 rfl rfl ?_
  refine w_aload_n dX6_has_1 rfl rfl ?_
  obtain ⟨x1, b2, hf⟩ := Option.bind_eq_some_iff.mp hf
  refine GX6_25 b2 dX6_has_2 rfl ?_
  refine w_icmp_lt 37 dX6_has_5 (by decide) (fun c3 => ?_) (fun c3 => ?_)
  · replace hf := (if_pos (show p0 < x1 from c3)).symm.trans hf
    exact (pX6_has_b37 hd hf).to trivial
  · replace hf := (if_neg (show ¬ (p0 < x1) from c3)).symm.trans hf
    refine w_iload_n dX6_has_8 rfl rfl ?_
    refine w_aload_n dX6_has_9 rfl rfl ?_
    obtain ⟨x4, b5, hf⟩ := Option.bind_eq_some_iff.mp hf
    refine GX6_29 b5 dX6_has_10 rfl ?_
    refine w_icmp_gt 37 dX6_has_13 (by decide) (fun c6 => ?_) (fun c6 => ?_)
    · replace hf := (if_pos (show x4 < p0 from c6)).symm.trans hf
      exact (pX6_has_b37 hd hf).to trivial
    · replace hf := (if_neg (show ¬ (x4 < p0) from c6)).symm.trans hf
      refine w_aload_n dX6_has_16 rfl rfl ?_
      refine w_iconst dX6_has_17 (v := 1) (by decide) ?_
      refine w_iload_n dX6_has_18 rfl rfl ?_
      refine w_aload_n dX6_has_19 rfl rfl ?_
      obtain ⟨x7, b8, hf⟩ := Option.bind_eq_some_iff.mp hf
      refine GX6_25 b8 dX6_has_20 rfl ?_
      refine w_isub dX6_has_23 ?_
      obtain ⟨_, b9, hf⟩ := Option.bind_eq_some_iff.mp hf
      refine x_cnI hf (e_stV (Yc := YX6_word) (ci := 5) (av := [.int (1 : Int32), .int (p0 - x7)]) (st := []) dX6_has_24 q2229 mX6_word rfl (k_ok_some b9).1 (k_ok_some b9).2) mX6_word.2.2.1 mX6_word.2.2.2.2.1 (Nat.le_of_ble_eq_true rfl) (Nat.le_of_ble_eq_true rfl) (fun q hq => pX6_word (by omega) hq) (fun q10 hf => ?_)
      refine x_cnI hf (e_stS (Yc := YX6_a) (av := [.int q10.1]) (st := []) dX6_has_27 q2238 mX6_a) mX6_a.2.2.1 mX6_a.2.2.2.2.1 (Nat.le_of_ble_eq_true rfl) (Nat.le_of_ble_eq_true rfl) (fun q hq => pX6_a (by omega) hq) (fun q11 hf => ?_)
      refine w_if_le 37 dX6_has_30 (by decide) (fun c12 => ?_) (fun c12 => ?_)
      · replace hf := (if_pos (show q11.1 ≤ 0 from c12)).symm.trans hf
        exact (pX6_has_b37 hd hf).to trivial
      · replace hf := (if_neg (show ¬ (q11.1 ≤ 0) from c12)).symm.trans hf
        refine w_iconst dX6_has_33 (v := 1) (by decide) ?_
        refine w_goto 38 dX6_has_34 (by decide) ?_
        exact (pX6_has_b38 hd hf).to trivial
abbrev cX6_tag : ByteArray := prog_7_method_12_code
def yX6_tag : MethodName := ⟨RX6, "tag", "(I)I"⟩
def YX6_tag : eY := (yX6_tag, cX6_tag, 2, (Option.some FieldType.int), [])
theorem mX6_tag : e_mv YX6_tag RX6 1 := ⟨q2257, qs21, q2258, by decide, by decide +kernel, (e_sig (by decide +kernel))⟩
theorem dX6_tag_0 : decode cX6_tag 0 = .ok (.aload_n 0, 1) := dc_42 (by decide +kernel)
theorem dX6_tag_1 : decode cX6_tag 1 = .ok (.iconst 1, 1) := dc_4 (by decide +kernel)
theorem dX6_tag_2 : decode cX6_tag 2 = .ok (.iload_n 1, 1) := dc_27 (by decide +kernel)
theorem dX6_tag_3 : decode cX6_tag 3 = .ok (.aload_n 0, 1) := dc_42 (by decide +kernel)
theorem dX6_tag_4 : decode cX6_tag 4 = .ok (.getfield 25, 3) := dc_180 (a := 0) (b := 25) (n := 25) (by decide +kernel)
theorem dX6_tag_7 : decode cX6_tag 7 = .ok (.isub, 1) := dc_100 (by decide +kernel)
theorem dX6_tag_8 : decode cX6_tag 8 = .ok (.invokevirtual 32, 3) := dc_182 (a := 0) (b := 32) (n := 32) (by decide +kernel)
theorem dX6_tag_11 : decode cX6_tag 11 = .ok (.invokestatic 56, 3) := dc_184 (a := 0) (b := 56) (n := 56) (by decide +kernel)
theorem dX6_tag_14 : decode cX6_tag 14 = .ok (.iconst 3, 1) := dc_6 (by decide +kernel)
theorem dX6_tag_15 : decode cX6_tag 15 = .ok (.iand, 1) := dc_126 (by decide +kernel)
theorem dX6_tag_16 : decode cX6_tag 16 = .ok (.ireturn, 1) := dc_172 (by decide +kernel)
def fX6_tag (this : Nat) (p0 : Int32) (h : eH) : Option (Int32 × eH) :=
  (g_I 5 h this 4).bind fun x1 =>
  (k_ok 5 h this).bind fun _ =>
  (fX6_word this (1 : Int32) (p0 - x1) h).bind fun q4 =>
  (fX6_c q4.1 q4.2).bind fun q5 =>
  some ((q5.1 &&& (3 : Int32)), q5.2)
theorem pX6_tag {w : eW} {d : Nat} (hd : 1 ≤ d) {this : Nat} {p0 : Int32} {h : eH} {q} (hf : fX6_tag this p0 h = some q) : wm w d YX6_tag [.ref this, .int p0] h (e_is (e_rn c_I q)) := by
  obtain ⟨d, rfl⟩ : ∃ e, d = e + 1 := ⟨d - 1, by omega⟩
  show wp w (d + 1) YX6_tag 0 [some (.ref this), some (.int p0)] [] h _
  unfold fX6_tag at hf
  refine w_aload_n dX6_tag_0 rfl rfl ?_
  refine w_iconst dX6_tag_1 (v := 1) (by decide) ?_
  refine w_iload_n dX6_tag_2 rfl rfl ?_
  refine w_aload_n dX6_tag_3 rfl rfl ?_
  obtain ⟨x1, b2, hf⟩ := Option.bind_eq_some_iff.mp hf
  refine GX6_25 b2 dX6_tag_4 rfl ?_
  refine w_isub dX6_tag_7 ?_
  obtain ⟨_, b3, hf⟩ := Option.bind_eq_some_iff.mp hf
  refine x_cnI hf (e_stV (Yc := YX6_word) (ci := 5) (av := [.int (1 : Int32), .int (p0 - x1)]) (st := []) dX6_tag_8 q2229 mX6_word rfl (k_ok_some b3).1 (k_ok_some b3).2) mX6_word.2.2.1 mX6_word.2.2.2.2.1 (Nat.le_of_ble_eq_true rfl) (Nat.le_of_ble_eq_true rfl) (fun q hq => pX6_word (by omega) hq) (fun q4 hf => ?_)
  refine x_cnI hf (e_stS (Yc := YX6_c) (av := [.int q4.1]) (st := []) dX6_tag_11 q2244 mX6_c) mX6_c.2.2.1 mX6_c.2.2.2.2.1 (Nat.le_of_ble_eq_true rfl) (Nat.le_of_ble_eq_true rfl) (fun q hq => pX6_c (by omega) hq) (fun q5 hf => ?_)
  refine w_iconst dX6_tag_14 (v := 3) (by decide) ?_
  refine w_iand dX6_tag_15 ?_
  cases hf
  exact w_iret dX6_tag_16 rfl rfl rfl
abbrev cX6_d : ByteArray := prog_7_method_6_code
def yX6_d : MethodName := ⟨RX6, "d", "(I)I"⟩
def YX6_d : eY := (yX6_d, cX6_d, 1, (Option.some FieldType.int), [])
theorem mX6_d : e_ms YX6_d 1 := ⟨q2264, q431, q2265, by decide, by decide +kernel, (e_sig (by decide +kernel))⟩
theorem dX6_d_0 : decode cX6_d 0 = .ok (.iload_n 0, 1) := dc_26 (by decide +kernel)
theorem dX6_d_1 : decode cX6_d 1 = .ok (.sipush 255, 3) := dc_17 (a := 0) (b := 255) (v := 255) (by decide +kernel)
theorem dX6_d_4 : decode cX6_d 4 = .ok (.iand, 1) := dc_126 (by decide +kernel)
theorem dX6_d_5 : decode cX6_d 5 = .ok (.ireturn, 1) := dc_172 (by decide +kernel)
def fX6_d (p0 : Int32) (h : eH) : Option (Int32 × eH) :=
  some ((p0 &&& (255 : Int32)), h)
theorem pX6_d {w : eW} {d : Nat} (hd : 0 ≤ d) {p0 : Int32} {h : eH} {q} (hf : fX6_d p0 h = some q) : wm w d YX6_d [.int p0] h (e_is (e_rn c_I q)) := by
  show wp w d YX6_d 0 [some (.int p0)] [] h _
  unfold fX6_d at hf
  refine w_iload_n dX6_d_0 rfl rfl ?_
  refine w_sipush dX6_d_1 (v := 255) (by decide) ?_
  refine w_iand dX6_d_4 ?_
  cases hf
  exact w_iret dX6_d_5 rfl rfl rfl
abbrev cX6_rest : ByteArray := prog_7_method_13_code
def yX6_rest : MethodName := ⟨RX6, "rest", "(I)I"⟩
def YX6_rest : eY := (yX6_rest, cX6_rest, 2, (Option.some FieldType.int), [])
theorem mX6_rest : e_mv YX6_rest RX6 1 := ⟨q2261, qs22, q2262, by decide, by decide +kernel, (e_sig (by decide +kernel))⟩
theorem dX6_rest_0 : decode cX6_rest 0 = .ok (.aload_n 0, 1) := dc_42 (by decide +kernel)
theorem dX6_rest_1 : decode cX6_rest 1 = .ok (.iconst 1, 1) := dc_4 (by decide +kernel)
theorem dX6_rest_2 : decode cX6_rest 2 = .ok (.iload_n 1, 1) := dc_27 (by decide +kernel)
theorem dX6_rest_3 : decode cX6_rest 3 = .ok (.aload_n 0, 1) := dc_42 (by decide +kernel)
theorem dX6_rest_4 : decode cX6_rest 4 = .ok (.getfield 25, 3) := dc_180 (a := 0) (b := 25) (n := 25) (by decide +kernel)
theorem dX6_rest_7 : decode cX6_rest 7 = .ok (.isub, 1) := dc_100 (by decide +kernel)
theorem dX6_rest_8 : decode cX6_rest 8 = .ok (.invokevirtual 32, 3) := dc_182 (a := 0) (b := 32) (n := 32) (by decide +kernel)
theorem dX6_rest_11 : decode cX6_rest 11 = .ok (.invokestatic 59, 3) := dc_184 (a := 0) (b := 59) (n := 59) (by decide +kernel)
theorem dX6_rest_14 : decode cX6_rest 14 = .ok (.ireturn, 1) := dc_172 (by decide +kernel)
def fX6_rest (this : Nat) (p0 : Int32) (h : eH) : Option (Int32 × eH) :=
  (g_I 5 h this 4).bind fun x1 =>
  (k_ok 5 h this).bind fun _ =>
  (fX6_word this (1 : Int32) (p0 - x1) h).bind fun q4 =>
  (fX6_d q4.1 q4.2).bind fun q5 =>
  some (q5.1, q5.2)
theorem pX6_rest {w : eW} {d : Nat} (hd : 1 ≤ d) {this : Nat} {p0 : Int32} {h : eH} {q} (hf : fX6_rest this p0 h = some q) : wm w d YX6_rest [.ref this, .int p0] h (e_is (e_rn c_I q)) := by
  obtain ⟨d, rfl⟩ : ∃ e, d = e + 1 := ⟨d - 1, by omega⟩
  show wp w (d + 1) YX6_rest 0 [some (.ref this), some (.int p0)] [] h _
  unfold fX6_rest at hf
  refine w_aload_n dX6_rest_0 rfl rfl ?_
  refine w_iconst dX6_rest_1 (v := 1) (by decide) ?_
  refine w_iload_n dX6_rest_2 rfl rfl ?_
  refine w_aload_n dX6_rest_3 rfl rfl ?_
  obtain ⟨x1, b2, hf⟩ := Option.bind_eq_some_iff.mp hf
  refine GX6_25 b2 dX6_rest_4 rfl ?_
  refine w_isub dX6_rest_7 ?_
  obtain ⟨_, b3, hf⟩ := Option.bind_eq_some_iff.mp hf
  refine x_cnI hf (e_stV (Yc := YX6_word) (ci := 5) (av := [.int (1 : Int32), .int (p0 - x1)]) (st := []) dX6_rest_8 q2229 mX6_word rfl (k_ok_some b3).1 (k_ok_some b3).2) mX6_word.2.2.1 mX6_word.2.2.2.2.1 (Nat.le_of_ble_eq_true rfl) (Nat.le_of_ble_eq_true rfl) (fun q hq => pX6_word (by omega) hq) (fun q4 hf => ?_)
  refine x_cnI hf (e_stS (Yc := YX6_d) (av := [.int q4.1]) (st := []) dX6_rest_11 q2263 mX6_d) mX6_d.2.2.1 mX6_d.2.2.2.2.1 (Nat.le_of_ble_eq_true rfl) (Nat.le_of_ble_eq_true rfl) (fun q hq => pX6_d (by omega) hq) (fun q5 hf => ?_)
  cases hf
  exact w_iret dX6_rest_14 rfl rfl rfl
abbrev cX6_isChainRight : ByteArray := prog_7_method_14_code
def yX6_isChainRight : MethodName := ⟨RX6, "isChainRight", "(I)Z"⟩
def YX6_isChainRight : eY := (yX6_isChainRight, cX6_isChainRight, 4, (Option.some FieldType.boolean), [])
theorem mX6_isChainRight : e_mv YX6_isChainRight RX6 1 := ⟨q2268, qs23, q2269, by decide, by decide +kernel, (e_sig (by decide +kernel))⟩
theorem dX6_isChainRight_0 : decode cX6_isChainRight 0 = .ok (.aload_n 0, 1) := dc_42 (by decide +kernel)
theorem dX6_isChainRight_1 : decode cX6_isChainRight 1 = .ok (.iload_n 1, 1) := dc_27 (by decide +kernel)
theorem dX6_isChainRight_2 : decode cX6_isChainRight 2 = .ok (.invokevirtual 62, 3) := dc_182 (a := 0) (b := 62) (n := 62) (by decide +kernel)
theorem dX6_isChainRight_5 : decode cX6_isChainRight 5 = .ok (.istore_n 2, 1) := dc_61 (by decide +kernel)
theorem dX6_isChainRight_6 : decode cX6_isChainRight 6 = .ok (.iconst 0, 1) := dc_3 (by decide +kernel)
theorem dX6_isChainRight_7 : decode cX6_isChainRight 7 = .ok (.istore_n 3, 1) := dc_62 (by decide +kernel)
theorem dX6_isChainRight_8 : decode cX6_isChainRight 8 = .ok (.aload_n 0, 1) := dc_42 (by decide +kernel)
theorem dX6_isChainRight_9 : decode cX6_isChainRight 9 = .ok (.iload_n 2, 1) := dc_28 (by decide +kernel)
theorem dX6_isChainRight_10 : decode cX6_isChainRight 10 = .ok (.invokevirtual 65, 3) := dc_182 (a := 0) (b := 65) (n := 65) (by decide +kernel)
theorem dX6_isChainRight_13 : decode cX6_isChainRight 13 = .ok (.ifCond .eq 36, 3) := dc_153 (a := 0) (b := 36) (v := 36) (by decide +kernel)
theorem dX6_isChainRight_16 : decode cX6_isChainRight 16 = .ok (.iload_n 2, 1) := dc_28 (by decide +kernel)
theorem dX6_isChainRight_17 : decode cX6_isChainRight 17 = .ok (.iload_n 1, 1) := dc_27 (by decide +kernel)
theorem dX6_isChainRight_18 : decode cX6_isChainRight 18 = .ok (.if_icmp .eq 31, 3) := dc_159 (a := 0) (b := 31) (v := 31) (by decide +kernel)
theorem dX6_isChainRight_21 : decode cX6_isChainRight 21 = .ok (.aload_n 0, 1) := dc_42 (by decide +kernel)
theorem dX6_isChainRight_22 : decode cX6_isChainRight 22 = .ok (.iload_n 2, 1) := dc_28 (by decide +kernel)
theorem dX6_isChainRight_23 : decode cX6_isChainRight 23 = .ok (.invokevirtual 69, 3) := dc_182 (a := 0) (b := 69) (n := 69) (by decide +kernel)
theorem dX6_isChainRight_26 : decode cX6_isChainRight 26 = .ok (.iconst 2, 1) := dc_5 (by decide +kernel)
theorem dX6_isChainRight_27 : decode cX6_isChainRight 27 = .ok (.if_icmp .ne 22, 3) := dc_160 (a := 0) (b := 22) (v := 22) (by decide +kernel)
theorem dX6_isChainRight_30 : decode cX6_isChainRight 30 = .ok (.iload_n 3, 1) := dc_29 (by decide +kernel)
theorem dX6_isChainRight_31 : decode cX6_isChainRight 31 = .ok (.sipush 256, 3) := dc_17 (a := 1) (b := 0) (v := 256) (by decide +kernel)
theorem dX6_isChainRight_34 : decode cX6_isChainRight 34 = .ok (.if_icmp .ge 15, 3) := dc_162 (a := 0) (b := 15) (v := 15) (by decide +kernel)
theorem dX6_isChainRight_37 : decode cX6_isChainRight 37 = .ok (.aload_n 0, 1) := dc_42 (by decide +kernel)
theorem dX6_isChainRight_38 : decode cX6_isChainRight 38 = .ok (.iload_n 2, 1) := dc_28 (by decide +kernel)
theorem dX6_isChainRight_39 : decode cX6_isChainRight 39 = .ok (.invokevirtual 62, 3) := dc_182 (a := 0) (b := 62) (n := 62) (by decide +kernel)
theorem dX6_isChainRight_42 : decode cX6_isChainRight 42 = .ok (.istore_n 2, 1) := dc_61 (by decide +kernel)
theorem dX6_isChainRight_43 : decode cX6_isChainRight 43 = .ok (.iinc 3 1, 3) := dc_132 (a := 3) (b := 1) (v := 1) (by decide +kernel)
theorem dX6_isChainRight_46 : decode cX6_isChainRight 46 = .ok (.goto (-38), 3) := dc_167 (a := 255) (b := 218) (v := -38) (by decide +kernel)
theorem dX6_isChainRight_49 : decode cX6_isChainRight 49 = .ok (.aload_n 0, 1) := dc_42 (by decide +kernel)
theorem dX6_isChainRight_50 : decode cX6_isChainRight 50 = .ok (.aload_n 0, 1) := dc_42 (by decide +kernel)
theorem dX6_isChainRight_51 : decode cX6_isChainRight 51 = .ok (.iload_n 1, 1) := dc_27 (by decide +kernel)
theorem dX6_isChainRight_52 : decode cX6_isChainRight 52 = .ok (.invokevirtual 62, 3) := dc_182 (a := 0) (b := 62) (n := 62) (by decide +kernel)
theorem dX6_isChainRight_55 : decode cX6_isChainRight 55 = .ok (.invokevirtual 65, 3) := dc_182 (a := 0) (b := 65) (n := 65) (by decide +kernel)
theorem dX6_isChainRight_58 : decode cX6_isChainRight 58 = .ok (.ifCond .eq 12, 3) := dc_153 (a := 0) (b := 12) (v := 12) (by decide +kernel)
theorem dX6_isChainRight_61 : decode cX6_isChainRight 61 = .ok (.iload_n 2, 1) := dc_28 (by decide +kernel)
theorem dX6_isChainRight_62 : decode cX6_isChainRight 62 = .ok (.iload_n 1, 1) := dc_27 (by decide +kernel)
theorem dX6_isChainRight_63 : decode cX6_isChainRight 63 = .ok (.if_icmp .eq 7, 3) := dc_159 (a := 0) (b := 7) (v := 7) (by decide +kernel)
theorem dX6_isChainRight_66 : decode cX6_isChainRight 66 = .ok (.iconst 1, 1) := dc_4 (by decide +kernel)
theorem dX6_isChainRight_67 : decode cX6_isChainRight 67 = .ok (.goto 4, 3) := dc_167 (a := 0) (b := 4) (v := 4) (by decide +kernel)
theorem dX6_isChainRight_70 : decode cX6_isChainRight 70 = .ok (.iconst 0, 1) := dc_3 (by decide +kernel)
theorem dX6_isChainRight_71 : decode cX6_isChainRight 71 = .ok (.ireturn, 1) := dc_172 (by decide +kernel)
def fX6_isChainRight_b71 (N : Nat) (s0 : Int32) (h : eH) : Option (Int32 × eH) :=
  z_r s0 (s0, h)
theorem pX6_isChainRight_b71 {w : eW} {d : Nat} (hd : 2 ≤ d + 1) {N : Nat} {s0 : Int32} {h : eH} {q} (hf : fX6_isChainRight_b71 N s0 h = some q) : wp w (d + 1) YX6_isChainRight 71 [none, none, none, none] [.int s0] h (e_is (e_rn c_I q)) := by
  unfold fX6_isChainRight_b71 at hf
  obtain ⟨b1, rfl⟩ := z_r_some hf
  exact w_iret dX6_isChainRight_71 rfl b1 rfl
def fX6_isChainRight_b70 (N : Nat)  (h : eH) : Option (Int32 × eH) :=
  fX6_isChainRight_b71 N (0 : Int32) h
theorem pX6_isChainRight_b70 {w : eW} {d : Nat} (hd : 2 ≤ d + 1) {N : Nat}  {h : eH} {q} (hf : fX6_isChainRight_b70 N h = some q) : wp w (d + 1) YX6_isChainRight 70 [none, none, none, none] [] h (e_is (e_rn c_I q)) := by
  unfold fX6_isChainRight_b70 at hf
  refine w_iconst dX6_isChainRight_70 (v := 0) (by decide) ?_
  exact (pX6_isChainRight_b71 hd hf).to trivial
def fX6_isChainRight_b49 (N : Nat) (l0 : Nat) (l1 : Int32) (l2 : Int32) (h : eH) : Option (Int32 × eH) :=
  (k_ok 5 h l0).bind fun _ =>
  (fX6_rest l0 l1 h).bind fun q2 =>
  (k_ok 5 q2.2 l0).bind fun _ =>
  (fX6_has l0 q2.1 q2.2).bind fun q4 =>
  if q4.1 = 0 then
    fX6_isChainRight_b70 N q4.2
  else
    if l2 = l1 then
      fX6_isChainRight_b70 N q4.2
    else
      fX6_isChainRight_b71 N (1 : Int32) q4.2
theorem pX6_isChainRight_b49 {w : eW} {d : Nat} (hd : 2 ≤ d + 1) {N : Nat} {l0 : Nat} {l1 : Int32} {l2 : Int32} {h : eH} {q} (hf : fX6_isChainRight_b49 N l0 l1 l2 h = some q) : wp w (d + 1) YX6_isChainRight 49 [some (.ref l0), some (.int l1), some (.int l2), none] [] h (e_is (e_rn c_I q)) := by
  unfold fX6_isChainRight_b49 at hf
  refine w_aload_n dX6_isChainRight_49 rfl rfl ?_
  refine w_aload_n dX6_isChainRight_50 rfl rfl ?_
  refine w_iload_n dX6_isChainRight_51 rfl rfl ?_
  obtain ⟨_, b1, hf⟩ := Option.bind_eq_some_iff.mp hf
  refine x_cnI hf (e_stV (Yc := YX6_rest) (ci := 5) (av := [.int l1]) (st := [.ref l0]) dX6_isChainRight_52 q2259 mX6_rest rfl (k_ok_some b1).1 (k_ok_some b1).2) mX6_rest.2.2.1 mX6_rest.2.2.2.2.1 (Nat.le_of_ble_eq_true rfl) (Nat.le_of_ble_eq_true rfl) (fun q hq => pX6_rest (by omega) hq) (fun q2 hf => ?_)
  obtain ⟨_, b3, hf⟩ := Option.bind_eq_some_iff.mp hf
  refine x_cnI hf (e_stV (Yc := YX6_has) (ci := 5) (av := [.int q2.1]) (st := []) dX6_isChainRight_55 q2251 mX6_has rfl (k_ok_some b3).1 (k_ok_some b3).2) mX6_has.2.2.1 mX6_has.2.2.2.2.1 (Nat.le_of_ble_eq_true rfl) (Nat.le_of_ble_eq_true rfl) (fun q hq => pX6_has (by omega) hq) (fun q4 hf => ?_)
  refine w_if_eq 70 dX6_isChainRight_58 (by decide) (fun c5 => ?_) (fun c5 => ?_)
  · replace hf := (if_pos (show q4.1 = 0 from c5)).symm.trans hf
    exact (pX6_isChainRight_b70 hd hf).to trivial
  · replace hf := (if_neg (show ¬ (q4.1 = 0) from c5)).symm.trans hf
    refine w_iload_n dX6_isChainRight_61 rfl rfl ?_
    refine w_iload_n dX6_isChainRight_62 rfl rfl ?_
    refine w_icmp_eq 70 dX6_isChainRight_63 (by decide) (fun c6 => ?_) (fun c6 => ?_)
    · replace hf := (if_pos (show l2 = l1 from c6)).symm.trans hf
      exact (pX6_isChainRight_b70 hd hf).to trivial
    · replace hf := (if_neg (show ¬ (l2 = l1) from c6)).symm.trans hf
      refine w_iconst dX6_isChainRight_66 (v := 1) (by decide) ?_
      refine w_goto 71 dX6_isChainRight_67 (by decide) ?_
      exact (pX6_isChainRight_b71 hd hf).to trivial
def fX6_isChainRight_b8 (N : Nat) : Nat → Nat → Int32 → Int32 → Int32 → eH → Option (Int32 × eH)
  | 0, _, _, _, _, _ => none
  | n + 1, l0, l1, l2, l3, h =>
    (k_ok 5 h l0).bind fun _ =>
    (fX6_has l0 l2 h).bind fun q2 =>
    if q2.1 = 0 then
      fX6_isChainRight_b49 N l0 l1 l2 q2.2
    else
      if l2 = l1 then
        fX6_isChainRight_b49 N l0 l1 l2 q2.2
      else
        (k_ok 5 q2.2 l0).bind fun _ =>
        (fX6_tag l0 l2 q2.2).bind fun q6 =>
        if ¬ q6.1 = (2 : Int32) then
          fX6_isChainRight_b49 N l0 l1 l2 q6.2
        else
          if (256 : Int32) ≤ l3 then
            fX6_isChainRight_b49 N l0 l1 l2 q6.2
          else
            (k_ok 5 q6.2 l0).bind fun _ =>
            (fX6_rest l0 l2 q6.2).bind fun q10 =>
            fX6_isChainRight_b8 N n l0 l1 q10.1 (l3 + (1 : Int32)) q10.2
theorem pX6_isChainRight_b8 {w : eW} {d : Nat} (hd : 2 ≤ d + 1) {N : Nat} : ∀ (n : Nat) l0 l1 l2 l3 h q, fX6_isChainRight_b8 N n l0 l1 l2 l3 h = some q → wp w (d + 1) YX6_isChainRight 8 [some (.ref l0), some (.int l1), some (.int l2), some (.int l3)] [] h (e_is (e_rn c_I q)) := by
  intro n
  induction n with
  | zero => intro l0 l1 l2 l3 h q hf; simp [fX6_isChainRight_b8] at hf
  | succ n ih =>
    intro l0 l1 l2 l3 h q hf
    rw [fX6_isChainRight_b8] at hf
    refine w_aload_n dX6_isChainRight_8 rfl rfl ?_
    refine w_iload_n dX6_isChainRight_9 rfl rfl ?_
    obtain ⟨_, b1, hf⟩ := Option.bind_eq_some_iff.mp hf
    refine x_cnI hf (e_stV (Yc := YX6_has) (ci := 5) (av := [.int l2]) (st := []) dX6_isChainRight_10 q2251 mX6_has rfl (k_ok_some b1).1 (k_ok_some b1).2) mX6_has.2.2.1 mX6_has.2.2.2.2.1 (Nat.le_of_ble_eq_true rfl) (Nat.le_of_ble_eq_true rfl) (fun q hq => pX6_has (by omega) hq) (fun q2 hf => ?_)
    refine w_if_eq 49 dX6_isChainRight_13 (by decide) (fun c3 => ?_) (fun c3 => ?_)
    · replace hf := (if_pos (show q2.1 = 0 from c3)).symm.trans hf
      exact (pX6_isChainRight_b49 hd hf).to ⟨rfl, rfl, rfl, trivial⟩
    · replace hf := (if_neg (show ¬ (q2.1 = 0) from c3)).symm.trans hf
      refine w_iload_n dX6_isChainRight_16 rfl rfl ?_
      refine w_iload_n dX6_isChainRight_17 rfl rfl ?_
      refine w_icmp_eq 49 dX6_isChainRight_18 (by decide) (fun c4 => ?_) (fun c4 => ?_)
      · replace hf := (if_pos (show l2 = l1 from c4)).symm.trans hf
        exact (pX6_isChainRight_b49 hd hf).to ⟨rfl, rfl, rfl, trivial⟩
      · replace hf := (if_neg (show ¬ (l2 = l1) from c4)).symm.trans hf
        refine w_aload_n dX6_isChainRight_21 rfl rfl ?_
        refine w_iload_n dX6_isChainRight_22 rfl rfl ?_
        obtain ⟨_, b5, hf⟩ := Option.bind_eq_some_iff.mp hf
        refine x_cnI hf (e_stV (Yc := YX6_tag) (ci := 5) (av := [.int l2]) (st := []) dX6_isChainRight_23 q2255 mX6_tag rfl (k_ok_some b5).1 (k_ok_some b5).2) mX6_tag.2.2.1 mX6_tag.2.2.2.2.1 (Nat.le_of_ble_eq_true rfl) (Nat.le_of_ble_eq_true rfl) (fun q hq => pX6_tag (by omega) hq) (fun q6 hf => ?_)
        refine w_iconst dX6_isChainRight_26 (v := 2) (by decide) ?_
        refine w_icmp_ne 49 dX6_isChainRight_27 (by decide) (fun c7 => ?_) (fun c7 => ?_)
        · replace hf := (if_pos (show ¬ q6.1 = (2 : Int32) from c7)).symm.trans hf
          exact (pX6_isChainRight_b49 hd hf).to ⟨rfl, rfl, rfl, trivial⟩
        · replace hf := (if_neg (show ¬ (¬ q6.1 = (2 : Int32)) from (fun z => z c7))).symm.trans hf
          refine w_iload_n dX6_isChainRight_30 rfl rfl ?_
          refine w_sipush dX6_isChainRight_31 (v := 256) (by decide) ?_
          refine w_icmp_ge 49 dX6_isChainRight_34 (by decide) (fun c8 => ?_) (fun c8 => ?_)
          · replace hf := (if_pos (show (256 : Int32) ≤ l3 from c8)).symm.trans hf
            exact (pX6_isChainRight_b49 hd hf).to ⟨rfl, rfl, rfl, trivial⟩
          · replace hf := (if_neg (show ¬ ((256 : Int32) ≤ l3) from c8)).symm.trans hf
            refine w_aload_n dX6_isChainRight_37 rfl rfl ?_
            refine w_iload_n dX6_isChainRight_38 rfl rfl ?_
            obtain ⟨_, b9, hf⟩ := Option.bind_eq_some_iff.mp hf
            refine x_cnI hf (e_stV (Yc := YX6_rest) (ci := 5) (av := [.int l2]) (st := []) dX6_isChainRight_39 q2259 mX6_rest rfl (k_ok_some b9).1 (k_ok_some b9).2) mX6_rest.2.2.1 mX6_rest.2.2.2.2.1 (Nat.le_of_ble_eq_true rfl) (Nat.le_of_ble_eq_true rfl) (fun q hq => pX6_rest (by omega) hq) (fun q10 hf => ?_)
            refine w_istore_n dX6_isChainRight_42 rfl (by decide) (ls' := [some (.ref l0), some (.int l1), some (.int q10.1), some (.int l3)]) rfl ?_
            refine w_iinc dX6_isChainRight_43 (v := (l3 + (1 : Int32))) rfl rfl (by decide) (ls' := [some (.ref l0), some (.int l1), some (.int q10.1), some (.int (l3 + (1 : Int32)))]) rfl ?_
            refine w_goto 8 dX6_isChainRight_46 (by decide) ?_
            exact (ih _ _ _ _ _ _ hf).to ⟨rfl, rfl, rfl, rfl, trivial⟩
def fX6_isChainRight (N : Nat) (this : Nat) (p0 : Int32) (h : eH) : Option (Int32 × eH) :=
  (k_ok 5 h this).bind fun _ =>
  (fX6_rest this p0 h).bind fun q2 =>
  fX6_isChainRight_b8 N N this p0 q2.1 (0 : Int32) q2.2
theorem pX6_isChainRight {w : eW} {d : Nat} (hd : 2 ≤ d) {N : Nat} {this : Nat} {p0 : Int32} {h : eH} {q} (hf : fX6_isChainRight N this p0 h = some q) : wm w d YX6_isChainRight [.ref this, .int p0] h (e_is (e_rn c_I q)) := by
  obtain ⟨d, rfl⟩ : ∃ e, d = e + 1 := ⟨d - 1, by omega⟩
  show wp w (d + 1) YX6_isChainRight 0 [some (.ref this), some (.int p0), none, none] [] h _
  unfold fX6_isChainRight at hf
  refine w_aload_n dX6_isChainRight_0 rfl rfl ?_
  refine w_iload_n dX6_isChainRight_1 rfl rfl ?_
  obtain ⟨_, b1, hf⟩ := Option.bind_eq_some_iff.mp hf
  refine x_cnI hf (e_stV (Yc := YX6_rest) (ci := 5) (av := [.int p0]) (st := []) dX6_isChainRight_2 q2259 mX6_rest rfl (k_ok_some b1).1 (k_ok_some b1).2) mX6_rest.2.2.1 mX6_rest.2.2.2.2.1 (Nat.le_of_ble_eq_true rfl) (Nat.le_of_ble_eq_true rfl) (fun q hq => pX6_rest (by omega) hq) (fun q2 hf => ?_)
  refine w_istore_n dX6_isChainRight_5 rfl (by decide) (ls' := [some (.ref this), some (.int p0), some (.int q2.1), none]) rfl ?_
  refine w_iconst dX6_isChainRight_6 (v := 0) (by decide) ?_
  refine w_istore_n dX6_isChainRight_7 rfl (by decide) (ls' := [some (.ref this), some (.int p0), some (.int q2.1), some (.int (0 : Int32))]) rfl ?_
  exact (pX6_isChainRight_b8 hd N _ _ _ _ _ _ hf).to ⟨rfl, rfl, rfl, rfl, trivial⟩
abbrev cX6_areTagsRight : ByteArray := prog_7_method_15_code
def yX6_areTagsRight : MethodName := ⟨RX6, "areTagsRight", "()Z"⟩
def YX6_areTagsRight : eY := (yX6_areTagsRight, cX6_areTagsRight, 4, (Option.some FieldType.boolean), [])
theorem mX6_areTagsRight : e_mv YX6_areTagsRight RX6 0 := ⟨q2249, qs20, q2250, by decide, by decide +kernel, (e_sig (by decide +kernel))⟩
theorem dX6_areTagsRight_0 : decode cX6_areTagsRight 0 = .ok (.iconst 1, 1) := dc_4 (by decide +kernel)
theorem dX6_areTagsRight_1 : decode cX6_areTagsRight 1 = .ok (.istore_n 1, 1) := dc_60 (by decide +kernel)
theorem dX6_areTagsRight_2 : decode cX6_areTagsRight 2 = .ok (.aload_n 0, 1) := dc_42 (by decide +kernel)
theorem dX6_areTagsRight_3 : decode cX6_areTagsRight 3 = .ok (.getfield 25, 3) := dc_180 (a := 0) (b := 25) (n := 25) (by decide +kernel)
theorem dX6_areTagsRight_6 : decode cX6_areTagsRight 6 = .ok (.istore_n 2, 1) := dc_61 (by decide +kernel)
theorem dX6_areTagsRight_7 : decode cX6_areTagsRight 7 = .ok (.iload_n 2, 1) := dc_28 (by decide +kernel)
theorem dX6_areTagsRight_8 : decode cX6_areTagsRight 8 = .ok (.aload_n 0, 1) := dc_42 (by decide +kernel)
theorem dX6_areTagsRight_9 : decode cX6_areTagsRight 9 = .ok (.getfield 29, 3) := dc_180 (a := 0) (b := 29) (n := 29) (by decide +kernel)
theorem dX6_areTagsRight_12 : decode cX6_areTagsRight 12 = .ok (.if_icmp .gt 91, 3) := dc_163 (a := 0) (b := 91) (v := 91) (by decide +kernel)
theorem dX6_areTagsRight_15 : decode cX6_areTagsRight 15 = .ok (.aload_n 0, 1) := dc_42 (by decide +kernel)
theorem dX6_areTagsRight_16 : decode cX6_areTagsRight 16 = .ok (.iload_n 2, 1) := dc_28 (by decide +kernel)
theorem dX6_areTagsRight_17 : decode cX6_areTagsRight 17 = .ok (.invokevirtual 65, 3) := dc_182 (a := 0) (b := 65) (n := 65) (by decide +kernel)
theorem dX6_areTagsRight_20 : decode cX6_areTagsRight 20 = .ok (.ifCond .ne 6, 3) := dc_154 (a := 0) (b := 6) (v := 6) (by decide +kernel)
theorem dX6_areTagsRight_23 : decode cX6_areTagsRight 23 = .ok (.goto 74, 3) := dc_167 (a := 0) (b := 74) (v := 74) (by decide +kernel)
theorem dX6_areTagsRight_26 : decode cX6_areTagsRight 26 = .ok (.aload_n 0, 1) := dc_42 (by decide +kernel)
theorem dX6_areTagsRight_27 : decode cX6_areTagsRight 27 = .ok (.iload_n 2, 1) := dc_28 (by decide +kernel)
theorem dX6_areTagsRight_28 : decode cX6_areTagsRight 28 = .ok (.invokevirtual 69, 3) := dc_182 (a := 0) (b := 69) (n := 69) (by decide +kernel)
theorem dX6_areTagsRight_31 : decode cX6_areTagsRight 31 = .ok (.istore_n 3, 1) := dc_62 (by decide +kernel)
theorem dX6_areTagsRight_32 : decode cX6_areTagsRight 32 = .ok (.iload_n 1, 1) := dc_27 (by decide +kernel)
theorem dX6_areTagsRight_33 : decode cX6_areTagsRight 33 = .ok (.iload_n 3, 1) := dc_29 (by decide +kernel)
theorem dX6_areTagsRight_34 : decode cX6_areTagsRight 34 = .ok (.ifCond .eq 56, 3) := dc_153 (a := 0) (b := 56) (v := 56) (by decide +kernel)
theorem dX6_areTagsRight_37 : decode cX6_areTagsRight 37 = .ok (.iload_n 3, 1) := dc_29 (by decide +kernel)
theorem dX6_areTagsRight_38 : decode cX6_areTagsRight 38 = .ok (.iconst 1, 1) := dc_4 (by decide +kernel)
theorem dX6_areTagsRight_39 : decode cX6_areTagsRight 39 = .ok (.if_icmp .ne 18, 3) := dc_160 (a := 0) (b := 18) (v := 18) (by decide +kernel)
theorem dX6_areTagsRight_42 : decode cX6_areTagsRight 42 = .ok (.aload_n 0, 1) := dc_42 (by decide +kernel)
theorem dX6_areTagsRight_43 : decode cX6_areTagsRight 43 = .ok (.iload_n 2, 1) := dc_28 (by decide +kernel)
theorem dX6_areTagsRight_44 : decode cX6_areTagsRight 44 = .ok (.invokevirtual 62, 3) := dc_182 (a := 0) (b := 62) (n := 62) (by decide +kernel)
theorem dX6_areTagsRight_47 : decode cX6_areTagsRight 47 = .ok (.aload_n 0, 1) := dc_42 (by decide +kernel)
theorem dX6_areTagsRight_48 : decode cX6_areTagsRight 48 = .ok (.getfield 21, 3) := dc_180 (a := 0) (b := 21) (n := 21) (by decide +kernel)
theorem dX6_areTagsRight_51 : decode cX6_areTagsRight 51 = .ok (.bipush 6, 2) := dc_16 (a := 6) (v := 6) (by decide +kernel)
theorem dX6_areTagsRight_53 : decode cX6_areTagsRight 53 = .ok (.iaload, 1) := dc_46 (by decide +kernel)
theorem dX6_areTagsRight_54 : decode cX6_areTagsRight 54 = .ok (.if_icmp .lt 36, 3) := dc_161 (a := 0) (b := 36) (v := 36) (by decide +kernel)
theorem dX6_areTagsRight_57 : decode cX6_areTagsRight 57 = .ok (.iload_n 3, 1) := dc_29 (by decide +kernel)
theorem dX6_areTagsRight_58 : decode cX6_areTagsRight 58 = .ok (.iconst 2, 1) := dc_5 (by decide +kernel)
theorem dX6_areTagsRight_59 : decode cX6_areTagsRight 59 = .ok (.if_icmp .ne 11, 3) := dc_160 (a := 0) (b := 11) (v := 11) (by decide +kernel)
theorem dX6_areTagsRight_62 : decode cX6_areTagsRight 62 = .ok (.aload_n 0, 1) := dc_42 (by decide +kernel)
theorem dX6_areTagsRight_63 : decode cX6_areTagsRight 63 = .ok (.iload_n 2, 1) := dc_28 (by decide +kernel)
theorem dX6_areTagsRight_64 : decode cX6_areTagsRight 64 = .ok (.invokevirtual 72, 3) := dc_182 (a := 0) (b := 72) (n := 72) (by decide +kernel)
theorem dX6_areTagsRight_67 : decode cX6_areTagsRight 67 = .ok (.ifCond .ne 23, 3) := dc_154 (a := 0) (b := 23) (v := 23) (by decide +kernel)
theorem dX6_areTagsRight_70 : decode cX6_areTagsRight 70 = .ok (.iload_n 3, 1) := dc_29 (by decide +kernel)
theorem dX6_areTagsRight_71 : decode cX6_areTagsRight 71 = .ok (.iconst 3, 1) := dc_6 (by decide +kernel)
theorem dX6_areTagsRight_72 : decode cX6_areTagsRight 72 = .ok (.if_icmp .ne 22, 3) := dc_160 (a := 0) (b := 22) (v := 22) (by decide +kernel)
theorem dX6_areTagsRight_75 : decode cX6_areTagsRight 75 = .ok (.aload_n 0, 1) := dc_42 (by decide +kernel)
theorem dX6_areTagsRight_76 : decode cX6_areTagsRight 76 = .ok (.iload_n 2, 1) := dc_28 (by decide +kernel)
theorem dX6_areTagsRight_77 : decode cX6_areTagsRight 77 = .ok (.invokevirtual 62, 3) := dc_182 (a := 0) (b := 62) (n := 62) (by decide +kernel)
theorem dX6_areTagsRight_80 : decode cX6_areTagsRight 80 = .ok (.aload_n 0, 1) := dc_42 (by decide +kernel)
theorem dX6_areTagsRight_81 : decode cX6_areTagsRight 81 = .ok (.getfield 21, 3) := dc_180 (a := 0) (b := 21) (n := 21) (by decide +kernel)
theorem dX6_areTagsRight_84 : decode cX6_areTagsRight 84 = .ok (.bipush 8, 2) := dc_16 (a := 8) (v := 8) (by decide +kernel)
theorem dX6_areTagsRight_86 : decode cX6_areTagsRight 86 = .ok (.iaload, 1) := dc_46 (by decide +kernel)
theorem dX6_areTagsRight_87 : decode cX6_areTagsRight 87 = .ok (.if_icmp .ge 7, 3) := dc_162 (a := 0) (b := 7) (v := 7) (by decide +kernel)
theorem dX6_areTagsRight_90 : decode cX6_areTagsRight 90 = .ok (.iconst 1, 1) := dc_4 (by decide +kernel)
theorem dX6_areTagsRight_91 : decode cX6_areTagsRight 91 = .ok (.goto 4, 3) := dc_167 (a := 0) (b := 4) (v := 4) (by decide +kernel)
theorem dX6_areTagsRight_94 : decode cX6_areTagsRight 94 = .ok (.iconst 0, 1) := dc_3 (by decide +kernel)
theorem dX6_areTagsRight_95 : decode cX6_areTagsRight 95 = .ok (.iand, 1) := dc_126 (by decide +kernel)
theorem dX6_areTagsRight_96 : decode cX6_areTagsRight 96 = .ok (.istore_n 1, 1) := dc_60 (by decide +kernel)
theorem dX6_areTagsRight_97 : decode cX6_areTagsRight 97 = .ok (.iinc 2 1, 3) := dc_132 (a := 2) (b := 1) (v := 1) (by decide +kernel)
theorem dX6_areTagsRight_100 : decode cX6_areTagsRight 100 = .ok (.goto (-93), 3) := dc_167 (a := 255) (b := 163) (v := -93) (by decide +kernel)
theorem dX6_areTagsRight_103 : decode cX6_areTagsRight 103 = .ok (.iload_n 1, 1) := dc_27 (by decide +kernel)
theorem dX6_areTagsRight_104 : decode cX6_areTagsRight 104 = .ok (.ireturn, 1) := dc_172 (by decide +kernel)
def fX6_areTagsRight_b97 (N : Nat) (k7 : Nat → Int32 → Int32 → eH → Option (Int32 × eH)) (l0 : Nat) (l1 : Int32) (l2 : Int32) (h : eH) : Option (Int32 × eH) :=
  k7 l0 l1 (l2 + (1 : Int32)) h
theorem pX6_areTagsRight_b97 {w : eW} {d : Nat} (hd : 3 ≤ d + 1) {N : Nat} {k7 : Nat → Int32 → Int32 → eH → Option (Int32 × eH)} (hk7 : ∀ l0 l1 l2 h q, k7 l0 l1 l2 h = some q → wp w (d + 1) YX6_areTagsRight 7 [some (.ref l0), some (.int l1), some (.int l2), none] [] h (e_is (e_rn c_I q))) {l0 : Nat} {l1 : Int32} {l2 : Int32} {h : eH} {q} (hf : fX6_areTagsRight_b97 N k7 l0 l1 l2 h = some q) : wp w (d + 1) YX6_areTagsRight 97 [some (.ref l0), some (.int l1), some (.int l2), none] [] h (e_is (e_rn c_I q)) := by
  unfold fX6_areTagsRight_b97 at hf
  refine w_iinc dX6_areTagsRight_97 (v := (l2 + (1 : Int32))) rfl rfl (by decide) (ls' := [some (.ref l0), some (.int l1), some (.int (l2 + (1 : Int32))), none]) rfl ?_
  refine w_goto 7 dX6_areTagsRight_100 (by decide) ?_
  exact (hk7 _ _ _ _ _ hf).to ⟨rfl, rfl, rfl, trivial⟩
def fX6_areTagsRight_b95 (N : Nat) (k7 : Nat → Int32 → Int32 → eH → Option (Int32 × eH)) (l0 : Nat) (l2 : Int32) (s0 : Int32) (s1 : Int32) (h : eH) : Option (Int32 × eH) :=
  fX6_areTagsRight_b97 N k7 l0 (s0 &&& s1) l2 h
theorem pX6_areTagsRight_b95 {w : eW} {d : Nat} (hd : 3 ≤ d + 1) {N : Nat} {k7 : Nat → Int32 → Int32 → eH → Option (Int32 × eH)} (hk7 : ∀ l0 l1 l2 h q, k7 l0 l1 l2 h = some q → wp w (d + 1) YX6_areTagsRight 7 [some (.ref l0), some (.int l1), some (.int l2), none] [] h (e_is (e_rn c_I q))) {l0 : Nat} {l2 : Int32} {s0 : Int32} {s1 : Int32} {h : eH} {q} (hf : fX6_areTagsRight_b95 N k7 l0 l2 s0 s1 h = some q) : wp w (d + 1) YX6_areTagsRight 95 [some (.ref l0), none, some (.int l2), none] [.int s1, .int s0] h (e_is (e_rn c_I q)) := by
  unfold fX6_areTagsRight_b95 at hf
  refine w_iand dX6_areTagsRight_95 ?_
  refine w_istore_n dX6_areTagsRight_96 rfl (by decide) (ls' := [some (.ref l0), some (.int (s0 &&& s1)), some (.int l2), none]) rfl ?_
  exact (pX6_areTagsRight_b97 hd hk7 hf).to ⟨rfl, rfl, rfl, trivial⟩
def fX6_areTagsRight_b90 (N : Nat) (k7 : Nat → Int32 → Int32 → eH → Option (Int32 × eH)) (l0 : Nat) (l2 : Int32) (s0 : Int32) (h : eH) : Option (Int32 × eH) :=
  fX6_areTagsRight_b95 N k7 l0 l2 s0 (1 : Int32) h
theorem pX6_areTagsRight_b90 {w : eW} {d : Nat} (hd : 3 ≤ d + 1) {N : Nat} {k7 : Nat → Int32 → Int32 → eH → Option (Int32 × eH)} (hk7 : ∀ l0 l1 l2 h q, k7 l0 l1 l2 h = some q → wp w (d + 1) YX6_areTagsRight 7 [some (.ref l0), some (.int l1), some (.int l2), none] [] h (e_is (e_rn c_I q))) {l0 : Nat} {l2 : Int32} {s0 : Int32} {h : eH} {q} (hf : fX6_areTagsRight_b90 N k7 l0 l2 s0 h = some q) : wp w (d + 1) YX6_areTagsRight 90 [some (.ref l0), none, some (.int l2), none] [.int s0] h (e_is (e_rn c_I q)) := by
  unfold fX6_areTagsRight_b90 at hf
  refine w_iconst dX6_areTagsRight_90 (v := 1) (by decide) ?_
  refine w_goto 95 dX6_areTagsRight_91 (by decide) ?_
  exact (pX6_areTagsRight_b95 hd hk7 hf).to ⟨rfl, rfl, trivial⟩
def fX6_areTagsRight_b94 (N : Nat) (k7 : Nat → Int32 → Int32 → eH → Option (Int32 × eH)) (l0 : Nat) (l2 : Int32) (s0 : Int32) (h : eH) : Option (Int32 × eH) :=
  fX6_areTagsRight_b95 N k7 l0 l2 s0 (0 : Int32) h
theorem pX6_areTagsRight_b94 {w : eW} {d : Nat} (hd : 3 ≤ d + 1) {N : Nat} {k7 : Nat → Int32 → Int32 → eH → Option (Int32 × eH)} (hk7 : ∀ l0 l1 l2 h q, k7 l0 l1 l2 h = some q → wp w (d + 1) YX6_areTagsRight 7 [some (.ref l0), some (.int l1), some (.int l2), none] [] h (e_is (e_rn c_I q))) {l0 : Nat} {l2 : Int32} {s0 : Int32} {h : eH} {q} (hf : fX6_areTagsRight_b94 N k7 l0 l2 s0 h = some q) : wp w (d + 1) YX6_areTagsRight 94 [some (.ref l0), none, some (.int l2), none] [.int s0] h (e_is (e_rn c_I q)) := by
  unfold fX6_areTagsRight_b94 at hf
  refine w_iconst dX6_areTagsRight_94 (v := 0) (by decide) ?_
  exact (pX6_areTagsRight_b95 hd hk7 hf).to ⟨rfl, rfl, trivial⟩
def fX6_areTagsRight_b70 (N : Nat) (k7 : Nat → Int32 → Int32 → eH → Option (Int32 × eH)) (l0 : Nat) (l2 : Int32) (l3 : Int32) (s0 : Int32) (h : eH) : Option (Int32 × eH) :=
  if ¬ l3 = (3 : Int32) then
    fX6_areTagsRight_b94 N k7 l0 l2 s0 h
  else
    (k_ok 5 h l0).bind fun _ =>
    (fX6_rest l0 l2 h).bind fun q3 =>
    (g_A 5 q3.2 l0 3).bind fun a4 =>
    (r_I 100 q3.2 a4 (8 : Int32)).bind fun x6 =>
    if x6 ≤ q3.1 then
      fX6_areTagsRight_b94 N k7 l0 l2 s0 q3.2
    else
      fX6_areTagsRight_b90 N k7 l0 l2 s0 q3.2
theorem pX6_areTagsRight_b70 {w : eW} {d : Nat} (hd : 3 ≤ d + 1) {N : Nat} {k7 : Nat → Int32 → Int32 → eH → Option (Int32 × eH)} (hk7 : ∀ l0 l1 l2 h q, k7 l0 l1 l2 h = some q → wp w (d + 1) YX6_areTagsRight 7 [some (.ref l0), some (.int l1), some (.int l2), none] [] h (e_is (e_rn c_I q))) {l0 : Nat} {l2 : Int32} {l3 : Int32} {s0 : Int32} {h : eH} {q} (hf : fX6_areTagsRight_b70 N k7 l0 l2 l3 s0 h = some q) : wp w (d + 1) YX6_areTagsRight 70 [some (.ref l0), none, some (.int l2), some (.int l3)] [.int s0] h (e_is (e_rn c_I q)) := by
  unfold fX6_areTagsRight_b70 at hf
  refine w_iload_n dX6_areTagsRight_70 rfl rfl ?_
  refine w_iconst dX6_areTagsRight_71 (v := 3) (by decide) ?_
  refine w_icmp_ne 94 dX6_areTagsRight_72 (by decide) (fun c1 => ?_) (fun c1 => ?_)
  · replace hf := (if_pos (show ¬ l3 = (3 : Int32) from c1)).symm.trans hf
    exact (pX6_areTagsRight_b94 hd hk7 hf).to ⟨rfl, rfl, trivial⟩
  · replace hf := (if_neg (show ¬ (¬ l3 = (3 : Int32)) from (fun z => z c1))).symm.trans hf
    refine w_aload_n dX6_areTagsRight_75 rfl rfl ?_
    refine w_iload_n dX6_areTagsRight_76 rfl rfl ?_
    obtain ⟨_, b2, hf⟩ := Option.bind_eq_some_iff.mp hf
    refine x_cnI hf (e_stV (Yc := YX6_rest) (ci := 5) (av := [.int l2]) (st := [.int s0]) dX6_areTagsRight_77 q2259 mX6_rest rfl (k_ok_some b2).1 (k_ok_some b2).2) mX6_rest.2.2.1 mX6_rest.2.2.2.2.1 (Nat.le_of_ble_eq_true rfl) (Nat.le_of_ble_eq_true rfl) (fun q hq => pX6_rest (by omega) hq) (fun q3 hf => ?_)
    refine w_aload_n dX6_areTagsRight_80 rfl rfl ?_
    obtain ⟨a4, b5, hf⟩ := Option.bind_eq_some_iff.mp hf
    refine GX6_21 b5 dX6_areTagsRight_81 rfl ?_
    refine w_bipush dX6_areTagsRight_84 (v := 8) (by decide) ?_
    obtain ⟨x6, b7, hf⟩ := Option.bind_eq_some_iff.mp hf
    refine x_rI b7 dX6_areTagsRight_86 ?_
    refine w_icmp_ge 94 dX6_areTagsRight_87 (by decide) (fun c8 => ?_) (fun c8 => ?_)
    · replace hf := (if_pos (show x6 ≤ q3.1 from c8)).symm.trans hf
      exact (pX6_areTagsRight_b94 hd hk7 hf).to ⟨rfl, rfl, trivial⟩
    · replace hf := (if_neg (show ¬ (x6 ≤ q3.1) from c8)).symm.trans hf
      exact (pX6_areTagsRight_b90 hd hk7 hf).to ⟨rfl, rfl, trivial⟩
def fX6_areTagsRight_b57 (N : Nat) (k7 : Nat → Int32 → Int32 → eH → Option (Int32 × eH)) (l0 : Nat) (l2 : Int32) (l3 : Int32) (s0 : Int32) (h : eH) : Option (Int32 × eH) :=
  if ¬ l3 = (2 : Int32) then
    fX6_areTagsRight_b70 N k7 l0 l2 l3 s0 h
  else
    (k_ok 5 h l0).bind fun _ =>
    (fX6_isChainRight N l0 l2 h).bind fun q3 =>
    if ¬ q3.1 = 0 then
      fX6_areTagsRight_b90 N k7 l0 l2 s0 q3.2
    else
      fX6_areTagsRight_b70 N k7 l0 l2 l3 s0 q3.2
theorem pX6_areTagsRight_b57 {w : eW} {d : Nat} (hd : 3 ≤ d + 1) {N : Nat} {k7 : Nat → Int32 → Int32 → eH → Option (Int32 × eH)} (hk7 : ∀ l0 l1 l2 h q, k7 l0 l1 l2 h = some q → wp w (d + 1) YX6_areTagsRight 7 [some (.ref l0), some (.int l1), some (.int l2), none] [] h (e_is (e_rn c_I q))) {l0 : Nat} {l2 : Int32} {l3 : Int32} {s0 : Int32} {h : eH} {q} (hf : fX6_areTagsRight_b57 N k7 l0 l2 l3 s0 h = some q) : wp w (d + 1) YX6_areTagsRight 57 [some (.ref l0), none, some (.int l2), some (.int l3)] [.int s0] h (e_is (e_rn c_I q)) := by
  unfold fX6_areTagsRight_b57 at hf
  refine w_iload_n dX6_areTagsRight_57 rfl rfl ?_
  refine w_iconst dX6_areTagsRight_58 (v := 2) (by decide) ?_
  refine w_icmp_ne 70 dX6_areTagsRight_59 (by decide) (fun c1 => ?_) (fun c1 => ?_)
  · replace hf := (if_pos (show ¬ l3 = (2 : Int32) from c1)).symm.trans hf
    exact (pX6_areTagsRight_b70 hd hk7 hf).to ⟨rfl, rfl, rfl, trivial⟩
  · replace hf := (if_neg (show ¬ (¬ l3 = (2 : Int32)) from (fun z => z c1))).symm.trans hf
    refine w_aload_n dX6_areTagsRight_62 rfl rfl ?_
    refine w_iload_n dX6_areTagsRight_63 rfl rfl ?_
    obtain ⟨_, b2, hf⟩ := Option.bind_eq_some_iff.mp hf
    refine x_cnI hf (e_stV (Yc := YX6_isChainRight) (ci := 5) (av := [.int l2]) (st := [.int s0]) dX6_areTagsRight_64 q2266 mX6_isChainRight rfl (k_ok_some b2).1 (k_ok_some b2).2) mX6_isChainRight.2.2.1 mX6_isChainRight.2.2.2.2.1 (Nat.le_of_ble_eq_true rfl) (Nat.le_of_ble_eq_true rfl) (fun q hq => pX6_isChainRight (by omega) hq) (fun q3 hf => ?_)
    refine w_if_ne 90 dX6_areTagsRight_67 (by decide) (fun c4 => ?_) (fun c4 => ?_)
    · replace hf := (if_pos (show ¬ q3.1 = 0 from c4)).symm.trans hf
      exact (pX6_areTagsRight_b90 hd hk7 hf).to ⟨rfl, rfl, trivial⟩
    · replace hf := (if_neg (show ¬ (¬ q3.1 = 0) from (fun z => z c4))).symm.trans hf
      exact (pX6_areTagsRight_b70 hd hk7 hf).to ⟨rfl, rfl, rfl, trivial⟩
def fX6_areTagsRight_b7 (N : Nat) : Nat → Nat → Int32 → Int32 → eH → Option (Int32 × eH)
  | 0, _, _, _, _ => none
  | n + 1, l0, l1, l2, h =>
    (g_I 5 h l0 5).bind fun x1 =>
    if x1 < l2 then
      z_r l1 (l1, h)
    else
      (k_ok 5 h l0).bind fun _ =>
      (fX6_has l0 l2 h).bind fun q6 =>
      if ¬ q6.1 = 0 then
        (k_ok 5 q6.2 l0).bind fun _ =>
        (fX6_tag l0 l2 q6.2).bind fun q9 =>
        if q9.1 = 0 then
          fX6_areTagsRight_b90 N (fX6_areTagsRight_b7 N n) l0 l2 l1 q9.2
        else
          if ¬ q9.1 = (1 : Int32) then
            fX6_areTagsRight_b57 N (fX6_areTagsRight_b7 N n) l0 l2 q9.1 l1 q9.2
          else
            (k_ok 5 q9.2 l0).bind fun _ =>
            (fX6_rest l0 l2 q9.2).bind fun q13 =>
            (g_A 5 q13.2 l0 3).bind fun a14 =>
            (r_I 100 q13.2 a14 (6 : Int32)).bind fun x16 =>
            if q13.1 < x16 then
              fX6_areTagsRight_b90 N (fX6_areTagsRight_b7 N n) l0 l2 l1 q13.2
            else
              fX6_areTagsRight_b57 N (fX6_areTagsRight_b7 N n) l0 l2 q9.1 l1 q13.2
      else
        fX6_areTagsRight_b97 N (fX6_areTagsRight_b7 N n) l0 l1 l2 q6.2
theorem pX6_areTagsRight_b7 {w : eW} {d : Nat} (hd : 3 ≤ d + 1) {N : Nat} : ∀ (n : Nat) l0 l1 l2 h q, fX6_areTagsRight_b7 N n l0 l1 l2 h = some q → wp w (d + 1) YX6_areTagsRight 7 [some (.ref l0), some (.int l1), some (.int l2), none] [] h (e_is (e_rn c_I q)) := by
  intro n
  induction n with
  | zero => intro l0 l1 l2 h q hf; simp [fX6_areTagsRight_b7] at hf
  | succ n ih =>
    intro l0 l1 l2 h q hf
    rw [fX6_areTagsRight_b7] at hf
    refine w_iload_n dX6_areTagsRight_7 rfl rfl ?_
    refine w_aload_n dX6_areTagsRight_8 rfl rfl ?_
    obtain ⟨x1, b2, hf⟩ := Option.bind_eq_some_iff.mp hf
    refine GX6_29 b2 dX6_areTagsRight_9 rfl ?_
    refine w_icmp_gt 103 dX6_areTagsRight_12 (by decide) (fun c3 => ?_) (fun c3 => ?_)
    · replace hf := (if_pos (show x1 < l2 from c3)).symm.trans hf
      refine w_iload_n dX6_areTagsRight_103 rfl rfl ?_
      obtain ⟨b4, rfl⟩ := z_r_some hf
      exact w_iret dX6_areTagsRight_104 rfl b4 rfl
    · replace hf := (if_neg (show ¬ (x1 < l2) from c3)).symm.trans hf
      refine w_aload_n dX6_areTagsRight_15 rfl rfl ?_
      refine w_iload_n dX6_areTagsRight_16 rfl rfl ?_
      obtain ⟨_, b5, hf⟩ := Option.bind_eq_some_iff.mp hf
      refine x_cnI hf (e_stV (Yc := YX6_has) (ci := 5) (av := [.int l2]) (st := []) dX6_areTagsRight_17 q2251 mX6_has rfl (k_ok_some b5).1 (k_ok_some b5).2) mX6_has.2.2.1 mX6_has.2.2.2.2.1 (Nat.le_of_ble_eq_true rfl) (Nat.le_of_ble_eq_true rfl) (fun q hq => pX6_has (by omega) hq) (fun q6 hf => ?_)
      refine w_if_ne 26 dX6_areTagsRight_20 (by decide) (fun c7 => ?_) (fun c7 => ?_)
      · replace hf := (if_pos (show ¬ q6.1 = 0 from c7)).symm.trans hf
        refine w_aload_n dX6_areTagsRight_26 rfl rfl ?_
        refine w_iload_n dX6_areTagsRight_27 rfl rfl ?_
        obtain ⟨_, b8, hf⟩ := Option.bind_eq_some_iff.mp hf
        refine x_cnI hf (e_stV (Yc := YX6_tag) (ci := 5) (av := [.int l2]) (st := []) dX6_areTagsRight_28 q2255 mX6_tag rfl (k_ok_some b8).1 (k_ok_some b8).2) mX6_tag.2.2.1 mX6_tag.2.2.2.2.1 (Nat.le_of_ble_eq_true rfl) (Nat.le_of_ble_eq_true rfl) (fun q hq => pX6_tag (by omega) hq) (fun q9 hf => ?_)
        refine w_istore_n dX6_areTagsRight_31 rfl (by decide) (ls' := [some (.ref l0), some (.int l1), some (.int l2), some (.int q9.1)]) rfl ?_
        refine w_iload_n dX6_areTagsRight_32 rfl rfl ?_
        refine w_iload_n dX6_areTagsRight_33 rfl rfl ?_
        refine w_if_eq 90 dX6_areTagsRight_34 (by decide) (fun c10 => ?_) (fun c10 => ?_)
        · replace hf := (if_pos (show q9.1 = 0 from c10)).symm.trans hf
          exact (pX6_areTagsRight_b90 hd ih hf).to ⟨rfl, rfl, trivial⟩
        · replace hf := (if_neg (show ¬ (q9.1 = 0) from c10)).symm.trans hf
          refine w_iload_n dX6_areTagsRight_37 rfl rfl ?_
          refine w_iconst dX6_areTagsRight_38 (v := 1) (by decide) ?_
          refine w_icmp_ne 57 dX6_areTagsRight_39 (by decide) (fun c11 => ?_) (fun c11 => ?_)
          · replace hf := (if_pos (show ¬ q9.1 = (1 : Int32) from c11)).symm.trans hf
            exact (pX6_areTagsRight_b57 hd ih hf).to ⟨rfl, rfl, rfl, trivial⟩
          · replace hf := (if_neg (show ¬ (¬ q9.1 = (1 : Int32)) from (fun z => z c11))).symm.trans hf
            refine w_aload_n dX6_areTagsRight_42 rfl rfl ?_
            refine w_iload_n dX6_areTagsRight_43 rfl rfl ?_
            obtain ⟨_, b12, hf⟩ := Option.bind_eq_some_iff.mp hf
            refine x_cnI hf (e_stV (Yc := YX6_rest) (ci := 5) (av := [.int l2]) (st := [.int l1]) dX6_areTagsRight_44 q2259 mX6_rest rfl (k_ok_some b12).1 (k_ok_some b12).2) mX6_rest.2.2.1 mX6_rest.2.2.2.2.1 (Nat.le_of_ble_eq_true rfl) (Nat.le_of_ble_eq_true rfl) (fun q hq => pX6_rest (by omega) hq) (fun q13 hf => ?_)
            refine w_aload_n dX6_areTagsRight_47 rfl rfl ?_
            obtain ⟨a14, b15, hf⟩ := Option.bind_eq_some_iff.mp hf
            refine GX6_21 b15 dX6_areTagsRight_48 rfl ?_
            refine w_bipush dX6_areTagsRight_51 (v := 6) (by decide) ?_
            obtain ⟨x16, b17, hf⟩ := Option.bind_eq_some_iff.mp hf
            refine x_rI b17 dX6_areTagsRight_53 ?_
            refine w_icmp_lt 90 dX6_areTagsRight_54 (by decide) (fun c18 => ?_) (fun c18 => ?_)
            · replace hf := (if_pos (show q13.1 < x16 from c18)).symm.trans hf
              exact (pX6_areTagsRight_b90 hd ih hf).to ⟨rfl, rfl, trivial⟩
            · replace hf := (if_neg (show ¬ (q13.1 < x16) from c18)).symm.trans hf
              exact (pX6_areTagsRight_b57 hd ih hf).to ⟨rfl, rfl, rfl, trivial⟩
      · replace hf := (if_neg (show ¬ (¬ q6.1 = 0) from (fun z => z c7))).symm.trans hf
        refine w_goto 97 dX6_areTagsRight_23 (by decide) ?_
        exact (pX6_areTagsRight_b97 hd ih hf).to ⟨rfl, rfl, rfl, trivial⟩
def fX6_areTagsRight (N : Nat) (this : Nat) (h : eH) : Option (Int32 × eH) :=
  (g_I 5 h this 4).bind fun x1 =>
  fX6_areTagsRight_b7 N N this (1 : Int32) x1 h
theorem pX6_areTagsRight {w : eW} {d : Nat} (hd : 3 ≤ d) {N : Nat} {this : Nat} {h : eH} {q} (hf : fX6_areTagsRight N this h = some q) : wm w d YX6_areTagsRight [.ref this] h (e_is (e_rn c_I q)) := by
  obtain ⟨d, rfl⟩ : ∃ e, d = e + 1 := ⟨d - 1, by omega⟩
  show wp w (d + 1) YX6_areTagsRight 0 [some (.ref this), none, none, none] [] h _
  unfold fX6_areTagsRight at hf
  refine w_iconst dX6_areTagsRight_0 (v := 1) (by decide) ?_
  refine w_istore_n dX6_areTagsRight_1 rfl (by decide) (ls' := [some (.ref this), some (.int (1 : Int32)), none, none]) rfl ?_
  refine w_aload_n dX6_areTagsRight_2 rfl rfl ?_
  obtain ⟨x1, b2, hf⟩ := Option.bind_eq_some_iff.mp hf
  refine GX6_25 b2 dX6_areTagsRight_3 rfl ?_
  refine w_istore_n dX6_areTagsRight_6 rfl (by decide) (ls' := [some (.ref this), some (.int (1 : Int32)), some (.int x1), none]) rfl ?_
  exact (pX6_areTagsRight_b7 hd N _ _ _ _ _ hf).to ⟨rfl, rfl, rfl, trivial⟩
abbrev cX6_isFraction : ByteArray := prog_7_method_10_code
def yX6_isFraction : MethodName := ⟨RX6, "isFraction", "(I)Z"⟩
def YX6_isFraction : eY := (yX6_isFraction, cX6_isFraction, 2, (Option.some FieldType.boolean), [])
theorem mX6_isFraction : e_mv YX6_isFraction RX6 1 := ⟨q2276, qs25, q2277, by decide, by decide +kernel, (e_sig (by decide +kernel))⟩
theorem dX6_isFraction_0 : decode cX6_isFraction 0 = .ok (.iload_n 1, 1) := dc_27 (by decide +kernel)
theorem dX6_isFraction_1 : decode cX6_isFraction 1 = .ok (.invokestatic 36, 3) := dc_184 (a := 0) (b := 36) (n := 36) (by decide +kernel)
theorem dX6_isFraction_4 : decode cX6_isFraction 4 = .ok (.ifCond .eq 13, 3) := dc_153 (a := 0) (b := 13) (v := 13) (by decide +kernel)
theorem dX6_isFraction_7 : decode cX6_isFraction 7 = .ok (.iload_n 1, 1) := dc_27 (by decide +kernel)
theorem dX6_isFraction_8 : decode cX6_isFraction 8 = .ok (.invokestatic 36, 3) := dc_184 (a := 0) (b := 36) (n := 36) (by decide +kernel)
theorem dX6_isFraction_11 : decode cX6_isFraction 11 = .ok (.sipush 255, 3) := dc_17 (a := 0) (b := 255) (v := 255) (by decide +kernel)
theorem dX6_isFraction_14 : decode cX6_isFraction 14 = .ok (.if_icmp .ne 7, 3) := dc_160 (a := 0) (b := 7) (v := 7) (by decide +kernel)
theorem dX6_isFraction_17 : decode cX6_isFraction 17 = .ok (.iconst 1, 1) := dc_4 (by decide +kernel)
theorem dX6_isFraction_18 : decode cX6_isFraction 18 = .ok (.goto 4, 3) := dc_167 (a := 0) (b := 4) (v := 4) (by decide +kernel)
theorem dX6_isFraction_21 : decode cX6_isFraction 21 = .ok (.iconst 0, 1) := dc_3 (by decide +kernel)
theorem dX6_isFraction_22 : decode cX6_isFraction 22 = .ok (.ireturn, 1) := dc_172 (by decide +kernel)
def fX6_isFraction_b22 (s0 : Int32) (h : eH) : Option (Int32 × eH) :=
  z_r s0 (s0, h)
theorem pX6_isFraction_b22 {w : eW} {d : Nat} (hd : 1 ≤ d + 1) {s0 : Int32} {h : eH} {q} (hf : fX6_isFraction_b22 s0 h = some q) : wp w (d + 1) YX6_isFraction 22 [none, none] [.int s0] h (e_is (e_rn c_I q)) := by
  unfold fX6_isFraction_b22 at hf
  obtain ⟨b1, rfl⟩ := z_r_some hf
  exact w_iret dX6_isFraction_22 rfl b1 rfl
def fX6_isFraction_b17  (h : eH) : Option (Int32 × eH) :=
  fX6_isFraction_b22 (1 : Int32) h
theorem pX6_isFraction_b17 {w : eW} {d : Nat} (hd : 1 ≤ d + 1)  {h : eH} {q} (hf : fX6_isFraction_b17  h = some q) : wp w (d + 1) YX6_isFraction 17 [none, none] [] h (e_is (e_rn c_I q)) := by
  unfold fX6_isFraction_b17 at hf
  refine w_iconst dX6_isFraction_17 (v := 1) (by decide) ?_
  refine w_goto 22 dX6_isFraction_18 (by decide) ?_
  exact (pX6_isFraction_b22 hd hf).to trivial
def fX6_isFraction (this : Nat) (p0 : Int32) (h : eH) : Option (Int32 × eH) :=
  (fX6_a p0 h).bind fun q1 =>
  if q1.1 = 0 then
    fX6_isFraction_b17 q1.2
  else
    (fX6_a p0 q1.2).bind fun q3 =>
    if ¬ q3.1 = (255 : Int32) then
      fX6_isFraction_b22 (0 : Int32) q3.2
    else
      fX6_isFraction_b17 q3.2
theorem pX6_isFraction {w : eW} {d : Nat} (hd : 1 ≤ d) {this : Nat} {p0 : Int32} {h : eH} {q} (hf : fX6_isFraction this p0 h = some q) : wm w d YX6_isFraction [.ref this, .int p0] h (e_is (e_rn c_I q)) := by
  obtain ⟨d, rfl⟩ : ∃ e, d = e + 1 := ⟨d - 1, by omega⟩
  show wp w (d + 1) YX6_isFraction 0 [some (.ref this), some (.int p0)] [] h _
  unfold fX6_isFraction at hf
  refine w_iload_n dX6_isFraction_0 rfl rfl ?_
  refine x_cnI hf (e_stS (Yc := YX6_a) (av := [.int p0]) (st := []) dX6_isFraction_1 q2238 mX6_a) mX6_a.2.2.1 mX6_a.2.2.2.2.1 (Nat.le_of_ble_eq_true rfl) (Nat.le_of_ble_eq_true rfl) (fun q hq => pX6_a (by omega) hq) (fun q1 hf => ?_)
  refine w_if_eq 17 dX6_isFraction_4 (by decide) (fun c2 => ?_) (fun c2 => ?_)
  · replace hf := (if_pos (show q1.1 = 0 from c2)).symm.trans hf
    exact (pX6_isFraction_b17 hd hf).to trivial
  · replace hf := (if_neg (show ¬ (q1.1 = 0) from c2)).symm.trans hf
    refine w_iload_n dX6_isFraction_7 rfl rfl ?_
    refine x_cnI hf (e_stS (Yc := YX6_a) (av := [.int p0]) (st := []) dX6_isFraction_8 q2238 mX6_a) mX6_a.2.2.1 mX6_a.2.2.2.2.1 (Nat.le_of_ble_eq_true rfl) (Nat.le_of_ble_eq_true rfl) (fun q hq => pX6_a (by omega) hq) (fun q3 hf => ?_)
    refine w_sipush dX6_isFraction_11 (v := 255) (by decide) ?_
    refine w_icmp_ne 21 dX6_isFraction_14 (by decide) (fun c4 => ?_) (fun c4 => ?_)
    · replace hf := (if_pos (show ¬ q3.1 = (255 : Int32) from c4)).symm.trans hf
      refine w_iconst dX6_isFraction_21 (v := 0) (by decide) ?_
      exact (pX6_isFraction_b22 hd hf).to trivial
    · replace hf := (if_neg (show ¬ (¬ q3.1 = (255 : Int32)) from (fun z => z c4))).symm.trans hf
      exact (pX6_isFraction_b17 hd hf).to trivial
abbrev cX6_areFractions : ByteArray := prog_7_method_16_code
def yX6_areFractions : MethodName := ⟨RX6, "areFractions", "()Z"⟩
def YX6_areFractions : eY := (yX6_areFractions, cX6_areFractions, 4, (Option.some FieldType.boolean), [])
theorem mX6_areFractions : e_mv YX6_areFractions RX6 0 := ⟨q2272, qs24, q2273, by decide, by decide +kernel, (e_sig (by decide +kernel))⟩
theorem dX6_areFractions_0 : decode cX6_areFractions 0 = .ok (.iconst 1, 1) := dc_4 (by decide +kernel)
theorem dX6_areFractions_1 : decode cX6_areFractions 1 = .ok (.istore_n 1, 1) := dc_60 (by decide +kernel)
theorem dX6_areFractions_2 : decode cX6_areFractions 2 = .ok (.iconst 2, 1) := dc_5 (by decide +kernel)
theorem dX6_areFractions_3 : decode cX6_areFractions 3 = .ok (.istore_n 2, 1) := dc_61 (by decide +kernel)
theorem dX6_areFractions_4 : decode cX6_areFractions 4 = .ok (.iload_n 2, 1) := dc_28 (by decide +kernel)
theorem dX6_areFractions_5 : decode cX6_areFractions 5 = .ok (.bipush 7, 2) := dc_16 (a := 7) (v := 7) (by decide +kernel)
theorem dX6_areFractions_7 : decode cX6_areFractions 7 = .ok (.if_icmp .gt 72, 3) := dc_163 (a := 0) (b := 72) (v := 72) (by decide +kernel)
theorem dX6_areFractions_10 : decode cX6_areFractions 10 = .ok (.iload_n 2, 1) := dc_28 (by decide +kernel)
theorem dX6_areFractions_11 : decode cX6_areFractions 11 = .ok (.bipush 6, 2) := dc_16 (a := 6) (v := 6) (by decide +kernel)
theorem dX6_areFractions_13 : decode cX6_areFractions 13 = .ok (.if_icmp .ne 6, 3) := dc_160 (a := 0) (b := 6) (v := 6) (by decide +kernel)
theorem dX6_areFractions_16 : decode cX6_areFractions 16 = .ok (.goto 57, 3) := dc_167 (a := 0) (b := 57) (v := 57) (by decide +kernel)
theorem dX6_areFractions_19 : decode cX6_areFractions 19 = .ok (.iconst 0, 1) := dc_3 (by decide +kernel)
theorem dX6_areFractions_20 : decode cX6_areFractions 20 = .ok (.istore_n 3, 1) := dc_62 (by decide +kernel)
theorem dX6_areFractions_21 : decode cX6_areFractions 21 = .ok (.iload_n 3, 1) := dc_29 (by decide +kernel)
theorem dX6_areFractions_22 : decode cX6_areFractions 22 = .ok (.aload_n 0, 1) := dc_42 (by decide +kernel)
theorem dX6_areFractions_23 : decode cX6_areFractions 23 = .ok (.getfield 21, 3) := dc_180 (a := 0) (b := 21) (n := 21) (by decide +kernel)
theorem dX6_areFractions_26 : decode cX6_areFractions 26 = .ok (.iload_n 2, 1) := dc_28 (by decide +kernel)
theorem dX6_areFractions_27 : decode cX6_areFractions 27 = .ok (.iaload, 1) := dc_46 (by decide +kernel)
theorem dX6_areFractions_28 : decode cX6_areFractions 28 = .ok (.if_icmp .ge 22, 3) := dc_162 (a := 0) (b := 22) (v := 22) (by decide +kernel)
theorem dX6_areFractions_31 : decode cX6_areFractions 31 = .ok (.iload_n 1, 1) := dc_27 (by decide +kernel)
theorem dX6_areFractions_32 : decode cX6_areFractions 32 = .ok (.aload_n 0, 1) := dc_42 (by decide +kernel)
theorem dX6_areFractions_33 : decode cX6_areFractions 33 = .ok (.aload_n 0, 1) := dc_42 (by decide +kernel)
theorem dX6_areFractions_34 : decode cX6_areFractions 34 = .ok (.iload_n 2, 1) := dc_28 (by decide +kernel)
theorem dX6_areFractions_35 : decode cX6_areFractions 35 = .ok (.iload_n 3, 1) := dc_29 (by decide +kernel)
theorem dX6_areFractions_36 : decode cX6_areFractions 36 = .ok (.invokevirtual 32, 3) := dc_182 (a := 0) (b := 32) (n := 32) (by decide +kernel)
theorem dX6_areFractions_39 : decode cX6_areFractions 39 = .ok (.invokevirtual 75, 3) := dc_182 (a := 0) (b := 75) (n := 75) (by decide +kernel)
theorem dX6_areFractions_42 : decode cX6_areFractions 42 = .ok (.iand, 1) := dc_126 (by decide +kernel)
theorem dX6_areFractions_43 : decode cX6_areFractions 43 = .ok (.istore_n 1, 1) := dc_60 (by decide +kernel)
theorem dX6_areFractions_44 : decode cX6_areFractions 44 = .ok (.iinc 3 1, 3) := dc_132 (a := 3) (b := 1) (v := 1) (by decide +kernel)
theorem dX6_areFractions_47 : decode cX6_areFractions 47 = .ok (.goto (-26), 3) := dc_167 (a := 255) (b := 230) (v := -26) (by decide +kernel)
theorem dX6_areFractions_50 : decode cX6_areFractions 50 = .ok (.iload_n 1, 1) := dc_27 (by decide +kernel)
theorem dX6_areFractions_51 : decode cX6_areFractions 51 = .ok (.iload_n 2, 1) := dc_28 (by decide +kernel)
theorem dX6_areFractions_52 : decode cX6_areFractions 52 = .ok (.bipush 7, 2) := dc_16 (a := 7) (v := 7) (by decide +kernel)
theorem dX6_areFractions_54 : decode cX6_areFractions 54 = .ok (.if_icmp .eq 12, 3) := dc_159 (a := 0) (b := 12) (v := 12) (by decide +kernel)
theorem dX6_areFractions_57 : decode cX6_areFractions 57 = .ok (.aload_n 0, 1) := dc_42 (by decide +kernel)
theorem dX6_areFractions_58 : decode cX6_areFractions 58 = .ok (.iload_n 2, 1) := dc_28 (by decide +kernel)
theorem dX6_areFractions_59 : decode cX6_areFractions 59 = .ok (.iconst 0, 1) := dc_3 (by decide +kernel)
theorem dX6_areFractions_60 : decode cX6_areFractions 60 = .ok (.invokevirtual 32, 3) := dc_182 (a := 0) (b := 32) (n := 32) (by decide +kernel)
theorem dX6_areFractions_63 : decode cX6_areFractions 63 = .ok (.ifCond .ne 7, 3) := dc_154 (a := 0) (b := 7) (v := 7) (by decide +kernel)
theorem dX6_areFractions_66 : decode cX6_areFractions 66 = .ok (.iconst 1, 1) := dc_4 (by decide +kernel)
theorem dX6_areFractions_67 : decode cX6_areFractions 67 = .ok (.goto 4, 3) := dc_167 (a := 0) (b := 4) (v := 4) (by decide +kernel)
theorem dX6_areFractions_70 : decode cX6_areFractions 70 = .ok (.iconst 0, 1) := dc_3 (by decide +kernel)
theorem dX6_areFractions_71 : decode cX6_areFractions 71 = .ok (.iand, 1) := dc_126 (by decide +kernel)
theorem dX6_areFractions_72 : decode cX6_areFractions 72 = .ok (.istore_n 1, 1) := dc_60 (by decide +kernel)
theorem dX6_areFractions_73 : decode cX6_areFractions 73 = .ok (.iinc 2 1, 3) := dc_132 (a := 2) (b := 1) (v := 1) (by decide +kernel)
theorem dX6_areFractions_76 : decode cX6_areFractions 76 = .ok (.goto (-72), 3) := dc_167 (a := 255) (b := 184) (v := -72) (by decide +kernel)
theorem dX6_areFractions_79 : decode cX6_areFractions 79 = .ok (.iload_n 1, 1) := dc_27 (by decide +kernel)
theorem dX6_areFractions_80 : decode cX6_areFractions 80 = .ok (.ireturn, 1) := dc_172 (by decide +kernel)
def fX6_areFractions_b73 (N : Nat) (k4 : Nat → Int32 → Int32 → eH → Option (Int32 × eH)) (l0 : Nat) (l1 : Int32) (l2 : Int32) (h : eH) : Option (Int32 × eH) :=
  k4 l0 l1 (l2 + (1 : Int32)) h
theorem pX6_areFractions_b73 {w : eW} {d : Nat} (hd : 2 ≤ d + 1) {N : Nat} {k4 : Nat → Int32 → Int32 → eH → Option (Int32 × eH)} (hk4 : ∀ l0 l1 l2 h q, k4 l0 l1 l2 h = some q → wp w (d + 1) YX6_areFractions 4 [some (.ref l0), some (.int l1), some (.int l2), none] [] h (e_is (e_rn c_I q))) {l0 : Nat} {l1 : Int32} {l2 : Int32} {h : eH} {q} (hf : fX6_areFractions_b73 N k4 l0 l1 l2 h = some q) : wp w (d + 1) YX6_areFractions 73 [some (.ref l0), some (.int l1), some (.int l2), none] [] h (e_is (e_rn c_I q)) := by
  unfold fX6_areFractions_b73 at hf
  refine w_iinc dX6_areFractions_73 (v := (l2 + (1 : Int32))) rfl rfl (by decide) (ls' := [some (.ref l0), some (.int l1), some (.int (l2 + (1 : Int32))), none]) rfl ?_
  refine w_goto 4 dX6_areFractions_76 (by decide) ?_
  exact (hk4 _ _ _ _ _ hf).to ⟨rfl, rfl, rfl, trivial⟩
def fX6_areFractions_b71 (N : Nat) (k4 : Nat → Int32 → Int32 → eH → Option (Int32 × eH)) (l0 : Nat) (l2 : Int32) (s0 : Int32) (s1 : Int32) (h : eH) : Option (Int32 × eH) :=
  fX6_areFractions_b73 N k4 l0 (s0 &&& s1) l2 h
theorem pX6_areFractions_b71 {w : eW} {d : Nat} (hd : 2 ≤ d + 1) {N : Nat} {k4 : Nat → Int32 → Int32 → eH → Option (Int32 × eH)} (hk4 : ∀ l0 l1 l2 h q, k4 l0 l1 l2 h = some q → wp w (d + 1) YX6_areFractions 4 [some (.ref l0), some (.int l1), some (.int l2), none] [] h (e_is (e_rn c_I q))) {l0 : Nat} {l2 : Int32} {s0 : Int32} {s1 : Int32} {h : eH} {q} (hf : fX6_areFractions_b71 N k4 l0 l2 s0 s1 h = some q) : wp w (d + 1) YX6_areFractions 71 [some (.ref l0), none, some (.int l2), none] [.int s1, .int s0] h (e_is (e_rn c_I q)) := by
  unfold fX6_areFractions_b71 at hf
  refine w_iand dX6_areFractions_71 ?_
  refine w_istore_n dX6_areFractions_72 rfl (by decide) (ls' := [some (.ref l0), some (.int (s0 &&& s1)), some (.int l2), none]) rfl ?_
  exact (pX6_areFractions_b73 hd hk4 hf).to ⟨rfl, rfl, rfl, trivial⟩
def fX6_areFractions_b66 (N : Nat) (k4 : Nat → Int32 → Int32 → eH → Option (Int32 × eH)) (l0 : Nat) (l2 : Int32) (s0 : Int32) (h : eH) : Option (Int32 × eH) :=
  fX6_areFractions_b71 N k4 l0 l2 s0 (1 : Int32) h
theorem pX6_areFractions_b66 {w : eW} {d : Nat} (hd : 2 ≤ d + 1) {N : Nat} {k4 : Nat → Int32 → Int32 → eH → Option (Int32 × eH)} (hk4 : ∀ l0 l1 l2 h q, k4 l0 l1 l2 h = some q → wp w (d + 1) YX6_areFractions 4 [some (.ref l0), some (.int l1), some (.int l2), none] [] h (e_is (e_rn c_I q))) {l0 : Nat} {l2 : Int32} {s0 : Int32} {h : eH} {q} (hf : fX6_areFractions_b66 N k4 l0 l2 s0 h = some q) : wp w (d + 1) YX6_areFractions 66 [some (.ref l0), none, some (.int l2), none] [.int s0] h (e_is (e_rn c_I q)) := by
  unfold fX6_areFractions_b66 at hf
  refine w_iconst dX6_areFractions_66 (v := 1) (by decide) ?_
  refine w_goto 71 dX6_areFractions_67 (by decide) ?_
  exact (pX6_areFractions_b71 hd hk4 hf).to ⟨rfl, rfl, trivial⟩
def fX6_areFractions_b21 (N : Nat) (k4 : Nat → Int32 → Int32 → eH → Option (Int32 × eH)) : Nat → Nat → Int32 → Int32 → Int32 → eH → Option (Int32 × eH)
  | 0, _, _, _, _, _ => none
  | n + 1, l0, l1, l2, l3, h =>
    (g_A 5 h l0 3).bind fun a1 =>
    (r_I 100 h a1 l2).bind fun x3 =>
    if x3 ≤ l3 then
      if l2 = (7 : Int32) then
        fX6_areFractions_b66 N k4 l0 l2 l1 h
      else
        (k_ok 5 h l0).bind fun _ =>
        (fX6_word l0 l2 (0 : Int32) h).bind fun q8 =>
        if ¬ q8.1 = 0 then
          fX6_areFractions_b71 N k4 l0 l2 l1 (0 : Int32) q8.2
        else
          fX6_areFractions_b66 N k4 l0 l2 l1 q8.2
    else
      (k_ok 5 h l0).bind fun _ =>
      (fX6_word l0 l2 l3 h).bind fun q11 =>
      (k_ok 5 q11.2 l0).bind fun _ =>
      (fX6_isFraction l0 q11.1 q11.2).bind fun q13 =>
      fX6_areFractions_b21 N k4 n l0 (l1 &&& q13.1) l2 (l3 + (1 : Int32)) q13.2
theorem pX6_areFractions_b21 {w : eW} {d : Nat} (hd : 2 ≤ d + 1) {N : Nat} {k4 : Nat → Int32 → Int32 → eH → Option (Int32 × eH)} (hk4 : ∀ l0 l1 l2 h q, k4 l0 l1 l2 h = some q → wp w (d + 1) YX6_areFractions 4 [some (.ref l0), some (.int l1), some (.int l2), none] [] h (e_is (e_rn c_I q))) : ∀ (n : Nat) l0 l1 l2 l3 h q, fX6_areFractions_b21 N k4 n l0 l1 l2 l3 h = some q → wp w (d + 1) YX6_areFractions 21 [some (.ref l0), some (.int l1), some (.int l2), some (.int l3)] [] h (e_is (e_rn c_I q)) := by
  intro n
  induction n with
  | zero => intro l0 l1 l2 l3 h q hf; simp [fX6_areFractions_b21] at hf
  | succ n ih =>
    intro l0 l1 l2 l3 h q hf
    rw [fX6_areFractions_b21] at hf
    refine w_iload_n dX6_areFractions_21 rfl rfl ?_
    refine w_aload_n dX6_areFractions_22 rfl rfl ?_
    obtain ⟨a1, b2, hf⟩ := Option.bind_eq_some_iff.mp hf
    refine GX6_21 b2 dX6_areFractions_23 rfl ?_
    refine w_iload_n dX6_areFractions_26 rfl rfl ?_
    obtain ⟨x3, b4, hf⟩ := Option.bind_eq_some_iff.mp hf
    refine x_rI b4 dX6_areFractions_27 ?_
    refine w_icmp_ge 50 dX6_areFractions_28 (by decide) (fun c5 => ?_) (fun c5 => ?_)
    · replace hf := (if_pos (show x3 ≤ l3 from c5)).symm.trans hf
      refine w_iload_n dX6_areFractions_50 rfl rfl ?_
      refine w_iload_n dX6_areFractions_51 rfl rfl ?_
      refine w_bipush dX6_areFractions_52 (v := 7) (by decide) ?_
      refine w_icmp_eq 66 dX6_areFractions_54 (by decide) (fun c6 => ?_) (fun c6 => ?_)
      · replace hf := (if_pos (show l2 = (7 : Int32) from c6)).symm.trans hf
        exact (pX6_areFractions_b66 hd hk4 hf).to ⟨rfl, rfl, trivial⟩
      · replace hf := (if_neg (show ¬ (l2 = (7 : Int32)) from c6)).symm.trans hf
        refine w_aload_n dX6_areFractions_57 rfl rfl ?_
        refine w_iload_n dX6_areFractions_58 rfl rfl ?_
        refine w_iconst dX6_areFractions_59 (v := 0) (by decide) ?_
        obtain ⟨_, b7, hf⟩ := Option.bind_eq_some_iff.mp hf
        refine x_cnI hf (e_stV (Yc := YX6_word) (ci := 5) (av := [.int l2, .int (0 : Int32)]) (st := [.int l1]) dX6_areFractions_60 q2229 mX6_word rfl (k_ok_some b7).1 (k_ok_some b7).2) mX6_word.2.2.1 mX6_word.2.2.2.2.1 (Nat.le_of_ble_eq_true rfl) (Nat.le_of_ble_eq_true rfl) (fun q hq => pX6_word (by omega) hq) (fun q8 hf => ?_)
        refine w_if_ne 70 dX6_areFractions_63 (by decide) (fun c9 => ?_) (fun c9 => ?_)
        · replace hf := (if_pos (show ¬ q8.1 = 0 from c9)).symm.trans hf
          refine w_iconst dX6_areFractions_70 (v := 0) (by decide) ?_
          exact (pX6_areFractions_b71 hd hk4 hf).to ⟨rfl, rfl, trivial⟩
        · replace hf := (if_neg (show ¬ (¬ q8.1 = 0) from (fun z => z c9))).symm.trans hf
          exact (pX6_areFractions_b66 hd hk4 hf).to ⟨rfl, rfl, trivial⟩
    · replace hf := (if_neg (show ¬ (x3 ≤ l3) from c5)).symm.trans hf
      refine w_iload_n dX6_areFractions_31 rfl rfl ?_
      refine w_aload_n dX6_areFractions_32 rfl rfl ?_
      refine w_aload_n dX6_areFractions_33 rfl rfl ?_
      refine w_iload_n dX6_areFractions_34 rfl rfl ?_
      refine w_iload_n dX6_areFractions_35 rfl rfl ?_
      obtain ⟨_, b10, hf⟩ := Option.bind_eq_some_iff.mp hf
      refine x_cnI hf (e_stV (Yc := YX6_word) (ci := 5) (av := [.int l2, .int l3]) (st := [.ref l0, .int l1]) dX6_areFractions_36 q2229 mX6_word rfl (k_ok_some b10).1 (k_ok_some b10).2) mX6_word.2.2.1 mX6_word.2.2.2.2.1 (Nat.le_of_ble_eq_true rfl) (Nat.le_of_ble_eq_true rfl) (fun q hq => pX6_word (by omega) hq) (fun q11 hf => ?_)
      obtain ⟨_, b12, hf⟩ := Option.bind_eq_some_iff.mp hf
      refine x_cnI hf (e_stV (Yc := YX6_isFraction) (ci := 5) (av := [.int q11.1]) (st := [.int l1]) dX6_areFractions_39 q2274 mX6_isFraction rfl (k_ok_some b12).1 (k_ok_some b12).2) mX6_isFraction.2.2.1 mX6_isFraction.2.2.2.2.1 (Nat.le_of_ble_eq_true rfl) (Nat.le_of_ble_eq_true rfl) (fun q hq => pX6_isFraction (by omega) hq) (fun q13 hf => ?_)
      refine w_iand dX6_areFractions_42 ?_
      refine w_istore_n dX6_areFractions_43 rfl (by decide) (ls' := [some (.ref l0), some (.int (l1 &&& q13.1)), some (.int l2), some (.int l3)]) rfl ?_
      refine w_iinc dX6_areFractions_44 (v := (l3 + (1 : Int32))) rfl rfl (by decide) (ls' := [some (.ref l0), some (.int (l1 &&& q13.1)), some (.int l2), some (.int (l3 + (1 : Int32)))]) rfl ?_
      refine w_goto 21 dX6_areFractions_47 (by decide) ?_
      exact (ih _ _ _ _ _ _ hf).to ⟨rfl, rfl, rfl, rfl, trivial⟩
def fX6_areFractions_b4 (N : Nat) : Nat → Nat → Int32 → Int32 → eH → Option (Int32 × eH)
  | 0, _, _, _, _ => none
  | n + 1, l0, l1, l2, h =>
    if (7 : Int32) < l2 then
      z_r l1 (l1, h)
    else
      if ¬ l2 = (6 : Int32) then
        fX6_areFractions_b21 N (fX6_areFractions_b4 N n) N l0 l1 l2 (0 : Int32) h
      else
        fX6_areFractions_b73 N (fX6_areFractions_b4 N n) l0 l1 l2 h
theorem pX6_areFractions_b4 {w : eW} {d : Nat} (hd : 2 ≤ d + 1) {N : Nat} : ∀ (n : Nat) l0 l1 l2 h q, fX6_areFractions_b4 N n l0 l1 l2 h = some q → wp w (d + 1) YX6_areFractions 4 [some (.ref l0), some (.int l1), some (.int l2), none] [] h (e_is (e_rn c_I q)) := by
  intro n
  induction n with
  | zero => intro l0 l1 l2 h q hf; simp [fX6_areFractions_b4] at hf
  | succ n ih =>
    intro l0 l1 l2 h q hf
    rw [fX6_areFractions_b4] at hf
    refine w_iload_n dX6_areFractions_4 rfl rfl ?_
    refine w_bipush dX6_areFractions_5 (v := 7) (by decide) ?_
    refine w_icmp_gt 79 dX6_areFractions_7 (by decide) (fun c1 => ?_) (fun c1 => ?_)
    · replace hf := (if_pos (show (7 : Int32) < l2 from c1)).symm.trans hf
      refine w_iload_n dX6_areFractions_79 rfl rfl ?_
      obtain ⟨b2, rfl⟩ := z_r_some hf
      exact w_iret dX6_areFractions_80 rfl b2 rfl
    · replace hf := (if_neg (show ¬ ((7 : Int32) < l2) from c1)).symm.trans hf
      refine w_iload_n dX6_areFractions_10 rfl rfl ?_
      refine w_bipush dX6_areFractions_11 (v := 6) (by decide) ?_
      refine w_icmp_ne 19 dX6_areFractions_13 (by decide) (fun c3 => ?_) (fun c3 => ?_)
      · replace hf := (if_pos (show ¬ l2 = (6 : Int32) from c3)).symm.trans hf
        refine w_iconst dX6_areFractions_19 (v := 0) (by decide) ?_
        refine w_istore_n dX6_areFractions_20 rfl (by decide) (ls' := [some (.ref l0), some (.int l1), some (.int l2), some (.int (0 : Int32))]) rfl ?_
        exact (pX6_areFractions_b21 hd ih N _ _ _ _ _ _ hf).to ⟨rfl, rfl, rfl, rfl, trivial⟩
      · replace hf := (if_neg (show ¬ (¬ l2 = (6 : Int32)) from (fun z => z c3))).symm.trans hf
        refine w_goto 73 dX6_areFractions_16 (by decide) ?_
        exact (pX6_areFractions_b73 hd ih hf).to ⟨rfl, rfl, rfl, trivial⟩
def fX6_areFractions (N : Nat) (this : Nat) (h : eH) : Option (Int32 × eH) :=
  fX6_areFractions_b4 N N this (1 : Int32) (2 : Int32) h
theorem pX6_areFractions {w : eW} {d : Nat} (hd : 2 ≤ d) {N : Nat} {this : Nat} {h : eH} {q} (hf : fX6_areFractions N this h = some q) : wm w d YX6_areFractions [.ref this] h (e_is (e_rn c_I q)) := by
  obtain ⟨d, rfl⟩ : ∃ e, d = e + 1 := ⟨d - 1, by omega⟩
  show wp w (d + 1) YX6_areFractions 0 [some (.ref this), none, none, none] [] h _
  unfold fX6_areFractions at hf
  refine w_iconst dX6_areFractions_0 (v := 1) (by decide) ?_
  refine w_istore_n dX6_areFractions_1 rfl (by decide) (ls' := [some (.ref this), some (.int (1 : Int32)), none, none]) rfl ?_
  refine w_iconst dX6_areFractions_2 (v := 2) (by decide) ?_
  refine w_istore_n dX6_areFractions_3 rfl (by decide) (ls' := [some (.ref this), some (.int (1 : Int32)), some (.int (2 : Int32)), none]) rfl ?_
  exact (pX6_areFractions_b4 hd N _ _ _ _ _ hf).to ⟨rfl, rfl, rfl, trivial⟩
abbrev cX6_far : ByteArray := prog_7_method_7_code
def yX6_far : MethodName := ⟨RX6, "far", "(I)I"⟩
def YX6_far : eY := (yX6_far, cX6_far, 1, (Option.some FieldType.int), [])
theorem mX6_far : e_ms YX6_far 1 := ⟨q2283, q431, q2284, by decide, by decide +kernel, (e_sig (by decide +kernel))⟩
theorem dX6_far_0 : decode cX6_far 0 = .ok (.iload_n 0, 1) := dc_26 (by decide +kernel)
theorem dX6_far_1 : decode cX6_far 1 = .ok (.ldc 24, 2) := dc_18 (a := 24) (by decide +kernel)
theorem dX6_far_3 : decode cX6_far 3 = .ok (.iand, 1) := dc_126 (by decide +kernel)
theorem dX6_far_4 : decode cX6_far 4 = .ok (.ireturn, 1) := dc_172 (by decide +kernel)
def fX6_far (p0 : Int32) (h : eH) : Option (Int32 × eH) :=
  some ((p0 &&& (65535 : Int32)), h)
theorem pX6_far {w : eW} {d : Nat} (hd : 0 ≤ d) {p0 : Int32} {h : eH} {q} (hf : fX6_far p0 h = some q) : wm w d YX6_far [.int p0] h (e_is (e_rn c_I q)) := by
  show wp w d YX6_far 0 [some (.int p0)] [] h _
  unfold fX6_far at hf
  refine w_iload_n dX6_far_0 rfl rfl ?_
  refine w_ldc dX6_far_1 q2285 ?_
  refine w_iand dX6_far_3 ?_
  cases hf
  exact w_iret dX6_far_4 rfl rfl rfl
abbrev cX6_isStepRight : ByteArray := prog_7_method_17_code
def yX6_isStepRight : MethodName := ⟨RX6, "isStepRight", "(I)Z"⟩
def YX6_isStepRight : eY := (yX6_isStepRight, cX6_isStepRight, 5, (Option.some FieldType.boolean), [])
theorem mX6_isStepRight : e_mv YX6_isStepRight RX6 1 := ⟨q2288, qs27, q2289, by decide, by decide +kernel, (e_sig (by decide +kernel))⟩
theorem dX6_isStepRight_0 : decode cX6_isStepRight 0 = .ok (.aload_n 0, 1) := dc_42 (by decide +kernel)
theorem dX6_isStepRight_1 : decode cX6_isStepRight 1 = .ok (.bipush 6, 2) := dc_16 (a := 6) (v := 6) (by decide +kernel)
theorem dX6_isStepRight_3 : decode cX6_isStepRight 3 = .ok (.iload_n 1, 1) := dc_27 (by decide +kernel)
theorem dX6_isStepRight_4 : decode cX6_isStepRight 4 = .ok (.invokevirtual 32, 3) := dc_182 (a := 0) (b := 32) (n := 32) (by decide +kernel)
theorem dX6_isStepRight_7 : decode cX6_isStepRight 7 = .ok (.istore_n 2, 1) := dc_61 (by decide +kernel)
theorem dX6_isStepRight_8 : decode cX6_isStepRight 8 = .ok (.iload_n 2, 1) := dc_28 (by decide +kernel)
theorem dX6_isStepRight_9 : decode cX6_isStepRight 9 = .ok (.invokestatic 36, 3) := dc_184 (a := 0) (b := 36) (n := 36) (by decide +kernel)
theorem dX6_isStepRight_12 : decode cX6_isStepRight 12 = .ok (.sipush 128, 3) := dc_17 (a := 0) (b := 128) (v := 128) (by decide +kernel)
theorem dX6_isStepRight_15 : decode cX6_isStepRight 15 = .ok (.if_icmp .le 23, 3) := dc_164 (a := 0) (b := 23) (v := 23) (by decide +kernel)
theorem dX6_isStepRight_18 : decode cX6_isStepRight 18 = .ok (.iload_n 2, 1) := dc_28 (by decide +kernel)
theorem dX6_isStepRight_19 : decode cX6_isStepRight 19 = .ok (.invokestatic 78, 3) := dc_184 (a := 0) (b := 78) (n := 78) (by decide +kernel)
theorem dX6_isStepRight_22 : decode cX6_isStepRight 22 = .ok (.aload_n 0, 1) := dc_42 (by decide +kernel)
theorem dX6_isStepRight_23 : decode cX6_isStepRight 23 = .ok (.getfield 21, 3) := dc_180 (a := 0) (b := 21) (n := 21) (by decide +kernel)
theorem dX6_isStepRight_26 : decode cX6_isStepRight 26 = .ok (.bipush 6, 2) := dc_16 (a := 6) (v := 6) (by decide +kernel)
theorem dX6_isStepRight_28 : decode cX6_isStepRight 28 = .ok (.iaload, 1) := dc_46 (by decide +kernel)
theorem dX6_isStepRight_29 : decode cX6_isStepRight 29 = .ok (.if_icmp .ge 7, 3) := dc_162 (a := 0) (b := 7) (v := 7) (by decide +kernel)
theorem dX6_isStepRight_32 : decode cX6_isStepRight 32 = .ok (.iconst 1, 1) := dc_4 (by decide +kernel)
theorem dX6_isStepRight_33 : decode cX6_isStepRight 33 = .ok (.goto 4, 3) := dc_167 (a := 0) (b := 4) (v := 4) (by decide +kernel)
theorem dX6_isStepRight_36 : decode cX6_isStepRight 36 = .ok (.iconst 0, 1) := dc_3 (by decide +kernel)
theorem dX6_isStepRight_37 : decode cX6_isStepRight 37 = .ok (.ireturn, 1) := dc_172 (by decide +kernel)
theorem dX6_isStepRight_38 : decode cX6_isStepRight 38 = .ok (.iload_n 2, 1) := dc_28 (by decide +kernel)
theorem dX6_isStepRight_39 : decode cX6_isStepRight 39 = .ok (.invokestatic 56, 3) := dc_184 (a := 0) (b := 56) (n := 56) (by decide +kernel)
theorem dX6_isStepRight_42 : decode cX6_isStepRight 42 = .ok (.sipush 128, 3) := dc_17 (a := 0) (b := 128) (v := 128) (by decide +kernel)
theorem dX6_isStepRight_45 : decode cX6_isStepRight 45 = .ok (.if_icmp .lt 7, 3) := dc_161 (a := 0) (b := 7) (v := 7) (by decide +kernel)
theorem dX6_isStepRight_48 : decode cX6_isStepRight 48 = .ok (.iconst 1, 1) := dc_4 (by decide +kernel)
theorem dX6_isStepRight_49 : decode cX6_isStepRight 49 = .ok (.goto 4, 3) := dc_167 (a := 0) (b := 4) (v := 4) (by decide +kernel)
theorem dX6_isStepRight_52 : decode cX6_isStepRight 52 = .ok (.iconst 0, 1) := dc_3 (by decide +kernel)
theorem dX6_isStepRight_53 : decode cX6_isStepRight 53 = .ok (.istore_n 3, 1) := dc_62 (by decide +kernel)
theorem dX6_isStepRight_54 : decode cX6_isStepRight 54 = .ok (.aload_n 0, 1) := dc_42 (by decide +kernel)
theorem dX6_isStepRight_55 : decode cX6_isStepRight 55 = .ok (.iload_n 2, 1) := dc_28 (by decide +kernel)
theorem dX6_isStepRight_56 : decode cX6_isStepRight 56 = .ok (.invokestatic 53, 3) := dc_184 (a := 0) (b := 53) (n := 53) (by decide +kernel)
theorem dX6_isStepRight_59 : decode cX6_isStepRight 59 = .ok (.invokevirtual 65, 3) := dc_182 (a := 0) (b := 65) (n := 65) (by decide +kernel)
theorem dX6_isStepRight_62 : decode cX6_isStepRight 62 = .ok (.ifCond .ne 14, 3) := dc_154 (a := 0) (b := 14) (v := 14) (by decide +kernel)
theorem dX6_isStepRight_65 : decode cX6_isStepRight 65 = .ok (.iload_n 2, 1) := dc_28 (by decide +kernel)
theorem dX6_isStepRight_66 : decode cX6_isStepRight 66 = .ok (.invokestatic 53, 3) := dc_184 (a := 0) (b := 53) (n := 53) (by decide +kernel)
theorem dX6_isStepRight_69 : decode cX6_isStepRight 69 = .ok (.aload_n 0, 1) := dc_42 (by decide +kernel)
theorem dX6_isStepRight_70 : decode cX6_isStepRight 70 = .ok (.getfield 81, 3) := dc_180 (a := 0) (b := 81) (n := 81) (by decide +kernel)
theorem dX6_isStepRight_73 : decode cX6_isStepRight 73 = .ok (.if_icmp .ne 7, 3) := dc_160 (a := 0) (b := 7) (v := 7) (by decide +kernel)
theorem dX6_isStepRight_76 : decode cX6_isStepRight 76 = .ok (.iconst 1, 1) := dc_4 (by decide +kernel)
theorem dX6_isStepRight_77 : decode cX6_isStepRight 77 = .ok (.goto 4, 3) := dc_167 (a := 0) (b := 4) (v := 4) (by decide +kernel)
theorem dX6_isStepRight_80 : decode cX6_isStepRight 80 = .ok (.iconst 0, 1) := dc_3 (by decide +kernel)
theorem dX6_isStepRight_81 : decode cX6_isStepRight 81 = .ok (.istore 4, 2) := dc_54 (a := 4) (by decide +kernel)
theorem dX6_isStepRight_83 : decode cX6_isStepRight 83 = .ok (.iload 4, 2) := dc_21 (a := 4) (by decide +kernel)
theorem dX6_isStepRight_85 : decode cX6_isStepRight 85 = .ok (.iload_n 3, 1) := dc_29 (by decide +kernel)
theorem dX6_isStepRight_86 : decode cX6_isStepRight 86 = .ok (.ifCond .eq 38, 3) := dc_153 (a := 0) (b := 38) (v := 38) (by decide +kernel)
theorem dX6_isStepRight_89 : decode cX6_isStepRight 89 = .ok (.sipush 256, 3) := dc_17 (a := 1) (b := 0) (v := 256) (by decide +kernel)
theorem dX6_isStepRight_92 : decode cX6_isStepRight 92 = .ok (.iload_n 2, 1) := dc_28 (by decide +kernel)
theorem dX6_isStepRight_93 : decode cX6_isStepRight 93 = .ok (.invokestatic 56, 3) := dc_184 (a := 0) (b := 56) (n := 56) (by decide +kernel)
theorem dX6_isStepRight_96 : decode cX6_isStepRight 96 = .ok (.sipush 128, 3) := dc_17 (a := 0) (b := 128) (v := 128) (by decide +kernel)
theorem dX6_isStepRight_99 : decode cX6_isStepRight 99 = .ok (.isub, 1) := dc_100 (by decide +kernel)
theorem dX6_isStepRight_100 : decode cX6_isStepRight 100 = .ok (.imul, 1) := dc_104 (by decide +kernel)
theorem dX6_isStepRight_101 : decode cX6_isStepRight 101 = .ok (.iload_n 2, 1) := dc_28 (by decide +kernel)
theorem dX6_isStepRight_102 : decode cX6_isStepRight 102 = .ok (.invokestatic 59, 3) := dc_184 (a := 0) (b := 59) (n := 59) (by decide +kernel)
theorem dX6_isStepRight_105 : decode cX6_isStepRight 105 = .ok (.iadd, 1) := dc_96 (by decide +kernel)
theorem dX6_isStepRight_106 : decode cX6_isStepRight 106 = .ok (.aload_n 0, 1) := dc_42 (by decide +kernel)
theorem dX6_isStepRight_107 : decode cX6_isStepRight 107 = .ok (.getfield 21, 3) := dc_180 (a := 0) (b := 21) (n := 21) (by decide +kernel)
theorem dX6_isStepRight_110 : decode cX6_isStepRight 110 = .ok (.bipush 7, 2) := dc_16 (a := 7) (v := 7) (by decide +kernel)
theorem dX6_isStepRight_112 : decode cX6_isStepRight 112 = .ok (.iaload, 1) := dc_46 (by decide +kernel)
theorem dX6_isStepRight_113 : decode cX6_isStepRight 113 = .ok (.if_icmp .ge 7, 3) := dc_162 (a := 0) (b := 7) (v := 7) (by decide +kernel)
theorem dX6_isStepRight_116 : decode cX6_isStepRight 116 = .ok (.iconst 1, 1) := dc_4 (by decide +kernel)
theorem dX6_isStepRight_117 : decode cX6_isStepRight 117 = .ok (.goto 15, 3) := dc_167 (a := 0) (b := 15) (v := 15) (by decide +kernel)
theorem dX6_isStepRight_120 : decode cX6_isStepRight 120 = .ok (.iconst 0, 1) := dc_3 (by decide +kernel)
theorem dX6_isStepRight_121 : decode cX6_isStepRight 121 = .ok (.goto 11, 3) := dc_167 (a := 0) (b := 11) (v := 11) (by decide +kernel)
theorem dX6_isStepRight_124 : decode cX6_isStepRight 124 = .ok (.aload_n 0, 1) := dc_42 (by decide +kernel)
theorem dX6_isStepRight_125 : decode cX6_isStepRight 125 = .ok (.iload_n 2, 1) := dc_28 (by decide +kernel)
theorem dX6_isStepRight_126 : decode cX6_isStepRight 126 = .ok (.invokestatic 59, 3) := dc_184 (a := 0) (b := 59) (n := 59) (by decide +kernel)
theorem dX6_isStepRight_129 : decode cX6_isStepRight 129 = .ok (.invokevirtual 65, 3) := dc_182 (a := 0) (b := 65) (n := 65) (by decide +kernel)
theorem dX6_isStepRight_132 : decode cX6_isStepRight 132 = .ok (.iand, 1) := dc_126 (by decide +kernel)
theorem dX6_isStepRight_133 : decode cX6_isStepRight 133 = .ok (.istore 4, 2) := dc_54 (a := 4) (by decide +kernel)
theorem dX6_isStepRight_135 : decode cX6_isStepRight 135 = .ok (.iload 4, 2) := dc_21 (a := 4) (by decide +kernel)
theorem dX6_isStepRight_137 : decode cX6_isStepRight 137 = .ok (.ifCond .eq 35, 3) := dc_153 (a := 0) (b := 35) (v := 35) (by decide +kernel)
theorem dX6_isStepRight_140 : decode cX6_isStepRight 140 = .ok (.iload_n 2, 1) := dc_28 (by decide +kernel)
theorem dX6_isStepRight_141 : decode cX6_isStepRight 141 = .ok (.invokestatic 36, 3) := dc_184 (a := 0) (b := 36) (n := 36) (by decide +kernel)
theorem dX6_isStepRight_144 : decode cX6_isStepRight 144 = .ok (.sipush 128, 3) := dc_17 (a := 0) (b := 128) (v := 128) (by decide +kernel)
theorem dX6_isStepRight_147 : decode cX6_isStepRight 147 = .ok (.if_icmp .eq 21, 3) := dc_159 (a := 0) (b := 21) (v := 21) (by decide +kernel)
theorem dX6_isStepRight_150 : decode cX6_isStepRight 150 = .ok (.iload_n 1, 1) := dc_27 (by decide +kernel)
theorem dX6_isStepRight_151 : decode cX6_isStepRight 151 = .ok (.iload_n 2, 1) := dc_28 (by decide +kernel)
theorem dX6_isStepRight_152 : decode cX6_isStepRight 152 = .ok (.invokestatic 36, 3) := dc_184 (a := 0) (b := 36) (n := 36) (by decide +kernel)
theorem dX6_isStepRight_155 : decode cX6_isStepRight 155 = .ok (.iadd, 1) := dc_96 (by decide +kernel)
theorem dX6_isStepRight_156 : decode cX6_isStepRight 156 = .ok (.iconst 1, 1) := dc_4 (by decide +kernel)
theorem dX6_isStepRight_157 : decode cX6_isStepRight 157 = .ok (.iadd, 1) := dc_96 (by decide +kernel)
theorem dX6_isStepRight_158 : decode cX6_isStepRight 158 = .ok (.aload_n 0, 1) := dc_42 (by decide +kernel)
theorem dX6_isStepRight_159 : decode cX6_isStepRight 159 = .ok (.getfield 21, 3) := dc_180 (a := 0) (b := 21) (n := 21) (by decide +kernel)
theorem dX6_isStepRight_162 : decode cX6_isStepRight 162 = .ok (.bipush 6, 2) := dc_16 (a := 6) (v := 6) (by decide +kernel)
theorem dX6_isStepRight_164 : decode cX6_isStepRight 164 = .ok (.iaload, 1) := dc_46 (by decide +kernel)
theorem dX6_isStepRight_165 : decode cX6_isStepRight 165 = .ok (.if_icmp .ge 7, 3) := dc_162 (a := 0) (b := 7) (v := 7) (by decide +kernel)
theorem dX6_isStepRight_168 : decode cX6_isStepRight 168 = .ok (.iconst 1, 1) := dc_4 (by decide +kernel)
theorem dX6_isStepRight_169 : decode cX6_isStepRight 169 = .ok (.goto 4, 3) := dc_167 (a := 0) (b := 4) (v := 4) (by decide +kernel)
theorem dX6_isStepRight_172 : decode cX6_isStepRight 172 = .ok (.iconst 0, 1) := dc_3 (by decide +kernel)
theorem dX6_isStepRight_173 : decode cX6_isStepRight 173 = .ok (.ireturn, 1) := dc_172 (by decide +kernel)
theorem GX6_81 {w : eW} {d : Nat} {Y : eY} {pc : Nat} {ls : eL} {st : List Value} {h : eH} {Q : eO → eH → Prop} {a : Nat} {x : Int32} (hf : g_I 5 h a 8 = some x) (hd : decode Y.2.1 pc = .ok (.getfield 81, 3)) (hY : Y.1.cls = RX6) (kk : wp w d Y (pc + 3) ls (.int x :: st) h Q) : wp w d Y pc ls (.ref a :: st) h Q := x_gI (ci := 5) (k := 8) hf hd rfl (by decide) (by rw [hY]; exact q555) kk
def fX6_isStepRight_b37 (s0 : Int32) (h : eH) : Option (Int32 × eH) :=
  z_r s0 (s0, h)
theorem pX6_isStepRight_b37 {w : eW} {d : Nat} (hd : 2 ≤ d + 1) {s0 : Int32} {h : eH} {q} (hf : fX6_isStepRight_b37 s0 h = some q) : wp w (d + 1) YX6_isStepRight 37 [none, none, none, none, none] [.int s0] h (e_is (e_rn c_I q)) := by
  unfold fX6_isStepRight_b37 at hf
  obtain ⟨b1, rfl⟩ := z_r_some hf
  exact w_iret dX6_isStepRight_37 rfl b1 rfl
def fX6_isStepRight_b173 (s0 : Int32) (h : eH) : Option (Int32 × eH) :=
  z_r s0 (s0, h)
theorem pX6_isStepRight_b173 {w : eW} {d : Nat} (hd : 2 ≤ d + 1) {s0 : Int32} {h : eH} {q} (hf : fX6_isStepRight_b173 s0 h = some q) : wp w (d + 1) YX6_isStepRight 173 [none, none, none, none, none] [.int s0] h (e_is (e_rn c_I q)) := by
  unfold fX6_isStepRight_b173 at hf
  obtain ⟨b1, rfl⟩ := z_r_some hf
  exact w_iret dX6_isStepRight_173 rfl b1 rfl
def fX6_isStepRight_b168  (h : eH) : Option (Int32 × eH) :=
  fX6_isStepRight_b173 (1 : Int32) h
theorem pX6_isStepRight_b168 {w : eW} {d : Nat} (hd : 2 ≤ d + 1)  {h : eH} {q} (hf : fX6_isStepRight_b168  h = some q) : wp w (d + 1) YX6_isStepRight 168 [none, none, none, none, none] [] h (e_is (e_rn c_I q)) := by
  unfold fX6_isStepRight_b168 at hf
  refine w_iconst dX6_isStepRight_168 (v := 1) (by decide) ?_
  refine w_goto 173 dX6_isStepRight_169 (by decide) ?_
  exact (pX6_isStepRight_b173 hd hf).to trivial
def fX6_isStepRight_b172  (h : eH) : Option (Int32 × eH) :=
  fX6_isStepRight_b173 (0 : Int32) h
theorem pX6_isStepRight_b172 {w : eW} {d : Nat} (hd : 2 ≤ d + 1)  {h : eH} {q} (hf : fX6_isStepRight_b172  h = some q) : wp w (d + 1) YX6_isStepRight 172 [none, none, none, none, none] [] h (e_is (e_rn c_I q)) := by
  unfold fX6_isStepRight_b172 at hf
  refine w_iconst dX6_isStepRight_172 (v := 0) (by decide) ?_
  exact (pX6_isStepRight_b173 hd hf).to trivial
def fX6_isStepRight_b132 (l0 : Nat) (l1 : Int32) (l2 : Int32) (s0 : Int32) (s1 : Int32) (h : eH) : Option (Int32 × eH) :=
  if (s0 &&& s1) = 0 then
    fX6_isStepRight_b172 h
  else
    (fX6_a l2 h).bind fun q2 =>
    if q2.1 = (128 : Int32) then
      fX6_isStepRight_b168 q2.2
    else
      (fX6_a l2 q2.2).bind fun q4 =>
      (g_A 5 q4.2 l0 3).bind fun a5 =>
      (r_I 100 q4.2 a5 (6 : Int32)).bind fun x7 =>
      if x7 ≤ ((l1 + q4.1) + (1 : Int32)) then
        fX6_isStepRight_b172 q4.2
      else
        fX6_isStepRight_b168 q4.2
theorem pX6_isStepRight_b132 {w : eW} {d : Nat} (hd : 2 ≤ d + 1) {l0 : Nat} {l1 : Int32} {l2 : Int32} {s0 : Int32} {s1 : Int32} {h : eH} {q} (hf : fX6_isStepRight_b132 l0 l1 l2 s0 s1 h = some q) : wp w (d + 1) YX6_isStepRight 132 [some (.ref l0), some (.int l1), some (.int l2), none, none] [.int s1, .int s0] h (e_is (e_rn c_I q)) := by
  unfold fX6_isStepRight_b132 at hf
  refine w_iand dX6_isStepRight_132 ?_
  refine w_istore dX6_isStepRight_133 (by decide) (ls' := [some (.ref l0), some (.int l1), some (.int l2), none, some (.int (s0 &&& s1))]) rfl ?_
  refine w_iload dX6_isStepRight_135 rfl ?_
  refine w_if_eq 172 dX6_isStepRight_137 (by decide) (fun c1 => ?_) (fun c1 => ?_)
  · replace hf := (if_pos (show (s0 &&& s1) = 0 from c1)).symm.trans hf
    exact (pX6_isStepRight_b172 hd hf).to trivial
  · replace hf := (if_neg (show ¬ ((s0 &&& s1) = 0) from c1)).symm.trans hf
    refine w_iload_n dX6_isStepRight_140 rfl rfl ?_
    refine x_cnI hf (e_stS (Yc := YX6_a) (av := [.int l2]) (st := []) dX6_isStepRight_141 q2238 mX6_a) mX6_a.2.2.1 mX6_a.2.2.2.2.1 (Nat.le_of_ble_eq_true rfl) (Nat.le_of_ble_eq_true rfl) (fun q hq => pX6_a (by omega) hq) (fun q2 hf => ?_)
    refine w_sipush dX6_isStepRight_144 (v := 128) (by decide) ?_
    refine w_icmp_eq 168 dX6_isStepRight_147 (by decide) (fun c3 => ?_) (fun c3 => ?_)
    · replace hf := (if_pos (show q2.1 = (128 : Int32) from c3)).symm.trans hf
      exact (pX6_isStepRight_b168 hd hf).to trivial
    · replace hf := (if_neg (show ¬ (q2.1 = (128 : Int32)) from c3)).symm.trans hf
      refine w_iload_n dX6_isStepRight_150 rfl rfl ?_
      refine w_iload_n dX6_isStepRight_151 rfl rfl ?_
      refine x_cnI hf (e_stS (Yc := YX6_a) (av := [.int l2]) (st := [.int l1]) dX6_isStepRight_152 q2238 mX6_a) mX6_a.2.2.1 mX6_a.2.2.2.2.1 (Nat.le_of_ble_eq_true rfl) (Nat.le_of_ble_eq_true rfl) (fun q hq => pX6_a (by omega) hq) (fun q4 hf => ?_)
      refine w_iadd dX6_isStepRight_155 ?_
      refine w_iconst dX6_isStepRight_156 (v := 1) (by decide) ?_
      refine w_iadd dX6_isStepRight_157 ?_
      refine w_aload_n dX6_isStepRight_158 rfl rfl ?_
      obtain ⟨a5, b6, hf⟩ := Option.bind_eq_some_iff.mp hf
      refine GX6_21 b6 dX6_isStepRight_159 rfl ?_
      refine w_bipush dX6_isStepRight_162 (v := 6) (by decide) ?_
      obtain ⟨x7, b8, hf⟩ := Option.bind_eq_some_iff.mp hf
      refine x_rI b8 dX6_isStepRight_164 ?_
      refine w_icmp_ge 172 dX6_isStepRight_165 (by decide) (fun c9 => ?_) (fun c9 => ?_)
      · replace hf := (if_pos (show x7 ≤ ((l1 + q4.1) + (1 : Int32)) from c9)).symm.trans hf
        exact (pX6_isStepRight_b172 hd hf).to trivial
      · replace hf := (if_neg (show ¬ (x7 ≤ ((l1 + q4.1) + (1 : Int32))) from c9)).symm.trans hf
        exact (pX6_isStepRight_b168 hd hf).to trivial
def fX6_isStepRight_b81 (l0 : Nat) (l1 : Int32) (l2 : Int32) (l3 : Int32) (s0 : Int32) (h : eH) : Option (Int32 × eH) :=
  if l3 = 0 then
    (fX6_d l2 h).bind fun q2 =>
    (k_ok 5 q2.2 l0).bind fun _ =>
    (fX6_has l0 q2.1 q2.2).bind fun q4 =>
    fX6_isStepRight_b132 l0 l1 l2 s0 q4.1 q4.2
  else
    (fX6_c l2 h).bind fun q5 =>
    (fX6_d l2 q5.2).bind fun q6 =>
    (g_A 5 q6.2 l0 3).bind fun a7 =>
    (r_I 100 q6.2 a7 (7 : Int32)).bind fun x9 =>
    if x9 ≤ (((256 : Int32) * (q5.1 - (128 : Int32))) + q6.1) then
      fX6_isStepRight_b132 l0 l1 l2 s0 (0 : Int32) q6.2
    else
      fX6_isStepRight_b132 l0 l1 l2 s0 (1 : Int32) q6.2
theorem pX6_isStepRight_b81 {w : eW} {d : Nat} (hd : 2 ≤ d + 1) {l0 : Nat} {l1 : Int32} {l2 : Int32} {l3 : Int32} {s0 : Int32} {h : eH} {q} (hf : fX6_isStepRight_b81 l0 l1 l2 l3 s0 h = some q) : wp w (d + 1) YX6_isStepRight 81 [some (.ref l0), some (.int l1), some (.int l2), some (.int l3), none] [.int s0] h (e_is (e_rn c_I q)) := by
  unfold fX6_isStepRight_b81 at hf
  refine w_istore dX6_isStepRight_81 (by decide) (ls' := [some (.ref l0), some (.int l1), some (.int l2), some (.int l3), some (.int s0)]) rfl ?_
  refine w_iload dX6_isStepRight_83 rfl ?_
  refine w_iload_n dX6_isStepRight_85 rfl rfl ?_
  refine w_if_eq 124 dX6_isStepRight_86 (by decide) (fun c1 => ?_) (fun c1 => ?_)
  · replace hf := (if_pos (show l3 = 0 from c1)).symm.trans hf
    refine w_aload_n dX6_isStepRight_124 rfl rfl ?_
    refine w_iload_n dX6_isStepRight_125 rfl rfl ?_
    refine x_cnI hf (e_stS (Yc := YX6_d) (av := [.int l2]) (st := [.ref l0, .int s0]) dX6_isStepRight_126 q2263 mX6_d) mX6_d.2.2.1 mX6_d.2.2.2.2.1 (Nat.le_of_ble_eq_true rfl) (Nat.le_of_ble_eq_true rfl) (fun q hq => pX6_d (by omega) hq) (fun q2 hf => ?_)
    obtain ⟨_, b3, hf⟩ := Option.bind_eq_some_iff.mp hf
    refine x_cnI hf (e_stV (Yc := YX6_has) (ci := 5) (av := [.int q2.1]) (st := [.int s0]) dX6_isStepRight_129 q2251 mX6_has rfl (k_ok_some b3).1 (k_ok_some b3).2) mX6_has.2.2.1 mX6_has.2.2.2.2.1 (Nat.le_of_ble_eq_true rfl) (Nat.le_of_ble_eq_true rfl) (fun q hq => pX6_has (by omega) hq) (fun q4 hf => ?_)
    exact (pX6_isStepRight_b132 hd hf).to ⟨rfl, rfl, rfl, trivial⟩
  · replace hf := (if_neg (show ¬ (l3 = 0) from c1)).symm.trans hf
    refine w_sipush dX6_isStepRight_89 (v := 256) (by decide) ?_
    refine w_iload_n dX6_isStepRight_92 rfl rfl ?_
    refine x_cnI hf (e_stS (Yc := YX6_c) (av := [.int l2]) (st := [.int (256 : Int32), .int s0]) dX6_isStepRight_93 q2244 mX6_c) mX6_c.2.2.1 mX6_c.2.2.2.2.1 (Nat.le_of_ble_eq_true rfl) (Nat.le_of_ble_eq_true rfl) (fun q hq => pX6_c (by omega) hq) (fun q5 hf => ?_)
    refine w_sipush dX6_isStepRight_96 (v := 128) (by decide) ?_
    refine w_isub dX6_isStepRight_99 ?_
    refine w_imul dX6_isStepRight_100 ?_
    refine w_iload_n dX6_isStepRight_101 rfl rfl ?_
    refine x_cnI hf (e_stS (Yc := YX6_d) (av := [.int l2]) (st := [.int ((256 : Int32) * (q5.1 - (128 : Int32))), .int s0]) dX6_isStepRight_102 q2263 mX6_d) mX6_d.2.2.1 mX6_d.2.2.2.2.1 (Nat.le_of_ble_eq_true rfl) (Nat.le_of_ble_eq_true rfl) (fun q hq => pX6_d (by omega) hq) (fun q6 hf => ?_)
    refine w_iadd dX6_isStepRight_105 ?_
    refine w_aload_n dX6_isStepRight_106 rfl rfl ?_
    obtain ⟨a7, b8, hf⟩ := Option.bind_eq_some_iff.mp hf
    refine GX6_21 b8 dX6_isStepRight_107 rfl ?_
    refine w_bipush dX6_isStepRight_110 (v := 7) (by decide) ?_
    obtain ⟨x9, b10, hf⟩ := Option.bind_eq_some_iff.mp hf
    refine x_rI b10 dX6_isStepRight_112 ?_
    refine w_icmp_ge 120 dX6_isStepRight_113 (by decide) (fun c11 => ?_) (fun c11 => ?_)
    · replace hf := (if_pos (show x9 ≤ (((256 : Int32) * (q5.1 - (128 : Int32))) + q6.1) from c11)).symm.trans hf
      refine w_iconst dX6_isStepRight_120 (v := 0) (by decide) ?_
      refine w_goto 132 dX6_isStepRight_121 (by decide) ?_
      exact (pX6_isStepRight_b132 hd hf).to ⟨rfl, rfl, rfl, trivial⟩
    · replace hf := (if_neg (show ¬ (x9 ≤ (((256 : Int32) * (q5.1 - (128 : Int32))) + q6.1)) from c11)).symm.trans hf
      refine w_iconst dX6_isStepRight_116 (v := 1) (by decide) ?_
      refine w_goto 132 dX6_isStepRight_117 (by decide) ?_
      exact (pX6_isStepRight_b132 hd hf).to ⟨rfl, rfl, rfl, trivial⟩
def fX6_isStepRight_b76 (l0 : Nat) (l1 : Int32) (l2 : Int32) (l3 : Int32) (h : eH) : Option (Int32 × eH) :=
  fX6_isStepRight_b81 l0 l1 l2 l3 (1 : Int32) h
theorem pX6_isStepRight_b76 {w : eW} {d : Nat} (hd : 2 ≤ d + 1) {l0 : Nat} {l1 : Int32} {l2 : Int32} {l3 : Int32} {h : eH} {q} (hf : fX6_isStepRight_b76 l0 l1 l2 l3 h = some q) : wp w (d + 1) YX6_isStepRight 76 [some (.ref l0), some (.int l1), some (.int l2), some (.int l3), none] [] h (e_is (e_rn c_I q)) := by
  unfold fX6_isStepRight_b76 at hf
  refine w_iconst dX6_isStepRight_76 (v := 1) (by decide) ?_
  refine w_goto 81 dX6_isStepRight_77 (by decide) ?_
  exact (pX6_isStepRight_b81 hd hf).to ⟨rfl, rfl, rfl, rfl, trivial⟩
def fX6_isStepRight_b53 (l0 : Nat) (l1 : Int32) (l2 : Int32) (s0 : Int32) (h : eH) : Option (Int32 × eH) :=
  (fX6_b l2 h).bind fun q1 =>
  (k_ok 5 q1.2 l0).bind fun _ =>
  (fX6_has l0 q1.1 q1.2).bind fun q3 =>
  if ¬ q3.1 = 0 then
    fX6_isStepRight_b76 l0 l1 l2 s0 q3.2
  else
    (fX6_b l2 q3.2).bind fun q5 =>
    (g_I 5 q5.2 l0 8).bind fun x6 =>
    if ¬ q5.1 = x6 then
      fX6_isStepRight_b81 l0 l1 l2 s0 (0 : Int32) q5.2
    else
      fX6_isStepRight_b76 l0 l1 l2 s0 q5.2
theorem pX6_isStepRight_b53 {w : eW} {d : Nat} (hd : 2 ≤ d + 1) {l0 : Nat} {l1 : Int32} {l2 : Int32} {s0 : Int32} {h : eH} {q} (hf : fX6_isStepRight_b53 l0 l1 l2 s0 h = some q) : wp w (d + 1) YX6_isStepRight 53 [some (.ref l0), some (.int l1), some (.int l2), none, none] [.int s0] h (e_is (e_rn c_I q)) := by
  unfold fX6_isStepRight_b53 at hf
  refine w_istore_n dX6_isStepRight_53 rfl (by decide) (ls' := [some (.ref l0), some (.int l1), some (.int l2), some (.int s0), none]) rfl ?_
  refine w_aload_n dX6_isStepRight_54 rfl rfl ?_
  refine w_iload_n dX6_isStepRight_55 rfl rfl ?_
  refine x_cnI hf (e_stS (Yc := YX6_b) (av := [.int l2]) (st := [.ref l0]) dX6_isStepRight_56 q2241 mX6_b) mX6_b.2.2.1 mX6_b.2.2.2.2.1 (Nat.le_of_ble_eq_true rfl) (Nat.le_of_ble_eq_true rfl) (fun q hq => pX6_b (by omega) hq) (fun q1 hf => ?_)
  obtain ⟨_, b2, hf⟩ := Option.bind_eq_some_iff.mp hf
  refine x_cnI hf (e_stV (Yc := YX6_has) (ci := 5) (av := [.int q1.1]) (st := []) dX6_isStepRight_59 q2251 mX6_has rfl (k_ok_some b2).1 (k_ok_some b2).2) mX6_has.2.2.1 mX6_has.2.2.2.2.1 (Nat.le_of_ble_eq_true rfl) (Nat.le_of_ble_eq_true rfl) (fun q hq => pX6_has (by omega) hq) (fun q3 hf => ?_)
  refine w_if_ne 76 dX6_isStepRight_62 (by decide) (fun c4 => ?_) (fun c4 => ?_)
  · replace hf := (if_pos (show ¬ q3.1 = 0 from c4)).symm.trans hf
    exact (pX6_isStepRight_b76 hd hf).to ⟨rfl, rfl, rfl, rfl, trivial⟩
  · replace hf := (if_neg (show ¬ (¬ q3.1 = 0) from (fun z => z c4))).symm.trans hf
    refine w_iload_n dX6_isStepRight_65 rfl rfl ?_
    refine x_cnI hf (e_stS (Yc := YX6_b) (av := [.int l2]) (st := []) dX6_isStepRight_66 q2241 mX6_b) mX6_b.2.2.1 mX6_b.2.2.2.2.1 (Nat.le_of_ble_eq_true rfl) (Nat.le_of_ble_eq_true rfl) (fun q hq => pX6_b (by omega) hq) (fun q5 hf => ?_)
    refine w_aload_n dX6_isStepRight_69 rfl rfl ?_
    obtain ⟨x6, b7, hf⟩ := Option.bind_eq_some_iff.mp hf
    refine GX6_81 b7 dX6_isStepRight_70 rfl ?_
    refine w_icmp_ne 80 dX6_isStepRight_73 (by decide) (fun c8 => ?_) (fun c8 => ?_)
    · replace hf := (if_pos (show ¬ q5.1 = x6 from c8)).symm.trans hf
      refine w_iconst dX6_isStepRight_80 (v := 0) (by decide) ?_
      exact (pX6_isStepRight_b81 hd hf).to ⟨rfl, rfl, rfl, rfl, trivial⟩
    · replace hf := (if_neg (show ¬ (¬ q5.1 = x6) from (fun z => z c8))).symm.trans hf
      exact (pX6_isStepRight_b76 hd hf).to ⟨rfl, rfl, rfl, rfl, trivial⟩
def fX6_isStepRight (this : Nat) (p0 : Int32) (h : eH) : Option (Int32 × eH) :=
  (k_ok 5 h this).bind fun _ =>
  (fX6_word this (6 : Int32) p0 h).bind fun q2 =>
  (fX6_a q2.1 q2.2).bind fun q3 =>
  if q3.1 ≤ (128 : Int32) then
    (fX6_c q2.1 q3.2).bind fun q5 =>
    if q5.1 < (128 : Int32) then
      fX6_isStepRight_b53 this p0 q2.1 (0 : Int32) q5.2
    else
      fX6_isStepRight_b53 this p0 q2.1 (1 : Int32) q5.2
  else
    (fX6_far q2.1 q3.2).bind fun q7 =>
    (g_A 5 q7.2 this 3).bind fun a8 =>
    (r_I 100 q7.2 a8 (6 : Int32)).bind fun x10 =>
    if x10 ≤ q7.1 then
      fX6_isStepRight_b37 (0 : Int32) q7.2
    else
      fX6_isStepRight_b37 (1 : Int32) q7.2
theorem pX6_isStepRight {w : eW} {d : Nat} (hd : 2 ≤ d) {this : Nat} {p0 : Int32} {h : eH} {q} (hf : fX6_isStepRight this p0 h = some q) : wm w d YX6_isStepRight [.ref this, .int p0] h (e_is (e_rn c_I q)) := by
  obtain ⟨d, rfl⟩ : ∃ e, d = e + 1 := ⟨d - 1, by omega⟩
  show wp w (d + 1) YX6_isStepRight 0 [some (.ref this), some (.int p0), none, none, none] [] h _
  unfold fX6_isStepRight at hf
  refine w_aload_n dX6_isStepRight_0 rfl rfl ?_
  refine w_bipush dX6_isStepRight_1 (v := 6) (by decide) ?_
  refine w_iload_n dX6_isStepRight_3 rfl rfl ?_
  obtain ⟨_, b1, hf⟩ := Option.bind_eq_some_iff.mp hf
  refine x_cnI hf (e_stV (Yc := YX6_word) (ci := 5) (av := [.int (6 : Int32), .int p0]) (st := []) dX6_isStepRight_4 q2229 mX6_word rfl (k_ok_some b1).1 (k_ok_some b1).2) mX6_word.2.2.1 mX6_word.2.2.2.2.1 (Nat.le_of_ble_eq_true rfl) (Nat.le_of_ble_eq_true rfl) (fun q hq => pX6_word (by omega) hq) (fun q2 hf => ?_)
  refine w_istore_n dX6_isStepRight_7 rfl (by decide) (ls' := [some (.ref this), some (.int p0), some (.int q2.1), none, none]) rfl ?_
  refine w_iload_n dX6_isStepRight_8 rfl rfl ?_
  refine x_cnI hf (e_stS (Yc := YX6_a) (av := [.int q2.1]) (st := []) dX6_isStepRight_9 q2238 mX6_a) mX6_a.2.2.1 mX6_a.2.2.2.2.1 (Nat.le_of_ble_eq_true rfl) (Nat.le_of_ble_eq_true rfl) (fun q hq => pX6_a (by omega) hq) (fun q3 hf => ?_)
  refine w_sipush dX6_isStepRight_12 (v := 128) (by decide) ?_
  refine w_icmp_le 38 dX6_isStepRight_15 (by decide) (fun c4 => ?_) (fun c4 => ?_)
  · replace hf := (if_pos (show q3.1 ≤ (128 : Int32) from c4)).symm.trans hf
    refine w_iload_n dX6_isStepRight_38 rfl rfl ?_
    refine x_cnI hf (e_stS (Yc := YX6_c) (av := [.int q2.1]) (st := []) dX6_isStepRight_39 q2244 mX6_c) mX6_c.2.2.1 mX6_c.2.2.2.2.1 (Nat.le_of_ble_eq_true rfl) (Nat.le_of_ble_eq_true rfl) (fun q hq => pX6_c (by omega) hq) (fun q5 hf => ?_)
    refine w_sipush dX6_isStepRight_42 (v := 128) (by decide) ?_
    refine w_icmp_lt 52 dX6_isStepRight_45 (by decide) (fun c6 => ?_) (fun c6 => ?_)
    · replace hf := (if_pos (show q5.1 < (128 : Int32) from c6)).symm.trans hf
      refine w_iconst dX6_isStepRight_52 (v := 0) (by decide) ?_
      exact (pX6_isStepRight_b53 hd hf).to ⟨rfl, rfl, rfl, trivial⟩
    · replace hf := (if_neg (show ¬ (q5.1 < (128 : Int32)) from c6)).symm.trans hf
      refine w_iconst dX6_isStepRight_48 (v := 1) (by decide) ?_
      refine w_goto 53 dX6_isStepRight_49 (by decide) ?_
      exact (pX6_isStepRight_b53 hd hf).to ⟨rfl, rfl, rfl, trivial⟩
  · replace hf := (if_neg (show ¬ (q3.1 ≤ (128 : Int32)) from c4)).symm.trans hf
    refine w_iload_n dX6_isStepRight_18 rfl rfl ?_
    refine x_cnI hf (e_stS (Yc := YX6_far) (av := [.int q2.1]) (st := []) dX6_isStepRight_19 q2282 mX6_far) mX6_far.2.2.1 mX6_far.2.2.2.2.1 (Nat.le_of_ble_eq_true rfl) (Nat.le_of_ble_eq_true rfl) (fun q hq => pX6_far (by omega) hq) (fun q7 hf => ?_)
    refine w_aload_n dX6_isStepRight_22 rfl rfl ?_
    obtain ⟨a8, b9, hf⟩ := Option.bind_eq_some_iff.mp hf
    refine GX6_21 b9 dX6_isStepRight_23 rfl ?_
    refine w_bipush dX6_isStepRight_26 (v := 6) (by decide) ?_
    obtain ⟨x10, b11, hf⟩ := Option.bind_eq_some_iff.mp hf
    refine x_rI b11 dX6_isStepRight_28 ?_
    refine w_icmp_ge 36 dX6_isStepRight_29 (by decide) (fun c12 => ?_) (fun c12 => ?_)
    · replace hf := (if_pos (show x10 ≤ q7.1 from c12)).symm.trans hf
      refine w_iconst dX6_isStepRight_36 (v := 0) (by decide) ?_
      exact (pX6_isStepRight_b37 hd hf).to trivial
    · replace hf := (if_neg (show ¬ (x10 ≤ q7.1) from c12)).symm.trans hf
      refine w_iconst dX6_isStepRight_32 (v := 1) (by decide) ?_
      refine w_goto 37 dX6_isStepRight_33 (by decide) ?_
      exact (pX6_isStepRight_b37 hd hf).to trivial
abbrev cX6_isProgramRight : ByteArray := prog_7_method_18_code
def yX6_isProgramRight : MethodName := ⟨RX6, "isProgramRight", "()Z"⟩
def YX6_isProgramRight : eY := (yX6_isProgramRight, cX6_isProgramRight, 4, (Option.some FieldType.boolean), [])
theorem mX6_isProgramRight : e_mv YX6_isProgramRight RX6 0 := ⟨q2280, qs26, q2281, by decide, by decide +kernel, (e_sig (by decide +kernel))⟩
theorem dX6_isProgramRight_0 : decode cX6_isProgramRight 0 = .ok (.aload_n 0, 1) := dc_42 (by decide +kernel)
theorem dX6_isProgramRight_1 : decode cX6_isProgramRight 1 = .ok (.getfield 21, 3) := dc_180 (a := 0) (b := 21) (n := 21) (by decide +kernel)
theorem dX6_isProgramRight_4 : decode cX6_isProgramRight 4 = .ok (.bipush 6, 2) := dc_16 (a := 6) (v := 6) (by decide +kernel)
theorem dX6_isProgramRight_6 : decode cX6_isProgramRight 6 = .ok (.iaload, 1) := dc_46 (by decide +kernel)
theorem dX6_isProgramRight_7 : decode cX6_isProgramRight 7 = .ok (.istore_n 1, 1) := dc_60 (by decide +kernel)
theorem dX6_isProgramRight_8 : decode cX6_isProgramRight 8 = .ok (.aload_n 0, 1) := dc_42 (by decide +kernel)
theorem dX6_isProgramRight_9 : decode cX6_isProgramRight 9 = .ok (.iload_n 1, 1) := dc_27 (by decide +kernel)
theorem dX6_isProgramRight_10 : decode cX6_isProgramRight 10 = .ok (.ifCond .le 32, 3) := dc_158 (a := 0) (b := 32) (v := 32) (by decide +kernel)
theorem dX6_isProgramRight_13 : decode cX6_isProgramRight 13 = .ok (.aload_n 0, 1) := dc_42 (by decide +kernel)
theorem dX6_isProgramRight_14 : decode cX6_isProgramRight 14 = .ok (.bipush 6, 2) := dc_16 (a := 6) (v := 6) (by decide +kernel)
theorem dX6_isProgramRight_16 : decode cX6_isProgramRight 16 = .ok (.iconst 0, 1) := dc_3 (by decide +kernel)
theorem dX6_isProgramRight_17 : decode cX6_isProgramRight 17 = .ok (.invokevirtual 32, 3) := dc_182 (a := 0) (b := 32) (n := 32) (by decide +kernel)
theorem dX6_isProgramRight_20 : decode cX6_isProgramRight 20 = .ok (.invokestatic 36, 3) := dc_184 (a := 0) (b := 36) (n := 36) (by decide +kernel)
theorem dX6_isProgramRight_23 : decode cX6_isProgramRight 23 = .ok (.sipush 255, 3) := dc_17 (a := 0) (b := 255) (v := 255) (by decide +kernel)
theorem dX6_isProgramRight_26 : decode cX6_isProgramRight 26 = .ok (.if_icmp .ne 16, 3) := dc_160 (a := 0) (b := 16) (v := 16) (by decide +kernel)
theorem dX6_isProgramRight_29 : decode cX6_isProgramRight 29 = .ok (.aload_n 0, 1) := dc_42 (by decide +kernel)
theorem dX6_isProgramRight_30 : decode cX6_isProgramRight 30 = .ok (.bipush 6, 2) := dc_16 (a := 6) (v := 6) (by decide +kernel)
theorem dX6_isProgramRight_32 : decode cX6_isProgramRight 32 = .ok (.iconst 0, 1) := dc_3 (by decide +kernel)
theorem dX6_isProgramRight_33 : decode cX6_isProgramRight 33 = .ok (.invokevirtual 32, 3) := dc_182 (a := 0) (b := 32) (n := 32) (by decide +kernel)
theorem dX6_isProgramRight_36 : decode cX6_isProgramRight 36 = .ok (.invokestatic 53, 3) := dc_184 (a := 0) (b := 53) (n := 53) (by decide +kernel)
theorem dX6_isProgramRight_39 : decode cX6_isProgramRight 39 = .ok (.goto 4, 3) := dc_167 (a := 0) (b := 4) (v := 4) (by decide +kernel)
theorem dX6_isProgramRight_42 : decode cX6_isProgramRight 42 = .ok (.iconst (-1), 1) := dc_2 (by decide +kernel)
theorem dX6_isProgramRight_43 : decode cX6_isProgramRight 43 = .ok (.putfield 81, 3) := dc_181 (a := 0) (b := 81) (n := 81) (by decide +kernel)
theorem dX6_isProgramRight_46 : decode cX6_isProgramRight 46 = .ok (.aload_n 0, 1) := dc_42 (by decide +kernel)
theorem dX6_isProgramRight_47 : decode cX6_isProgramRight 47 = .ok (.iload_n 1, 1) := dc_27 (by decide +kernel)
theorem dX6_isProgramRight_48 : decode cX6_isProgramRight 48 = .ok (.ifCond .le 36, 3) := dc_158 (a := 0) (b := 36) (v := 36) (by decide +kernel)
theorem dX6_isProgramRight_51 : decode cX6_isProgramRight 51 = .ok (.aload_n 0, 1) := dc_42 (by decide +kernel)
theorem dX6_isProgramRight_52 : decode cX6_isProgramRight 52 = .ok (.bipush 6, 2) := dc_16 (a := 6) (v := 6) (by decide +kernel)
theorem dX6_isProgramRight_54 : decode cX6_isProgramRight 54 = .ok (.iload_n 1, 1) := dc_27 (by decide +kernel)
theorem dX6_isProgramRight_55 : decode cX6_isProgramRight 55 = .ok (.iconst 1, 1) := dc_4 (by decide +kernel)
theorem dX6_isProgramRight_56 : decode cX6_isProgramRight 56 = .ok (.isub, 1) := dc_100 (by decide +kernel)
theorem dX6_isProgramRight_57 : decode cX6_isProgramRight 57 = .ok (.invokevirtual 32, 3) := dc_182 (a := 0) (b := 32) (n := 32) (by decide +kernel)
theorem dX6_isProgramRight_60 : decode cX6_isProgramRight 60 = .ok (.invokestatic 36, 3) := dc_184 (a := 0) (b := 36) (n := 36) (by decide +kernel)
theorem dX6_isProgramRight_63 : decode cX6_isProgramRight 63 = .ok (.sipush 255, 3) := dc_17 (a := 0) (b := 255) (v := 255) (by decide +kernel)
theorem dX6_isProgramRight_66 : decode cX6_isProgramRight 66 = .ok (.if_icmp .ne 18, 3) := dc_160 (a := 0) (b := 18) (v := 18) (by decide +kernel)
theorem dX6_isProgramRight_69 : decode cX6_isProgramRight 69 = .ok (.aload_n 0, 1) := dc_42 (by decide +kernel)
theorem dX6_isProgramRight_70 : decode cX6_isProgramRight 70 = .ok (.bipush 6, 2) := dc_16 (a := 6) (v := 6) (by decide +kernel)
theorem dX6_isProgramRight_72 : decode cX6_isProgramRight 72 = .ok (.iload_n 1, 1) := dc_27 (by decide +kernel)
theorem dX6_isProgramRight_73 : decode cX6_isProgramRight 73 = .ok (.iconst 1, 1) := dc_4 (by decide +kernel)
theorem dX6_isProgramRight_74 : decode cX6_isProgramRight 74 = .ok (.isub, 1) := dc_100 (by decide +kernel)
theorem dX6_isProgramRight_75 : decode cX6_isProgramRight 75 = .ok (.invokevirtual 32, 3) := dc_182 (a := 0) (b := 32) (n := 32) (by decide +kernel)
theorem dX6_isProgramRight_78 : decode cX6_isProgramRight 78 = .ok (.invokestatic 78, 3) := dc_184 (a := 0) (b := 78) (n := 78) (by decide +kernel)
theorem dX6_isProgramRight_81 : decode cX6_isProgramRight 81 = .ok (.goto 4, 3) := dc_167 (a := 0) (b := 4) (v := 4) (by decide +kernel)
theorem dX6_isProgramRight_84 : decode cX6_isProgramRight 84 = .ok (.iconst (-1), 1) := dc_2 (by decide +kernel)
theorem dX6_isProgramRight_85 : decode cX6_isProgramRight 85 = .ok (.putfield 84, 3) := dc_181 (a := 0) (b := 84) (n := 84) (by decide +kernel)
theorem dX6_isProgramRight_88 : decode cX6_isProgramRight 88 = .ok (.iconst 1, 1) := dc_4 (by decide +kernel)
theorem dX6_isProgramRight_89 : decode cX6_isProgramRight 89 = .ok (.istore_n 2, 1) := dc_61 (by decide +kernel)
theorem dX6_isProgramRight_90 : decode cX6_isProgramRight 90 = .ok (.iconst 0, 1) := dc_3 (by decide +kernel)
theorem dX6_isProgramRight_91 : decode cX6_isProgramRight 91 = .ok (.istore_n 3, 1) := dc_62 (by decide +kernel)
theorem dX6_isProgramRight_92 : decode cX6_isProgramRight 92 = .ok (.iload_n 3, 1) := dc_29 (by decide +kernel)
theorem dX6_isProgramRight_93 : decode cX6_isProgramRight 93 = .ok (.iload_n 1, 1) := dc_27 (by decide +kernel)
theorem dX6_isProgramRight_94 : decode cX6_isProgramRight 94 = .ok (.if_icmp .ge 17, 3) := dc_162 (a := 0) (b := 17) (v := 17) (by decide +kernel)
theorem dX6_isProgramRight_97 : decode cX6_isProgramRight 97 = .ok (.iload_n 2, 1) := dc_28 (by decide +kernel)
theorem dX6_isProgramRight_98 : decode cX6_isProgramRight 98 = .ok (.aload_n 0, 1) := dc_42 (by decide +kernel)
theorem dX6_isProgramRight_99 : decode cX6_isProgramRight 99 = .ok (.iload_n 3, 1) := dc_29 (by decide +kernel)
theorem dX6_isProgramRight_100 : decode cX6_isProgramRight 100 = .ok (.invokevirtual 87, 3) := dc_182 (a := 0) (b := 87) (n := 87) (by decide +kernel)
theorem dX6_isProgramRight_103 : decode cX6_isProgramRight 103 = .ok (.iand, 1) := dc_126 (by decide +kernel)
theorem dX6_isProgramRight_104 : decode cX6_isProgramRight 104 = .ok (.istore_n 2, 1) := dc_61 (by decide +kernel)
theorem dX6_isProgramRight_105 : decode cX6_isProgramRight 105 = .ok (.iinc 3 1, 3) := dc_132 (a := 3) (b := 1) (v := 1) (by decide +kernel)
theorem dX6_isProgramRight_108 : decode cX6_isProgramRight 108 = .ok (.goto (-16), 3) := dc_167 (a := 255) (b := 240) (v := -16) (by decide +kernel)
theorem dX6_isProgramRight_111 : decode cX6_isProgramRight 111 = .ok (.iload_n 2, 1) := dc_28 (by decide +kernel)
theorem dX6_isProgramRight_112 : decode cX6_isProgramRight 112 = .ok (.ireturn, 1) := dc_172 (by decide +kernel)
theorem SX6_81 {w : eW} {d : Nat} {Y : eY} {pc : Nat} {ls : eL} {st : List Value} {h : eH} {Q : eO → eH → Prop} {a : Nat} {h' : eH} {x : Int32} (hf : p_V 5 h a 8 (.int x) = some h') (hd : decode Y.2.1 pc = .ok (.putfield 81, 3)) (hY : Y.1.cls = RX6) (kk : wp w d Y (pc + 3) ls st h' Q) : wp w d Y pc ls (.int x :: .ref a :: st) h Q := x_pI (ci := 5) (k := 8) hf hd rfl (by decide) (by rw [hY]; exact q555) rfl rfl kk
theorem SX6_84 {w : eW} {d : Nat} {Y : eY} {pc : Nat} {ls : eL} {st : List Value} {h : eH} {Q : eO → eH → Prop} {a : Nat} {h' : eH} {x : Int32} (hf : p_V 5 h a 9 (.int x) = some h') (hd : decode Y.2.1 pc = .ok (.putfield 84, 3)) (hY : Y.1.cls = RX6) (kk : wp w d Y (pc + 3) ls st h' Q) : wp w d Y pc ls (.int x :: .ref a :: st) h Q := x_pI (ci := 5) (k := 9) hf hd rfl (by decide) (by rw [hY]; exact q557) rfl rfl kk
def fX6_isProgramRight_b92 (N : Nat) : Nat → Nat → Int32 → Int32 → Int32 → eH → Option (Int32 × eH)
  | 0, _, _, _, _, _ => none
  | n + 1, l0, l1, l2, l3, h =>
    if l1 ≤ l3 then
      z_r l2 (l2, h)
    else
      (k_ok 5 h l0).bind fun _ =>
      (fX6_isStepRight l0 l3 h).bind fun q4 =>
      fX6_isProgramRight_b92 N n l0 l1 (l2 &&& q4.1) (l3 + (1 : Int32)) q4.2
theorem pX6_isProgramRight_b92 {w : eW} {d : Nat} (hd : 3 ≤ d + 1) {N : Nat} : ∀ (n : Nat) l0 l1 l2 l3 h q, fX6_isProgramRight_b92 N n l0 l1 l2 l3 h = some q → wp w (d + 1) YX6_isProgramRight 92 [some (.ref l0), some (.int l1), some (.int l2), some (.int l3)] [] h (e_is (e_rn c_I q)) := by
  intro n
  induction n with
  | zero => intro l0 l1 l2 l3 h q hf; simp [fX6_isProgramRight_b92] at hf
  | succ n ih =>
    intro l0 l1 l2 l3 h q hf
    rw [fX6_isProgramRight_b92] at hf
    refine w_iload_n dX6_isProgramRight_92 rfl rfl ?_
    refine w_iload_n dX6_isProgramRight_93 rfl rfl ?_
    refine w_icmp_ge 111 dX6_isProgramRight_94 (by decide) (fun c1 => ?_) (fun c1 => ?_)
    · replace hf := (if_pos (show l1 ≤ l3 from c1)).symm.trans hf
      refine w_iload_n dX6_isProgramRight_111 rfl rfl ?_
      obtain ⟨b2, rfl⟩ := z_r_some hf
      exact w_iret dX6_isProgramRight_112 rfl b2 rfl
    · replace hf := (if_neg (show ¬ (l1 ≤ l3) from c1)).symm.trans hf
      refine w_iload_n dX6_isProgramRight_97 rfl rfl ?_
      refine w_aload_n dX6_isProgramRight_98 rfl rfl ?_
      refine w_iload_n dX6_isProgramRight_99 rfl rfl ?_
      obtain ⟨_, b3, hf⟩ := Option.bind_eq_some_iff.mp hf
      refine x_cnI hf (e_stV (Yc := YX6_isStepRight) (ci := 5) (av := [.int l3]) (st := [.int l2]) dX6_isProgramRight_100 q2286 mX6_isStepRight rfl (k_ok_some b3).1 (k_ok_some b3).2) mX6_isStepRight.2.2.1 mX6_isStepRight.2.2.2.2.1 (Nat.le_of_ble_eq_true rfl) (Nat.le_of_ble_eq_true rfl) (fun q hq => pX6_isStepRight (by omega) hq) (fun q4 hf => ?_)
      refine w_iand dX6_isProgramRight_103 ?_
      refine w_istore_n dX6_isProgramRight_104 rfl (by decide) (ls' := [some (.ref l0), some (.int l1), some (.int (l2 &&& q4.1)), some (.int l3)]) rfl ?_
      refine w_iinc dX6_isProgramRight_105 (v := (l3 + (1 : Int32))) rfl rfl (by decide) (ls' := [some (.ref l0), some (.int l1), some (.int (l2 &&& q4.1)), some (.int (l3 + (1 : Int32)))]) rfl ?_
      refine w_goto 92 dX6_isProgramRight_108 (by decide) ?_
      exact (ih _ _ _ _ _ _ hf).to ⟨rfl, rfl, rfl, rfl, trivial⟩
def fX6_isProgramRight_b85 (N : Nat) (l0 : Nat) (l1 : Int32) (s0 : Nat) (s1 : Int32) (h : eH) : Option (Int32 × eH) :=
  (p_V 5 h s0 9 (.int s1)).bind fun h1 =>
  fX6_isProgramRight_b92 N N l0 l1 (1 : Int32) (0 : Int32) h1
theorem pX6_isProgramRight_b85 {w : eW} {d : Nat} (hd : 3 ≤ d + 1) {N : Nat} {l0 : Nat} {l1 : Int32} {s0 : Nat} {s1 : Int32} {h : eH} {q} (hf : fX6_isProgramRight_b85 N l0 l1 s0 s1 h = some q) : wp w (d + 1) YX6_isProgramRight 85 [some (.ref l0), some (.int l1), none, none] [.int s1, .ref s0] h (e_is (e_rn c_I q)) := by
  unfold fX6_isProgramRight_b85 at hf
  obtain ⟨h1, b2, hf⟩ := Option.bind_eq_some_iff.mp hf
  refine SX6_84 b2 dX6_isProgramRight_85 rfl ?_
  refine w_iconst dX6_isProgramRight_88 (v := 1) (by decide) ?_
  refine w_istore_n dX6_isProgramRight_89 rfl (by decide) (ls' := [some (.ref l0), some (.int l1), some (.int (1 : Int32)), none]) rfl ?_
  refine w_iconst dX6_isProgramRight_90 (v := 0) (by decide) ?_
  refine w_istore_n dX6_isProgramRight_91 rfl (by decide) (ls' := [some (.ref l0), some (.int l1), some (.int (1 : Int32)), some (.int (0 : Int32))]) rfl ?_
  exact (pX6_isProgramRight_b92 hd N _ _ _ _ _ _ hf).to ⟨rfl, rfl, rfl, rfl, trivial⟩
def fX6_isProgramRight_b84 (N : Nat) (l0 : Nat) (l1 : Int32) (s0 : Nat) (h : eH) : Option (Int32 × eH) :=
  fX6_isProgramRight_b85 N l0 l1 s0 (-1 : Int32) h
theorem pX6_isProgramRight_b84 {w : eW} {d : Nat} (hd : 3 ≤ d + 1) {N : Nat} {l0 : Nat} {l1 : Int32} {s0 : Nat} {h : eH} {q} (hf : fX6_isProgramRight_b84 N l0 l1 s0 h = some q) : wp w (d + 1) YX6_isProgramRight 84 [some (.ref l0), some (.int l1), none, none] [.ref s0] h (e_is (e_rn c_I q)) := by
  unfold fX6_isProgramRight_b84 at hf
  refine w_iconst dX6_isProgramRight_84 (v := -1) (by decide) ?_
  exact (pX6_isProgramRight_b85 hd hf).to ⟨rfl, rfl, trivial⟩
def fX6_isProgramRight_b43 (N : Nat) (l0 : Nat) (l1 : Int32) (s0 : Nat) (s1 : Int32) (h : eH) : Option (Int32 × eH) :=
  (p_V 5 h s0 8 (.int s1)).bind fun h1 =>
  if l1 ≤ 0 then
    fX6_isProgramRight_b84 N l0 l1 l0 h1
  else
    (k_ok 5 h1 l0).bind fun _ =>
    (fX6_word l0 (6 : Int32) (l1 - (1 : Int32)) h1).bind fun q5 =>
    (fX6_a q5.1 q5.2).bind fun q6 =>
    if ¬ q6.1 = (255 : Int32) then
      fX6_isProgramRight_b84 N l0 l1 l0 q6.2
    else
      (k_ok 5 q6.2 l0).bind fun _ =>
      (fX6_word l0 (6 : Int32) (l1 - (1 : Int32)) q6.2).bind fun q9 =>
      (fX6_far q9.1 q9.2).bind fun q10 =>
      fX6_isProgramRight_b85 N l0 l1 l0 q10.1 q10.2
theorem pX6_isProgramRight_b43 {w : eW} {d : Nat} (hd : 3 ≤ d + 1) {N : Nat} {l0 : Nat} {l1 : Int32} {s0 : Nat} {s1 : Int32} {h : eH} {q} (hf : fX6_isProgramRight_b43 N l0 l1 s0 s1 h = some q) : wp w (d + 1) YX6_isProgramRight 43 [some (.ref l0), some (.int l1), none, none] [.int s1, .ref s0] h (e_is (e_rn c_I q)) := by
  unfold fX6_isProgramRight_b43 at hf
  obtain ⟨h1, b2, hf⟩ := Option.bind_eq_some_iff.mp hf
  refine SX6_81 b2 dX6_isProgramRight_43 rfl ?_
  refine w_aload_n dX6_isProgramRight_46 rfl rfl ?_
  refine w_iload_n dX6_isProgramRight_47 rfl rfl ?_
  refine w_if_le 84 dX6_isProgramRight_48 (by decide) (fun c3 => ?_) (fun c3 => ?_)
  · replace hf := (if_pos (show l1 ≤ 0 from c3)).symm.trans hf
    exact (pX6_isProgramRight_b84 hd hf).to ⟨rfl, rfl, trivial⟩
  · replace hf := (if_neg (show ¬ (l1 ≤ 0) from c3)).symm.trans hf
    refine w_aload_n dX6_isProgramRight_51 rfl rfl ?_
    refine w_bipush dX6_isProgramRight_52 (v := 6) (by decide) ?_
    refine w_iload_n dX6_isProgramRight_54 rfl rfl ?_
    refine w_iconst dX6_isProgramRight_55 (v := 1) (by decide) ?_
    refine w_isub dX6_isProgramRight_56 ?_
    obtain ⟨_, b4, hf⟩ := Option.bind_eq_some_iff.mp hf
    refine x_cnI hf (e_stV (Yc := YX6_word) (ci := 5) (av := [.int (6 : Int32), .int (l1 - (1 : Int32))]) (st := [.ref l0]) dX6_isProgramRight_57 q2229 mX6_word rfl (k_ok_some b4).1 (k_ok_some b4).2) mX6_word.2.2.1 mX6_word.2.2.2.2.1 (Nat.le_of_ble_eq_true rfl) (Nat.le_of_ble_eq_true rfl) (fun q hq => pX6_word (by omega) hq) (fun q5 hf => ?_)
    refine x_cnI hf (e_stS (Yc := YX6_a) (av := [.int q5.1]) (st := [.ref l0]) dX6_isProgramRight_60 q2238 mX6_a) mX6_a.2.2.1 mX6_a.2.2.2.2.1 (Nat.le_of_ble_eq_true rfl) (Nat.le_of_ble_eq_true rfl) (fun q hq => pX6_a (by omega) hq) (fun q6 hf => ?_)
    refine w_sipush dX6_isProgramRight_63 (v := 255) (by decide) ?_
    refine w_icmp_ne 84 dX6_isProgramRight_66 (by decide) (fun c7 => ?_) (fun c7 => ?_)
    · replace hf := (if_pos (show ¬ q6.1 = (255 : Int32) from c7)).symm.trans hf
      exact (pX6_isProgramRight_b84 hd hf).to ⟨rfl, rfl, trivial⟩
    · replace hf := (if_neg (show ¬ (¬ q6.1 = (255 : Int32)) from (fun z => z c7))).symm.trans hf
      refine w_aload_n dX6_isProgramRight_69 rfl rfl ?_
      refine w_bipush dX6_isProgramRight_70 (v := 6) (by decide) ?_
      refine w_iload_n dX6_isProgramRight_72 rfl rfl ?_
      refine w_iconst dX6_isProgramRight_73 (v := 1) (by decide) ?_
      refine w_isub dX6_isProgramRight_74 ?_
      obtain ⟨_, b8, hf⟩ := Option.bind_eq_some_iff.mp hf
      refine x_cnI hf (e_stV (Yc := YX6_word) (ci := 5) (av := [.int (6 : Int32), .int (l1 - (1 : Int32))]) (st := [.ref l0]) dX6_isProgramRight_75 q2229 mX6_word rfl (k_ok_some b8).1 (k_ok_some b8).2) mX6_word.2.2.1 mX6_word.2.2.2.2.1 (Nat.le_of_ble_eq_true rfl) (Nat.le_of_ble_eq_true rfl) (fun q hq => pX6_word (by omega) hq) (fun q9 hf => ?_)
      refine x_cnI hf (e_stS (Yc := YX6_far) (av := [.int q9.1]) (st := [.ref l0]) dX6_isProgramRight_78 q2282 mX6_far) mX6_far.2.2.1 mX6_far.2.2.2.2.1 (Nat.le_of_ble_eq_true rfl) (Nat.le_of_ble_eq_true rfl) (fun q hq => pX6_far (by omega) hq) (fun q10 hf => ?_)
      refine w_goto 85 dX6_isProgramRight_81 (by decide) ?_
      exact (pX6_isProgramRight_b85 hd hf).to ⟨rfl, rfl, trivial⟩
def fX6_isProgramRight_b42 (N : Nat) (l0 : Nat) (l1 : Int32) (s0 : Nat) (h : eH) : Option (Int32 × eH) :=
  fX6_isProgramRight_b43 N l0 l1 s0 (-1 : Int32) h
theorem pX6_isProgramRight_b42 {w : eW} {d : Nat} (hd : 3 ≤ d + 1) {N : Nat} {l0 : Nat} {l1 : Int32} {s0 : Nat} {h : eH} {q} (hf : fX6_isProgramRight_b42 N l0 l1 s0 h = some q) : wp w (d + 1) YX6_isProgramRight 42 [some (.ref l0), some (.int l1), none, none] [.ref s0] h (e_is (e_rn c_I q)) := by
  unfold fX6_isProgramRight_b42 at hf
  refine w_iconst dX6_isProgramRight_42 (v := -1) (by decide) ?_
  exact (pX6_isProgramRight_b43 hd hf).to ⟨rfl, rfl, trivial⟩
def fX6_isProgramRight (N : Nat) (this : Nat) (h : eH) : Option (Int32 × eH) :=
  (g_A 5 h this 3).bind fun a1 =>
  (r_I 100 h a1 (6 : Int32)).bind fun x3 =>
  if x3 ≤ 0 then
    fX6_isProgramRight_b42 N this x3 this h
  else
    (k_ok 5 h this).bind fun _ =>
    (fX6_word this (6 : Int32) (0 : Int32) h).bind fun q7 =>
    (fX6_a q7.1 q7.2).bind fun q8 =>
    if ¬ q8.1 = (255 : Int32) then
      fX6_isProgramRight_b42 N this x3 this q8.2
    else
      (k_ok 5 q8.2 this).bind fun _ =>
      (fX6_word this (6 : Int32) (0 : Int32) q8.2).bind fun q11 =>
      (fX6_b q11.1 q11.2).bind fun q12 =>
      fX6_isProgramRight_b43 N this x3 this q12.1 q12.2
theorem pX6_isProgramRight {w : eW} {d : Nat} (hd : 3 ≤ d) {N : Nat} {this : Nat} {h : eH} {q} (hf : fX6_isProgramRight N this h = some q) : wm w d YX6_isProgramRight [.ref this] h (e_is (e_rn c_I q)) := by
  obtain ⟨d, rfl⟩ : ∃ e, d = e + 1 := ⟨d - 1, by omega⟩
  show wp w (d + 1) YX6_isProgramRight 0 [some (.ref this), none, none, none] [] h _
  unfold fX6_isProgramRight at hf
  refine w_aload_n dX6_isProgramRight_0 rfl rfl ?_
  obtain ⟨a1, b2, hf⟩ := Option.bind_eq_some_iff.mp hf
  refine GX6_21 b2 dX6_isProgramRight_1 rfl ?_
  refine w_bipush dX6_isProgramRight_4 (v := 6) (by decide) ?_
  obtain ⟨x3, b4, hf⟩ := Option.bind_eq_some_iff.mp hf
  refine x_rI b4 dX6_isProgramRight_6 ?_
  refine w_istore_n dX6_isProgramRight_7 rfl (by decide) (ls' := [some (.ref this), some (.int x3), none, none]) rfl ?_
  refine w_aload_n dX6_isProgramRight_8 rfl rfl ?_
  refine w_iload_n dX6_isProgramRight_9 rfl rfl ?_
  refine w_if_le 42 dX6_isProgramRight_10 (by decide) (fun c5 => ?_) (fun c5 => ?_)
  · replace hf := (if_pos (show x3 ≤ 0 from c5)).symm.trans hf
    exact (pX6_isProgramRight_b42 hd hf).to ⟨rfl, rfl, trivial⟩
  · replace hf := (if_neg (show ¬ (x3 ≤ 0) from c5)).symm.trans hf
    refine w_aload_n dX6_isProgramRight_13 rfl rfl ?_
    refine w_bipush dX6_isProgramRight_14 (v := 6) (by decide) ?_
    refine w_iconst dX6_isProgramRight_16 (v := 0) (by decide) ?_
    obtain ⟨_, b6, hf⟩ := Option.bind_eq_some_iff.mp hf
    refine x_cnI hf (e_stV (Yc := YX6_word) (ci := 5) (av := [.int (6 : Int32), .int (0 : Int32)]) (st := [.ref this]) dX6_isProgramRight_17 q2229 mX6_word rfl (k_ok_some b6).1 (k_ok_some b6).2) mX6_word.2.2.1 mX6_word.2.2.2.2.1 (Nat.le_of_ble_eq_true rfl) (Nat.le_of_ble_eq_true rfl) (fun q hq => pX6_word (by omega) hq) (fun q7 hf => ?_)
    refine x_cnI hf (e_stS (Yc := YX6_a) (av := [.int q7.1]) (st := [.ref this]) dX6_isProgramRight_20 q2238 mX6_a) mX6_a.2.2.1 mX6_a.2.2.2.2.1 (Nat.le_of_ble_eq_true rfl) (Nat.le_of_ble_eq_true rfl) (fun q hq => pX6_a (by omega) hq) (fun q8 hf => ?_)
    refine w_sipush dX6_isProgramRight_23 (v := 255) (by decide) ?_
    refine w_icmp_ne 42 dX6_isProgramRight_26 (by decide) (fun c9 => ?_) (fun c9 => ?_)
    · replace hf := (if_pos (show ¬ q8.1 = (255 : Int32) from c9)).symm.trans hf
      exact (pX6_isProgramRight_b42 hd hf).to ⟨rfl, rfl, trivial⟩
    · replace hf := (if_neg (show ¬ (¬ q8.1 = (255 : Int32)) from (fun z => z c9))).symm.trans hf
      refine w_aload_n dX6_isProgramRight_29 rfl rfl ?_
      refine w_bipush dX6_isProgramRight_30 (v := 6) (by decide) ?_
      refine w_iconst dX6_isProgramRight_32 (v := 0) (by decide) ?_
      obtain ⟨_, b10, hf⟩ := Option.bind_eq_some_iff.mp hf
      refine x_cnI hf (e_stV (Yc := YX6_word) (ci := 5) (av := [.int (6 : Int32), .int (0 : Int32)]) (st := [.ref this]) dX6_isProgramRight_33 q2229 mX6_word rfl (k_ok_some b10).1 (k_ok_some b10).2) mX6_word.2.2.1 mX6_word.2.2.2.2.1 (Nat.le_of_ble_eq_true rfl) (Nat.le_of_ble_eq_true rfl) (fun q hq => pX6_word (by omega) hq) (fun q11 hf => ?_)
      refine x_cnI hf (e_stS (Yc := YX6_b) (av := [.int q11.1]) (st := [.ref this]) dX6_isProgramRight_36 q2241 mX6_b) mX6_b.2.2.1 mX6_b.2.2.2.2.1 (Nat.le_of_ble_eq_true rfl) (Nat.le_of_ble_eq_true rfl) (fun q hq => pX6_b (by omega) hq) (fun q12 hf => ?_)
      refine w_goto 43 dX6_isProgramRight_39 (by decide) ?_
      exact (pX6_isProgramRight_b43 hd hf).to ⟨rfl, rfl, trivial⟩
abbrev cX6_areRecipesRight : ByteArray := prog_7_method_19_code
def yX6_areRecipesRight : MethodName := ⟨RX6, "areRecipesRight", "()Z"⟩
def YX6_areRecipesRight : eY := (yX6_areRecipesRight, cX6_areRecipesRight, 4, (Option.some FieldType.boolean), [])
theorem mX6_areRecipesRight : e_mv YX6_areRecipesRight RX6 0 := ⟨q2292, qs28, q2293, by decide, by decide +kernel, (e_sig (by decide +kernel))⟩
theorem dX6_areRecipesRight_0 : decode cX6_areRecipesRight 0 = .ok (.iconst 1, 1) := dc_4 (by decide +kernel)
theorem dX6_areRecipesRight_1 : decode cX6_areRecipesRight 1 = .ok (.istore_n 1, 1) := dc_60 (by decide +kernel)
theorem dX6_areRecipesRight_2 : decode cX6_areRecipesRight 2 = .ok (.iconst 0, 1) := dc_3 (by decide +kernel)
theorem dX6_areRecipesRight_3 : decode cX6_areRecipesRight 3 = .ok (.istore_n 2, 1) := dc_61 (by decide +kernel)
theorem dX6_areRecipesRight_4 : decode cX6_areRecipesRight 4 = .ok (.iload_n 2, 1) := dc_28 (by decide +kernel)
theorem dX6_areRecipesRight_5 : decode cX6_areRecipesRight 5 = .ok (.aload_n 0, 1) := dc_42 (by decide +kernel)
theorem dX6_areRecipesRight_6 : decode cX6_areRecipesRight 6 = .ok (.getfield 21, 3) := dc_180 (a := 0) (b := 21) (n := 21) (by decide +kernel)
theorem dX6_areRecipesRight_9 : decode cX6_areRecipesRight 9 = .ok (.bipush 8, 2) := dc_16 (a := 8) (v := 8) (by decide +kernel)
theorem dX6_areRecipesRight_11 : decode cX6_areRecipesRight 11 = .ok (.iaload, 1) := dc_46 (by decide +kernel)
theorem dX6_areRecipesRight_12 : decode cX6_areRecipesRight 12 = .ok (.if_icmp .ge 90, 3) := dc_162 (a := 0) (b := 90) (v := 90) (by decide +kernel)
theorem dX6_areRecipesRight_15 : decode cX6_areRecipesRight 15 = .ok (.aload_n 0, 1) := dc_42 (by decide +kernel)
theorem dX6_areRecipesRight_16 : decode cX6_areRecipesRight 16 = .ok (.bipush 8, 2) := dc_16 (a := 8) (v := 8) (by decide +kernel)
theorem dX6_areRecipesRight_18 : decode cX6_areRecipesRight 18 = .ok (.iload_n 2, 1) := dc_28 (by decide +kernel)
theorem dX6_areRecipesRight_19 : decode cX6_areRecipesRight 19 = .ok (.invokevirtual 32, 3) := dc_182 (a := 0) (b := 32) (n := 32) (by decide +kernel)
theorem dX6_areRecipesRight_22 : decode cX6_areRecipesRight 22 = .ok (.istore_n 3, 1) := dc_62 (by decide +kernel)
theorem dX6_areRecipesRight_23 : decode cX6_areRecipesRight 23 = .ok (.iload_n 1, 1) := dc_27 (by decide +kernel)
theorem dX6_areRecipesRight_24 : decode cX6_areRecipesRight 24 = .ok (.aload_n 0, 1) := dc_42 (by decide +kernel)
theorem dX6_areRecipesRight_25 : decode cX6_areRecipesRight 25 = .ok (.iload_n 3, 1) := dc_29 (by decide +kernel)
theorem dX6_areRecipesRight_26 : decode cX6_areRecipesRight 26 = .ok (.invokestatic 59, 3) := dc_184 (a := 0) (b := 59) (n := 59) (by decide +kernel)
theorem dX6_areRecipesRight_29 : decode cX6_areRecipesRight 29 = .ok (.invokevirtual 65, 3) := dc_182 (a := 0) (b := 65) (n := 65) (by decide +kernel)
theorem dX6_areRecipesRight_32 : decode cX6_areRecipesRight 32 = .ok (.ifCond .eq 61, 3) := dc_153 (a := 0) (b := 61) (v := 61) (by decide +kernel)
theorem dX6_areRecipesRight_35 : decode cX6_areRecipesRight 35 = .ok (.iload_n 3, 1) := dc_29 (by decide +kernel)
theorem dX6_areRecipesRight_36 : decode cX6_areRecipesRight 36 = .ok (.invokestatic 36, 3) := dc_184 (a := 0) (b := 36) (n := 36) (by decide +kernel)
theorem dX6_areRecipesRight_39 : decode cX6_areRecipesRight 39 = .ok (.ifCond .eq 14, 3) := dc_153 (a := 0) (b := 14) (v := 14) (by decide +kernel)
theorem dX6_areRecipesRight_42 : decode cX6_areRecipesRight 42 = .ok (.aload_n 0, 1) := dc_42 (by decide +kernel)
theorem dX6_areRecipesRight_43 : decode cX6_areRecipesRight 43 = .ok (.iload_n 3, 1) := dc_29 (by decide +kernel)
theorem dX6_areRecipesRight_44 : decode cX6_areRecipesRight 44 = .ok (.invokestatic 36, 3) := dc_184 (a := 0) (b := 36) (n := 36) (by decide +kernel)
theorem dX6_areRecipesRight_47 : decode cX6_areRecipesRight 47 = .ok (.invokevirtual 65, 3) := dc_182 (a := 0) (b := 65) (n := 65) (by decide +kernel)
theorem dX6_areRecipesRight_50 : decode cX6_areRecipesRight 50 = .ok (.ifCond .eq 43, 3) := dc_153 (a := 0) (b := 43) (v := 43) (by decide +kernel)
theorem dX6_areRecipesRight_53 : decode cX6_areRecipesRight 53 = .ok (.iload_n 3, 1) := dc_29 (by decide +kernel)
theorem dX6_areRecipesRight_54 : decode cX6_areRecipesRight 54 = .ok (.invokestatic 53, 3) := dc_184 (a := 0) (b := 53) (n := 53) (by decide +kernel)
theorem dX6_areRecipesRight_57 : decode cX6_areRecipesRight 57 = .ok (.ifCond .eq 14, 3) := dc_153 (a := 0) (b := 14) (v := 14) (by decide +kernel)
theorem dX6_areRecipesRight_60 : decode cX6_areRecipesRight 60 = .ok (.aload_n 0, 1) := dc_42 (by decide +kernel)
theorem dX6_areRecipesRight_61 : decode cX6_areRecipesRight 61 = .ok (.iload_n 3, 1) := dc_29 (by decide +kernel)
theorem dX6_areRecipesRight_62 : decode cX6_areRecipesRight 62 = .ok (.invokestatic 53, 3) := dc_184 (a := 0) (b := 53) (n := 53) (by decide +kernel)
theorem dX6_areRecipesRight_65 : decode cX6_areRecipesRight 65 = .ok (.invokevirtual 65, 3) := dc_182 (a := 0) (b := 65) (n := 65) (by decide +kernel)
theorem dX6_areRecipesRight_68 : decode cX6_areRecipesRight 68 = .ok (.ifCond .eq 25, 3) := dc_153 (a := 0) (b := 25) (v := 25) (by decide +kernel)
theorem dX6_areRecipesRight_71 : decode cX6_areRecipesRight 71 = .ok (.iload_n 3, 1) := dc_29 (by decide +kernel)
theorem dX6_areRecipesRight_72 : decode cX6_areRecipesRight 72 = .ok (.invokestatic 56, 3) := dc_184 (a := 0) (b := 56) (n := 56) (by decide +kernel)
theorem dX6_areRecipesRight_75 : decode cX6_areRecipesRight 75 = .ok (.ifCond .eq 14, 3) := dc_153 (a := 0) (b := 14) (v := 14) (by decide +kernel)
theorem dX6_areRecipesRight_78 : decode cX6_areRecipesRight 78 = .ok (.aload_n 0, 1) := dc_42 (by decide +kernel)
theorem dX6_areRecipesRight_79 : decode cX6_areRecipesRight 79 = .ok (.iload_n 3, 1) := dc_29 (by decide +kernel)
theorem dX6_areRecipesRight_80 : decode cX6_areRecipesRight 80 = .ok (.invokestatic 56, 3) := dc_184 (a := 0) (b := 56) (n := 56) (by decide +kernel)
theorem dX6_areRecipesRight_83 : decode cX6_areRecipesRight 83 = .ok (.invokevirtual 65, 3) := dc_182 (a := 0) (b := 65) (n := 65) (by decide +kernel)
theorem dX6_areRecipesRight_86 : decode cX6_areRecipesRight 86 = .ok (.ifCond .eq 7, 3) := dc_153 (a := 0) (b := 7) (v := 7) (by decide +kernel)
theorem dX6_areRecipesRight_89 : decode cX6_areRecipesRight 89 = .ok (.iconst 1, 1) := dc_4 (by decide +kernel)
theorem dX6_areRecipesRight_90 : decode cX6_areRecipesRight 90 = .ok (.goto 4, 3) := dc_167 (a := 0) (b := 4) (v := 4) (by decide +kernel)
theorem dX6_areRecipesRight_93 : decode cX6_areRecipesRight 93 = .ok (.iconst 0, 1) := dc_3 (by decide +kernel)
theorem dX6_areRecipesRight_94 : decode cX6_areRecipesRight 94 = .ok (.iand, 1) := dc_126 (by decide +kernel)
theorem dX6_areRecipesRight_95 : decode cX6_areRecipesRight 95 = .ok (.istore_n 1, 1) := dc_60 (by decide +kernel)
theorem dX6_areRecipesRight_96 : decode cX6_areRecipesRight 96 = .ok (.iinc 2 1, 3) := dc_132 (a := 2) (b := 1) (v := 1) (by decide +kernel)
theorem dX6_areRecipesRight_99 : decode cX6_areRecipesRight 99 = .ok (.goto (-95), 3) := dc_167 (a := 255) (b := 161) (v := -95) (by decide +kernel)
theorem dX6_areRecipesRight_102 : decode cX6_areRecipesRight 102 = .ok (.iload_n 1, 1) := dc_27 (by decide +kernel)
theorem dX6_areRecipesRight_103 : decode cX6_areRecipesRight 103 = .ok (.ireturn, 1) := dc_172 (by decide +kernel)
def fX6_areRecipesRight_b94 (N : Nat) (k4 : Nat → Int32 → Int32 → eH → Option (Int32 × eH)) (l0 : Nat) (l2 : Int32) (s0 : Int32) (s1 : Int32) (h : eH) : Option (Int32 × eH) :=
  k4 l0 (s0 &&& s1) (l2 + (1 : Int32)) h
theorem pX6_areRecipesRight_b94 {w : eW} {d : Nat} (hd : 2 ≤ d + 1) {N : Nat} {k4 : Nat → Int32 → Int32 → eH → Option (Int32 × eH)} (hk4 : ∀ l0 l1 l2 h q, k4 l0 l1 l2 h = some q → wp w (d + 1) YX6_areRecipesRight 4 [some (.ref l0), some (.int l1), some (.int l2), none] [] h (e_is (e_rn c_I q))) {l0 : Nat} {l2 : Int32} {s0 : Int32} {s1 : Int32} {h : eH} {q} (hf : fX6_areRecipesRight_b94 N k4 l0 l2 s0 s1 h = some q) : wp w (d + 1) YX6_areRecipesRight 94 [some (.ref l0), none, some (.int l2), none] [.int s1, .int s0] h (e_is (e_rn c_I q)) := by
  unfold fX6_areRecipesRight_b94 at hf
  refine w_iand dX6_areRecipesRight_94 ?_
  refine w_istore_n dX6_areRecipesRight_95 rfl (by decide) (ls' := [some (.ref l0), some (.int (s0 &&& s1)), some (.int l2), none]) rfl ?_
  refine w_iinc dX6_areRecipesRight_96 (v := (l2 + (1 : Int32))) rfl rfl (by decide) (ls' := [some (.ref l0), some (.int (s0 &&& s1)), some (.int (l2 + (1 : Int32))), none]) rfl ?_
  refine w_goto 4 dX6_areRecipesRight_99 (by decide) ?_
  exact (hk4 _ _ _ _ _ hf).to ⟨rfl, rfl, rfl, trivial⟩
def fX6_areRecipesRight_b89 (N : Nat) (k4 : Nat → Int32 → Int32 → eH → Option (Int32 × eH)) (l0 : Nat) (l2 : Int32) (s0 : Int32) (h : eH) : Option (Int32 × eH) :=
  fX6_areRecipesRight_b94 N k4 l0 l2 s0 (1 : Int32) h
theorem pX6_areRecipesRight_b89 {w : eW} {d : Nat} (hd : 2 ≤ d + 1) {N : Nat} {k4 : Nat → Int32 → Int32 → eH → Option (Int32 × eH)} (hk4 : ∀ l0 l1 l2 h q, k4 l0 l1 l2 h = some q → wp w (d + 1) YX6_areRecipesRight 4 [some (.ref l0), some (.int l1), some (.int l2), none] [] h (e_is (e_rn c_I q))) {l0 : Nat} {l2 : Int32} {s0 : Int32} {h : eH} {q} (hf : fX6_areRecipesRight_b89 N k4 l0 l2 s0 h = some q) : wp w (d + 1) YX6_areRecipesRight 89 [some (.ref l0), none, some (.int l2), none] [.int s0] h (e_is (e_rn c_I q)) := by
  unfold fX6_areRecipesRight_b89 at hf
  refine w_iconst dX6_areRecipesRight_89 (v := 1) (by decide) ?_
  refine w_goto 94 dX6_areRecipesRight_90 (by decide) ?_
  exact (pX6_areRecipesRight_b94 hd hk4 hf).to ⟨rfl, rfl, trivial⟩
def fX6_areRecipesRight_b93 (N : Nat) (k4 : Nat → Int32 → Int32 → eH → Option (Int32 × eH)) (l0 : Nat) (l2 : Int32) (s0 : Int32) (h : eH) : Option (Int32 × eH) :=
  fX6_areRecipesRight_b94 N k4 l0 l2 s0 (0 : Int32) h
theorem pX6_areRecipesRight_b93 {w : eW} {d : Nat} (hd : 2 ≤ d + 1) {N : Nat} {k4 : Nat → Int32 → Int32 → eH → Option (Int32 × eH)} (hk4 : ∀ l0 l1 l2 h q, k4 l0 l1 l2 h = some q → wp w (d + 1) YX6_areRecipesRight 4 [some (.ref l0), some (.int l1), some (.int l2), none] [] h (e_is (e_rn c_I q))) {l0 : Nat} {l2 : Int32} {s0 : Int32} {h : eH} {q} (hf : fX6_areRecipesRight_b93 N k4 l0 l2 s0 h = some q) : wp w (d + 1) YX6_areRecipesRight 93 [some (.ref l0), none, some (.int l2), none] [.int s0] h (e_is (e_rn c_I q)) := by
  unfold fX6_areRecipesRight_b93 at hf
  refine w_iconst dX6_areRecipesRight_93 (v := 0) (by decide) ?_
  exact (pX6_areRecipesRight_b94 hd hk4 hf).to ⟨rfl, rfl, trivial⟩
def fX6_areRecipesRight_b71 (N : Nat) (k4 : Nat → Int32 → Int32 → eH → Option (Int32 × eH)) (l0 : Nat) (l2 : Int32) (l3 : Int32) (s0 : Int32) (h : eH) : Option (Int32 × eH) :=
  (fX6_c l3 h).bind fun q1 =>
  if q1.1 = 0 then
    fX6_areRecipesRight_b89 N k4 l0 l2 s0 q1.2
  else
    (fX6_c l3 q1.2).bind fun q3 =>
    (k_ok 5 q3.2 l0).bind fun _ =>
    (fX6_has l0 q3.1 q3.2).bind fun q5 =>
    if q5.1 = 0 then
      fX6_areRecipesRight_b93 N k4 l0 l2 s0 q5.2
    else
      fX6_areRecipesRight_b89 N k4 l0 l2 s0 q5.2
theorem pX6_areRecipesRight_b71 {w : eW} {d : Nat} (hd : 2 ≤ d + 1) {N : Nat} {k4 : Nat → Int32 → Int32 → eH → Option (Int32 × eH)} (hk4 : ∀ l0 l1 l2 h q, k4 l0 l1 l2 h = some q → wp w (d + 1) YX6_areRecipesRight 4 [some (.ref l0), some (.int l1), some (.int l2), none] [] h (e_is (e_rn c_I q))) {l0 : Nat} {l2 : Int32} {l3 : Int32} {s0 : Int32} {h : eH} {q} (hf : fX6_areRecipesRight_b71 N k4 l0 l2 l3 s0 h = some q) : wp w (d + 1) YX6_areRecipesRight 71 [some (.ref l0), none, some (.int l2), some (.int l3)] [.int s0] h (e_is (e_rn c_I q)) := by
  unfold fX6_areRecipesRight_b71 at hf
  refine w_iload_n dX6_areRecipesRight_71 rfl rfl ?_
  refine x_cnI hf (e_stS (Yc := YX6_c) (av := [.int l3]) (st := [.int s0]) dX6_areRecipesRight_72 q2244 mX6_c) mX6_c.2.2.1 mX6_c.2.2.2.2.1 (Nat.le_of_ble_eq_true rfl) (Nat.le_of_ble_eq_true rfl) (fun q hq => pX6_c (by omega) hq) (fun q1 hf => ?_)
  refine w_if_eq 89 dX6_areRecipesRight_75 (by decide) (fun c2 => ?_) (fun c2 => ?_)
  · replace hf := (if_pos (show q1.1 = 0 from c2)).symm.trans hf
    exact (pX6_areRecipesRight_b89 hd hk4 hf).to ⟨rfl, rfl, trivial⟩
  · replace hf := (if_neg (show ¬ (q1.1 = 0) from c2)).symm.trans hf
    refine w_aload_n dX6_areRecipesRight_78 rfl rfl ?_
    refine w_iload_n dX6_areRecipesRight_79 rfl rfl ?_
    refine x_cnI hf (e_stS (Yc := YX6_c) (av := [.int l3]) (st := [.ref l0, .int s0]) dX6_areRecipesRight_80 q2244 mX6_c) mX6_c.2.2.1 mX6_c.2.2.2.2.1 (Nat.le_of_ble_eq_true rfl) (Nat.le_of_ble_eq_true rfl) (fun q hq => pX6_c (by omega) hq) (fun q3 hf => ?_)
    obtain ⟨_, b4, hf⟩ := Option.bind_eq_some_iff.mp hf
    refine x_cnI hf (e_stV (Yc := YX6_has) (ci := 5) (av := [.int q3.1]) (st := [.int s0]) dX6_areRecipesRight_83 q2251 mX6_has rfl (k_ok_some b4).1 (k_ok_some b4).2) mX6_has.2.2.1 mX6_has.2.2.2.2.1 (Nat.le_of_ble_eq_true rfl) (Nat.le_of_ble_eq_true rfl) (fun q hq => pX6_has (by omega) hq) (fun q5 hf => ?_)
    refine w_if_eq 93 dX6_areRecipesRight_86 (by decide) (fun c6 => ?_) (fun c6 => ?_)
    · replace hf := (if_pos (show q5.1 = 0 from c6)).symm.trans hf
      exact (pX6_areRecipesRight_b93 hd hk4 hf).to ⟨rfl, rfl, trivial⟩
    · replace hf := (if_neg (show ¬ (q5.1 = 0) from c6)).symm.trans hf
      exact (pX6_areRecipesRight_b89 hd hk4 hf).to ⟨rfl, rfl, trivial⟩
def fX6_areRecipesRight_b53 (N : Nat) (k4 : Nat → Int32 → Int32 → eH → Option (Int32 × eH)) (l0 : Nat) (l2 : Int32) (l3 : Int32) (s0 : Int32) (h : eH) : Option (Int32 × eH) :=
  (fX6_b l3 h).bind fun q1 =>
  if q1.1 = 0 then
    fX6_areRecipesRight_b71 N k4 l0 l2 l3 s0 q1.2
  else
    (fX6_b l3 q1.2).bind fun q3 =>
    (k_ok 5 q3.2 l0).bind fun _ =>
    (fX6_has l0 q3.1 q3.2).bind fun q5 =>
    if q5.1 = 0 then
      fX6_areRecipesRight_b93 N k4 l0 l2 s0 q5.2
    else
      fX6_areRecipesRight_b71 N k4 l0 l2 l3 s0 q5.2
theorem pX6_areRecipesRight_b53 {w : eW} {d : Nat} (hd : 2 ≤ d + 1) {N : Nat} {k4 : Nat → Int32 → Int32 → eH → Option (Int32 × eH)} (hk4 : ∀ l0 l1 l2 h q, k4 l0 l1 l2 h = some q → wp w (d + 1) YX6_areRecipesRight 4 [some (.ref l0), some (.int l1), some (.int l2), none] [] h (e_is (e_rn c_I q))) {l0 : Nat} {l2 : Int32} {l3 : Int32} {s0 : Int32} {h : eH} {q} (hf : fX6_areRecipesRight_b53 N k4 l0 l2 l3 s0 h = some q) : wp w (d + 1) YX6_areRecipesRight 53 [some (.ref l0), none, some (.int l2), some (.int l3)] [.int s0] h (e_is (e_rn c_I q)) := by
  unfold fX6_areRecipesRight_b53 at hf
  refine w_iload_n dX6_areRecipesRight_53 rfl rfl ?_
  refine x_cnI hf (e_stS (Yc := YX6_b) (av := [.int l3]) (st := [.int s0]) dX6_areRecipesRight_54 q2241 mX6_b) mX6_b.2.2.1 mX6_b.2.2.2.2.1 (Nat.le_of_ble_eq_true rfl) (Nat.le_of_ble_eq_true rfl) (fun q hq => pX6_b (by omega) hq) (fun q1 hf => ?_)
  refine w_if_eq 71 dX6_areRecipesRight_57 (by decide) (fun c2 => ?_) (fun c2 => ?_)
  · replace hf := (if_pos (show q1.1 = 0 from c2)).symm.trans hf
    exact (pX6_areRecipesRight_b71 hd hk4 hf).to ⟨rfl, rfl, rfl, trivial⟩
  · replace hf := (if_neg (show ¬ (q1.1 = 0) from c2)).symm.trans hf
    refine w_aload_n dX6_areRecipesRight_60 rfl rfl ?_
    refine w_iload_n dX6_areRecipesRight_61 rfl rfl ?_
    refine x_cnI hf (e_stS (Yc := YX6_b) (av := [.int l3]) (st := [.ref l0, .int s0]) dX6_areRecipesRight_62 q2241 mX6_b) mX6_b.2.2.1 mX6_b.2.2.2.2.1 (Nat.le_of_ble_eq_true rfl) (Nat.le_of_ble_eq_true rfl) (fun q hq => pX6_b (by omega) hq) (fun q3 hf => ?_)
    obtain ⟨_, b4, hf⟩ := Option.bind_eq_some_iff.mp hf
    refine x_cnI hf (e_stV (Yc := YX6_has) (ci := 5) (av := [.int q3.1]) (st := [.int s0]) dX6_areRecipesRight_65 q2251 mX6_has rfl (k_ok_some b4).1 (k_ok_some b4).2) mX6_has.2.2.1 mX6_has.2.2.2.2.1 (Nat.le_of_ble_eq_true rfl) (Nat.le_of_ble_eq_true rfl) (fun q hq => pX6_has (by omega) hq) (fun q5 hf => ?_)
    refine w_if_eq 93 dX6_areRecipesRight_68 (by decide) (fun c6 => ?_) (fun c6 => ?_)
    · replace hf := (if_pos (show q5.1 = 0 from c6)).symm.trans hf
      exact (pX6_areRecipesRight_b93 hd hk4 hf).to ⟨rfl, rfl, trivial⟩
    · replace hf := (if_neg (show ¬ (q5.1 = 0) from c6)).symm.trans hf
      exact (pX6_areRecipesRight_b71 hd hk4 hf).to ⟨rfl, rfl, rfl, trivial⟩
def fX6_areRecipesRight_b4 (N : Nat) : Nat → Nat → Int32 → Int32 → eH → Option (Int32 × eH)
  | 0, _, _, _, _ => none
  | n + 1, l0, l1, l2, h =>
    (g_A 5 h l0 3).bind fun a1 =>
    (r_I 100 h a1 (8 : Int32)).bind fun x3 =>
    if x3 ≤ l2 then
      z_r l1 (l1, h)
    else
      (k_ok 5 h l0).bind fun _ =>
      (fX6_word l0 (8 : Int32) l2 h).bind fun q8 =>
      (fX6_d q8.1 q8.2).bind fun q9 =>
      (k_ok 5 q9.2 l0).bind fun _ =>
      (fX6_has l0 q9.1 q9.2).bind fun q11 =>
      if q11.1 = 0 then
        fX6_areRecipesRight_b93 N (fX6_areRecipesRight_b4 N n) l0 l2 l1 q11.2
      else
        (fX6_a q8.1 q11.2).bind fun q13 =>
        if q13.1 = 0 then
          fX6_areRecipesRight_b53 N (fX6_areRecipesRight_b4 N n) l0 l2 q8.1 l1 q13.2
        else
          (fX6_a q8.1 q13.2).bind fun q15 =>
          (k_ok 5 q15.2 l0).bind fun _ =>
          (fX6_has l0 q15.1 q15.2).bind fun q17 =>
          if q17.1 = 0 then
            fX6_areRecipesRight_b93 N (fX6_areRecipesRight_b4 N n) l0 l2 l1 q17.2
          else
            fX6_areRecipesRight_b53 N (fX6_areRecipesRight_b4 N n) l0 l2 q8.1 l1 q17.2
theorem pX6_areRecipesRight_b4 {w : eW} {d : Nat} (hd : 2 ≤ d + 1) {N : Nat} : ∀ (n : Nat) l0 l1 l2 h q, fX6_areRecipesRight_b4 N n l0 l1 l2 h = some q → wp w (d + 1) YX6_areRecipesRight 4 [some (.ref l0), some (.int l1), some (.int l2), none] [] h (e_is (e_rn c_I q)) := by
  intro n
  induction n with
  | zero => intro l0 l1 l2 h q hf; simp [fX6_areRecipesRight_b4] at hf
  | succ n ih =>
    intro l0 l1 l2 h q hf
    rw [fX6_areRecipesRight_b4] at hf
    refine w_iload_n dX6_areRecipesRight_4 rfl rfl ?_
    refine w_aload_n dX6_areRecipesRight_5 rfl rfl ?_
    obtain ⟨a1, b2, hf⟩ := Option.bind_eq_some_iff.mp hf
    refine GX6_21 b2 dX6_areRecipesRight_6 rfl ?_
    refine w_bipush dX6_areRecipesRight_9 (v := 8) (by decide) ?_
    obtain ⟨x3, b4, hf⟩ := Option.bind_eq_some_iff.mp hf
    refine x_rI b4 dX6_areRecipesRight_11 ?_
    refine w_icmp_ge 102 dX6_areRecipesRight_12 (by decide) (fun c5 => ?_) (fun c5 => ?_)
    · replace hf := (if_pos (show x3 ≤ l2 from c5)).symm.trans hf
      refine w_iload_n dX6_areRecipesRight_102 rfl rfl ?_
      obtain ⟨b6, rfl⟩ := z_r_some hf
      exact w_iret dX6_areRecipesRight_103 rfl b6 rfl
    · replace hf := (if_neg (show ¬ (x3 ≤ l2) from c5)).symm.trans hf
      refine w_aload_n dX6_areRecipesRight_15 rfl rfl ?_
      refine w_bipush dX6_areRecipesRight_16 (v := 8) (by decide) ?_
      refine w_iload_n dX6_areRecipesRight_18 rfl rfl ?_
      obtain ⟨_, b7, hf⟩ := Option.bind_eq_some_iff.mp hf
      refine x_cnI hf (e_stV (Yc := YX6_word) (ci := 5) (av := [.int (8 : Int32), .int l2]) (st := []) dX6_areRecipesRight_19 q2229 mX6_word rfl (k_ok_some b7).1 (k_ok_some b7).2) mX6_word.2.2.1 mX6_word.2.2.2.2.1 (Nat.le_of_ble_eq_true rfl) (Nat.le_of_ble_eq_true rfl) (fun q hq => pX6_word (by omega) hq) (fun q8 hf => ?_)
      refine w_istore_n dX6_areRecipesRight_22 rfl (by decide) (ls' := [some (.ref l0), some (.int l1), some (.int l2), some (.int q8.1)]) rfl ?_
      refine w_iload_n dX6_areRecipesRight_23 rfl rfl ?_
      refine w_aload_n dX6_areRecipesRight_24 rfl rfl ?_
      refine w_iload_n dX6_areRecipesRight_25 rfl rfl ?_
      refine x_cnI hf (e_stS (Yc := YX6_d) (av := [.int q8.1]) (st := [.ref l0, .int l1]) dX6_areRecipesRight_26 q2263 mX6_d) mX6_d.2.2.1 mX6_d.2.2.2.2.1 (Nat.le_of_ble_eq_true rfl) (Nat.le_of_ble_eq_true rfl) (fun q hq => pX6_d (by omega) hq) (fun q9 hf => ?_)
      obtain ⟨_, b10, hf⟩ := Option.bind_eq_some_iff.mp hf
      refine x_cnI hf (e_stV (Yc := YX6_has) (ci := 5) (av := [.int q9.1]) (st := [.int l1]) dX6_areRecipesRight_29 q2251 mX6_has rfl (k_ok_some b10).1 (k_ok_some b10).2) mX6_has.2.2.1 mX6_has.2.2.2.2.1 (Nat.le_of_ble_eq_true rfl) (Nat.le_of_ble_eq_true rfl) (fun q hq => pX6_has (by omega) hq) (fun q11 hf => ?_)
      refine w_if_eq 93 dX6_areRecipesRight_32 (by decide) (fun c12 => ?_) (fun c12 => ?_)
      · replace hf := (if_pos (show q11.1 = 0 from c12)).symm.trans hf
        exact (pX6_areRecipesRight_b93 hd ih hf).to ⟨rfl, rfl, trivial⟩
      · replace hf := (if_neg (show ¬ (q11.1 = 0) from c12)).symm.trans hf
        refine w_iload_n dX6_areRecipesRight_35 rfl rfl ?_
        refine x_cnI hf (e_stS (Yc := YX6_a) (av := [.int q8.1]) (st := [.int l1]) dX6_areRecipesRight_36 q2238 mX6_a) mX6_a.2.2.1 mX6_a.2.2.2.2.1 (Nat.le_of_ble_eq_true rfl) (Nat.le_of_ble_eq_true rfl) (fun q hq => pX6_a (by omega) hq) (fun q13 hf => ?_)
        refine w_if_eq 53 dX6_areRecipesRight_39 (by decide) (fun c14 => ?_) (fun c14 => ?_)
        · replace hf := (if_pos (show q13.1 = 0 from c14)).symm.trans hf
          exact (pX6_areRecipesRight_b53 hd ih hf).to ⟨rfl, rfl, rfl, trivial⟩
        · replace hf := (if_neg (show ¬ (q13.1 = 0) from c14)).symm.trans hf
          refine w_aload_n dX6_areRecipesRight_42 rfl rfl ?_
          refine w_iload_n dX6_areRecipesRight_43 rfl rfl ?_
          refine x_cnI hf (e_stS (Yc := YX6_a) (av := [.int q8.1]) (st := [.ref l0, .int l1]) dX6_areRecipesRight_44 q2238 mX6_a) mX6_a.2.2.1 mX6_a.2.2.2.2.1 (Nat.le_of_ble_eq_true rfl) (Nat.le_of_ble_eq_true rfl) (fun q hq => pX6_a (by omega) hq) (fun q15 hf => ?_)
          obtain ⟨_, b16, hf⟩ := Option.bind_eq_some_iff.mp hf
          refine x_cnI hf (e_stV (Yc := YX6_has) (ci := 5) (av := [.int q15.1]) (st := [.int l1]) dX6_areRecipesRight_47 q2251 mX6_has rfl (k_ok_some b16).1 (k_ok_some b16).2) mX6_has.2.2.1 mX6_has.2.2.2.2.1 (Nat.le_of_ble_eq_true rfl) (Nat.le_of_ble_eq_true rfl) (fun q hq => pX6_has (by omega) hq) (fun q17 hf => ?_)
          refine w_if_eq 93 dX6_areRecipesRight_50 (by decide) (fun c18 => ?_) (fun c18 => ?_)
          · replace hf := (if_pos (show q17.1 = 0 from c18)).symm.trans hf
            exact (pX6_areRecipesRight_b93 hd ih hf).to ⟨rfl, rfl, trivial⟩
          · replace hf := (if_neg (show ¬ (q17.1 = 0) from c18)).symm.trans hf
            exact (pX6_areRecipesRight_b53 hd ih hf).to ⟨rfl, rfl, rfl, trivial⟩
def fX6_areRecipesRight (N : Nat) (this : Nat) (h : eH) : Option (Int32 × eH) :=
  fX6_areRecipesRight_b4 N N this (1 : Int32) (0 : Int32) h
theorem pX6_areRecipesRight {w : eW} {d : Nat} (hd : 2 ≤ d) {N : Nat} {this : Nat} {h : eH} {q} (hf : fX6_areRecipesRight N this h = some q) : wm w d YX6_areRecipesRight [.ref this] h (e_is (e_rn c_I q)) := by
  obtain ⟨d, rfl⟩ : ∃ e, d = e + 1 := ⟨d - 1, by omega⟩
  show wp w (d + 1) YX6_areRecipesRight 0 [some (.ref this), none, none, none] [] h _
  unfold fX6_areRecipesRight at hf
  refine w_iconst dX6_areRecipesRight_0 (v := 1) (by decide) ?_
  refine w_istore_n dX6_areRecipesRight_1 rfl (by decide) (ls' := [some (.ref this), some (.int (1 : Int32)), none, none]) rfl ?_
  refine w_iconst dX6_areRecipesRight_2 (v := 0) (by decide) ?_
  refine w_istore_n dX6_areRecipesRight_3 rfl (by decide) (ls' := [some (.ref this), some (.int (1 : Int32)), some (.int (0 : Int32)), none]) rfl ?_
  exact (pX6_areRecipesRight_b4 hd N _ _ _ _ _ hf).to ⟨rfl, rfl, rfl, trivial⟩
abbrev cX6_areParametersRight : ByteArray := prog_7_method_20_code
def yX6_areParametersRight : MethodName := ⟨RX6, "areParametersRight", "()Z"⟩
def YX6_areParametersRight : eY := (yX6_areParametersRight, cX6_areParametersRight, 3, (Option.some FieldType.boolean), [])
theorem mX6_areParametersRight : e_mv YX6_areParametersRight RX6 0 := ⟨q2296, qs29, q2297, by decide, by decide +kernel, (e_sig (by decide +kernel))⟩
theorem dX6_areParametersRight_0 : decode cX6_areParametersRight 0 = .ok (.iconst 1, 1) := dc_4 (by decide +kernel)
theorem dX6_areParametersRight_1 : decode cX6_areParametersRight 1 = .ok (.istore_n 1, 1) := dc_60 (by decide +kernel)
theorem dX6_areParametersRight_2 : decode cX6_areParametersRight 2 = .ok (.iconst 1, 1) := dc_4 (by decide +kernel)
theorem dX6_areParametersRight_3 : decode cX6_areParametersRight 3 = .ok (.istore_n 2, 1) := dc_61 (by decide +kernel)
theorem dX6_areParametersRight_4 : decode cX6_areParametersRight 4 = .ok (.iload_n 2, 1) := dc_28 (by decide +kernel)
theorem dX6_areParametersRight_5 : decode cX6_areParametersRight 5 = .ok (.aload_n 0, 1) := dc_42 (by decide +kernel)
theorem dX6_areParametersRight_6 : decode cX6_areParametersRight 6 = .ok (.getfield 21, 3) := dc_180 (a := 0) (b := 21) (n := 21) (by decide +kernel)
theorem dX6_areParametersRight_9 : decode cX6_areParametersRight 9 = .ok (.bipush 9, 2) := dc_16 (a := 9) (v := 9) (by decide +kernel)
theorem dX6_areParametersRight_11 : decode cX6_areParametersRight 11 = .ok (.iaload, 1) := dc_46 (by decide +kernel)
theorem dX6_areParametersRight_12 : decode cX6_areParametersRight 12 = .ok (.if_icmp .ge 23, 3) := dc_162 (a := 0) (b := 23) (v := 23) (by decide +kernel)
theorem dX6_areParametersRight_15 : decode cX6_areParametersRight 15 = .ok (.iload_n 1, 1) := dc_27 (by decide +kernel)
theorem dX6_areParametersRight_16 : decode cX6_areParametersRight 16 = .ok (.aload_n 0, 1) := dc_42 (by decide +kernel)
theorem dX6_areParametersRight_17 : decode cX6_areParametersRight 17 = .ok (.aload_n 0, 1) := dc_42 (by decide +kernel)
theorem dX6_areParametersRight_18 : decode cX6_areParametersRight 18 = .ok (.bipush 9, 2) := dc_16 (a := 9) (v := 9) (by decide +kernel)
theorem dX6_areParametersRight_20 : decode cX6_areParametersRight 20 = .ok (.iload_n 2, 1) := dc_28 (by decide +kernel)
theorem dX6_areParametersRight_21 : decode cX6_areParametersRight 21 = .ok (.invokevirtual 32, 3) := dc_182 (a := 0) (b := 32) (n := 32) (by decide +kernel)
theorem dX6_areParametersRight_24 : decode cX6_areParametersRight 24 = .ok (.invokevirtual 75, 3) := dc_182 (a := 0) (b := 75) (n := 75) (by decide +kernel)
theorem dX6_areParametersRight_27 : decode cX6_areParametersRight 27 = .ok (.iand, 1) := dc_126 (by decide +kernel)
theorem dX6_areParametersRight_28 : decode cX6_areParametersRight 28 = .ok (.istore_n 1, 1) := dc_60 (by decide +kernel)
theorem dX6_areParametersRight_29 : decode cX6_areParametersRight 29 = .ok (.iinc 2 1, 3) := dc_132 (a := 2) (b := 1) (v := 1) (by decide +kernel)
theorem dX6_areParametersRight_32 : decode cX6_areParametersRight 32 = .ok (.goto (-28), 3) := dc_167 (a := 255) (b := 228) (v := -28) (by decide +kernel)
theorem dX6_areParametersRight_35 : decode cX6_areParametersRight 35 = .ok (.iload_n 1, 1) := dc_27 (by decide +kernel)
theorem dX6_areParametersRight_36 : decode cX6_areParametersRight 36 = .ok (.ireturn, 1) := dc_172 (by decide +kernel)
def fX6_areParametersRight_b4 (N : Nat) : Nat → Nat → Int32 → Int32 → eH → Option (Int32 × eH)
  | 0, _, _, _, _ => none
  | n + 1, l0, l1, l2, h =>
    (g_A 5 h l0 3).bind fun a1 =>
    (r_I 100 h a1 (9 : Int32)).bind fun x3 =>
    if x3 ≤ l2 then
      z_r l1 (l1, h)
    else
      (k_ok 5 h l0).bind fun _ =>
      (fX6_word l0 (9 : Int32) l2 h).bind fun q8 =>
      (k_ok 5 q8.2 l0).bind fun _ =>
      (fX6_isFraction l0 q8.1 q8.2).bind fun q10 =>
      fX6_areParametersRight_b4 N n l0 (l1 &&& q10.1) (l2 + (1 : Int32)) q10.2
theorem pX6_areParametersRight_b4 {w : eW} {d : Nat} (hd : 2 ≤ d + 1) {N : Nat} : ∀ (n : Nat) l0 l1 l2 h q, fX6_areParametersRight_b4 N n l0 l1 l2 h = some q → wp w (d + 1) YX6_areParametersRight 4 [some (.ref l0), some (.int l1), some (.int l2)] [] h (e_is (e_rn c_I q)) := by
  intro n
  induction n with
  | zero => intro l0 l1 l2 h q hf; simp [fX6_areParametersRight_b4] at hf
  | succ n ih =>
    intro l0 l1 l2 h q hf
    rw [fX6_areParametersRight_b4] at hf
    refine w_iload_n dX6_areParametersRight_4 rfl rfl ?_
    refine w_aload_n dX6_areParametersRight_5 rfl rfl ?_
    obtain ⟨a1, b2, hf⟩ := Option.bind_eq_some_iff.mp hf
    refine GX6_21 b2 dX6_areParametersRight_6 rfl ?_
    refine w_bipush dX6_areParametersRight_9 (v := 9) (by decide) ?_
    obtain ⟨x3, b4, hf⟩ := Option.bind_eq_some_iff.mp hf
    refine x_rI b4 dX6_areParametersRight_11 ?_
    refine w_icmp_ge 35 dX6_areParametersRight_12 (by decide) (fun c5 => ?_) (fun c5 => ?_)
    · replace hf := (if_pos (show x3 ≤ l2 from c5)).symm.trans hf
      refine w_iload_n dX6_areParametersRight_35 rfl rfl ?_
      obtain ⟨b6, rfl⟩ := z_r_some hf
      exact w_iret dX6_areParametersRight_36 rfl b6 rfl
    · replace hf := (if_neg (show ¬ (x3 ≤ l2) from c5)).symm.trans hf
      refine w_iload_n dX6_areParametersRight_15 rfl rfl ?_
      refine w_aload_n dX6_areParametersRight_16 rfl rfl ?_
      refine w_aload_n dX6_areParametersRight_17 rfl rfl ?_
      refine w_bipush dX6_areParametersRight_18 (v := 9) (by decide) ?_
      refine w_iload_n dX6_areParametersRight_20 rfl rfl ?_
      obtain ⟨_, b7, hf⟩ := Option.bind_eq_some_iff.mp hf
      refine x_cnI hf (e_stV (Yc := YX6_word) (ci := 5) (av := [.int (9 : Int32), .int l2]) (st := [.ref l0, .int l1]) dX6_areParametersRight_21 q2229 mX6_word rfl (k_ok_some b7).1 (k_ok_some b7).2) mX6_word.2.2.1 mX6_word.2.2.2.2.1 (Nat.le_of_ble_eq_true rfl) (Nat.le_of_ble_eq_true rfl) (fun q hq => pX6_word (by omega) hq) (fun q8 hf => ?_)
      obtain ⟨_, b9, hf⟩ := Option.bind_eq_some_iff.mp hf
      refine x_cnI hf (e_stV (Yc := YX6_isFraction) (ci := 5) (av := [.int q8.1]) (st := [.int l1]) dX6_areParametersRight_24 q2274 mX6_isFraction rfl (k_ok_some b9).1 (k_ok_some b9).2) mX6_isFraction.2.2.1 mX6_isFraction.2.2.2.2.1 (Nat.le_of_ble_eq_true rfl) (Nat.le_of_ble_eq_true rfl) (fun q hq => pX6_isFraction (by omega) hq) (fun q10 hf => ?_)
      refine w_iand dX6_areParametersRight_27 ?_
      refine w_istore_n dX6_areParametersRight_28 rfl (by decide) (ls' := [some (.ref l0), some (.int (l1 &&& q10.1)), some (.int l2)]) rfl ?_
      refine w_iinc dX6_areParametersRight_29 (v := (l2 + (1 : Int32))) rfl rfl (by decide) (ls' := [some (.ref l0), some (.int (l1 &&& q10.1)), some (.int (l2 + (1 : Int32)))]) rfl ?_
      refine w_goto 4 dX6_areParametersRight_32 (by decide) ?_
      exact (ih _ _ _ _ _ hf).to ⟨rfl, rfl, rfl, trivial⟩
def fX6_areParametersRight (N : Nat) (this : Nat) (h : eH) : Option (Int32 × eH) :=
  fX6_areParametersRight_b4 N N this (1 : Int32) (1 : Int32) h
theorem pX6_areParametersRight {w : eW} {d : Nat} (hd : 2 ≤ d) {N : Nat} {this : Nat} {h : eH} {q} (hf : fX6_areParametersRight N this h = some q) : wm w d YX6_areParametersRight [.ref this] h (e_is (e_rn c_I q)) := by
  obtain ⟨d, rfl⟩ : ∃ e, d = e + 1 := ⟨d - 1, by omega⟩
  show wp w (d + 1) YX6_areParametersRight 0 [some (.ref this), none, none] [] h _
  unfold fX6_areParametersRight at hf
  refine w_iconst dX6_areParametersRight_0 (v := 1) (by decide) ?_
  refine w_istore_n dX6_areParametersRight_1 rfl (by decide) (ls' := [some (.ref this), some (.int (1 : Int32)), none]) rfl ?_
  refine w_iconst dX6_areParametersRight_2 (v := 1) (by decide) ?_
  refine w_istore_n dX6_areParametersRight_3 rfl (by decide) (ls' := [some (.ref this), some (.int (1 : Int32)), some (.int (1 : Int32))]) rfl ?_
  exact (pX6_areParametersRight_b4 hd N _ _ _ _ _ hf).to ⟨rfl, rfl, rfl, trivial⟩
abbrev cX6_check : ByteArray := prog_7_method_21_code
def yX6_check : MethodName := ⟨RX6, "check", "(LTypeHouse$FontFile;)I"⟩
def YX6_check : eY := (yX6_check, cX6_check, 3, (Option.some FieldType.int), [])
theorem mX6_check : e_mv YX6_check RX6 1 := ⟨q2210, qs16, q2211, by decide, by decide +kernel, (e_sig (by decide +kernel))⟩
theorem dX6_check_0 : decode cX6_check 0 = .ok (.aload_n 0, 1) := dc_42 (by decide +kernel)
theorem dX6_check_1 : decode cX6_check 1 = .ok (.aload_n 1, 1) := dc_43 (by decide +kernel)
theorem dX6_check_2 : decode cX6_check 2 = .ok (.invokevirtual 90, 3) := dc_182 (a := 0) (b := 90) (n := 90) (by decide +kernel)
theorem dX6_check_5 : decode cX6_check 5 = .ok (.istore_n 2, 1) := dc_61 (by decide +kernel)
theorem dX6_check_6 : decode cX6_check 6 = .ok (.iload_n 2, 1) := dc_28 (by decide +kernel)
theorem dX6_check_7 : decode cX6_check 7 = .ok (.ifCond .eq 5, 3) := dc_153 (a := 0) (b := 5) (v := 5) (by decide +kernel)
theorem dX6_check_10 : decode cX6_check 10 = .ok (.iload_n 2, 1) := dc_28 (by decide +kernel)
theorem dX6_check_11 : decode cX6_check 11 = .ok (.ireturn, 1) := dc_172 (by decide +kernel)
theorem dX6_check_12 : decode cX6_check 12 = .ok (.aload_n 0, 1) := dc_42 (by decide +kernel)
theorem dX6_check_13 : decode cX6_check 13 = .ok (.invokevirtual 94, 3) := dc_182 (a := 0) (b := 94) (n := 94) (by decide +kernel)
theorem dX6_check_16 : decode cX6_check 16 = .ok (.ifCond .ne 6, 3) := dc_154 (a := 0) (b := 6) (v := 6) (by decide +kernel)
theorem dX6_check_19 : decode cX6_check 19 = .ok (.bipush 6, 2) := dc_16 (a := 6) (v := 6) (by decide +kernel)
theorem dX6_check_21 : decode cX6_check 21 = .ok (.ireturn, 1) := dc_172 (by decide +kernel)
theorem dX6_check_22 : decode cX6_check 22 = .ok (.aload_n 0, 1) := dc_42 (by decide +kernel)
theorem dX6_check_23 : decode cX6_check 23 = .ok (.invokevirtual 98, 3) := dc_182 (a := 0) (b := 98) (n := 98) (by decide +kernel)
theorem dX6_check_26 : decode cX6_check 26 = .ok (.ifCond .ne 6, 3) := dc_154 (a := 0) (b := 6) (v := 6) (by decide +kernel)
theorem dX6_check_29 : decode cX6_check 29 = .ok (.bipush 7, 2) := dc_16 (a := 7) (v := 7) (by decide +kernel)
theorem dX6_check_31 : decode cX6_check 31 = .ok (.ireturn, 1) := dc_172 (by decide +kernel)
theorem dX6_check_32 : decode cX6_check 32 = .ok (.aload_n 0, 1) := dc_42 (by decide +kernel)
theorem dX6_check_33 : decode cX6_check 33 = .ok (.invokevirtual 101, 3) := dc_182 (a := 0) (b := 101) (n := 101) (by decide +kernel)
theorem dX6_check_36 : decode cX6_check 36 = .ok (.ifCond .ne 6, 3) := dc_154 (a := 0) (b := 6) (v := 6) (by decide +kernel)
theorem dX6_check_39 : decode cX6_check 39 = .ok (.bipush 8, 2) := dc_16 (a := 8) (v := 8) (by decide +kernel)
theorem dX6_check_41 : decode cX6_check 41 = .ok (.ireturn, 1) := dc_172 (by decide +kernel)
theorem dX6_check_42 : decode cX6_check 42 = .ok (.aload_n 0, 1) := dc_42 (by decide +kernel)
theorem dX6_check_43 : decode cX6_check 43 = .ok (.invokevirtual 104, 3) := dc_182 (a := 0) (b := 104) (n := 104) (by decide +kernel)
theorem dX6_check_46 : decode cX6_check 46 = .ok (.ifCond .ne 6, 3) := dc_154 (a := 0) (b := 6) (v := 6) (by decide +kernel)
theorem dX6_check_49 : decode cX6_check 49 = .ok (.bipush 9, 2) := dc_16 (a := 9) (v := 9) (by decide +kernel)
theorem dX6_check_51 : decode cX6_check 51 = .ok (.ireturn, 1) := dc_172 (by decide +kernel)
theorem dX6_check_52 : decode cX6_check 52 = .ok (.aload_n 0, 1) := dc_42 (by decide +kernel)
theorem dX6_check_53 : decode cX6_check 53 = .ok (.invokevirtual 107, 3) := dc_182 (a := 0) (b := 107) (n := 107) (by decide +kernel)
theorem dX6_check_56 : decode cX6_check 56 = .ok (.ifCond .ne 6, 3) := dc_154 (a := 0) (b := 6) (v := 6) (by decide +kernel)
theorem dX6_check_59 : decode cX6_check 59 = .ok (.bipush 10, 2) := dc_16 (a := 10) (v := 10) (by decide +kernel)
theorem dX6_check_61 : decode cX6_check 61 = .ok (.ireturn, 1) := dc_172 (by decide +kernel)
theorem dX6_check_62 : decode cX6_check 62 = .ok (.aload_n 0, 1) := dc_42 (by decide +kernel)
theorem dX6_check_63 : decode cX6_check 63 = .ok (.invokevirtual 110, 3) := dc_182 (a := 0) (b := 110) (n := 110) (by decide +kernel)
theorem dX6_check_66 : decode cX6_check 66 = .ok (.ifCond .eq 7, 3) := dc_153 (a := 0) (b := 7) (v := 7) (by decide +kernel)
theorem dX6_check_69 : decode cX6_check 69 = .ok (.iconst 0, 1) := dc_3 (by decide +kernel)
theorem dX6_check_70 : decode cX6_check 70 = .ok (.goto 5, 3) := dc_167 (a := 0) (b := 5) (v := 5) (by decide +kernel)
theorem dX6_check_73 : decode cX6_check 73 = .ok (.bipush 11, 2) := dc_16 (a := 11) (v := 11) (by decide +kernel)
theorem dX6_check_75 : decode cX6_check 75 = .ok (.ireturn, 1) := dc_172 (by decide +kernel)
def fX6_check_b75 (N : Nat) (s0 : Int32) (h : eH) : Option (Int32 × eH) :=
  some (s0, h)
theorem pX6_check_b75 {w : eW} {d : Nat} (hd : 4 ≤ d + 1) {N : Nat} {s0 : Int32} {h : eH} {q} (hf : fX6_check_b75 N s0 h = some q) : wp w (d + 1) YX6_check 75 [none, none, none] [.int s0] h (e_is (e_rn c_I q)) := by
  unfold fX6_check_b75 at hf
  cases hf
  exact w_iret dX6_check_75 rfl rfl rfl
def fX6_check (N : Nat) (this : Nat) (p0 : Nat) (h : eH) : Option (Int32 × eH) :=
  (k_ok 5 h this).bind fun _ =>
  (fX6_layOut N this p0 h).bind fun q2 =>
  if q2.1 = 0 then
    (k_ok 5 q2.2 this).bind fun _ =>
    (fX6_areSizesRight N this q2.2).bind fun q5 =>
    if ¬ q5.1 = 0 then
      (k_ok 5 q5.2 this).bind fun _ =>
      (fX6_areTagsRight N this q5.2).bind fun q8 =>
      if ¬ q8.1 = 0 then
        (k_ok 5 q8.2 this).bind fun _ =>
        (fX6_areFractions N this q8.2).bind fun q11 =>
        if ¬ q11.1 = 0 then
          (k_ok 5 q11.2 this).bind fun _ =>
          (fX6_isProgramRight N this q11.2).bind fun q14 =>
          if ¬ q14.1 = 0 then
            (k_ok 5 q14.2 this).bind fun _ =>
            (fX6_areRecipesRight N this q14.2).bind fun q17 =>
            if ¬ q17.1 = 0 then
              (k_ok 5 q17.2 this).bind fun _ =>
              (fX6_areParametersRight N this q17.2).bind fun q20 =>
              if q20.1 = 0 then
                fX6_check_b75 N (11 : Int32) q20.2
              else
                fX6_check_b75 N (0 : Int32) q20.2
            else
              some ((10 : Int32), q17.2)
          else
            some ((9 : Int32), q14.2)
        else
          some ((8 : Int32), q11.2)
      else
        some ((7 : Int32), q8.2)
    else
      some ((6 : Int32), q5.2)
  else
    some (q2.1, q2.2)
theorem pX6_check {w : eW} {d : Nat} (hd : 4 ≤ d) {N : Nat} {this : Nat} {p0 : Nat} {h : eH} {q} (hf : fX6_check N this p0 h = some q) : wm w d YX6_check [.ref this, .ref p0] h (e_is (e_rn c_I q)) := by
  obtain ⟨d, rfl⟩ : ∃ e, d = e + 1 := ⟨d - 1, by omega⟩
  show wp w (d + 1) YX6_check 0 [some (.ref this), some (.ref p0), none] [] h _
  unfold fX6_check at hf
  refine w_aload_n dX6_check_0 rfl rfl ?_
  refine w_aload_n dX6_check_1 rfl rfl ?_
  obtain ⟨_, b1, hf⟩ := Option.bind_eq_some_iff.mp hf
  refine x_cnI hf (e_stV (Yc := YX6_layOut) (ci := 5) (av := [.ref p0]) (st := []) dX6_check_2 q2212 mX6_layOut rfl (k_ok_some b1).1 (k_ok_some b1).2) mX6_layOut.2.2.1 mX6_layOut.2.2.2.2.1 (Nat.le_of_ble_eq_true rfl) (Nat.le_of_ble_eq_true rfl) (fun q hq => pX6_layOut (by omega) hq) (fun q2 hf => ?_)
  refine w_istore_n dX6_check_5 rfl (by decide) (ls' := [some (.ref this), some (.ref p0), some (.int q2.1)]) rfl ?_
  refine w_iload_n dX6_check_6 rfl rfl ?_
  refine w_if_eq 12 dX6_check_7 (by decide) (fun c3 => ?_) (fun c3 => ?_)
  · replace hf := (if_pos (show q2.1 = 0 from c3)).symm.trans hf
    refine w_aload_n dX6_check_12 rfl rfl ?_
    obtain ⟨_, b4, hf⟩ := Option.bind_eq_some_iff.mp hf
    refine x_cnI hf (e_stV (Yc := YX6_areSizesRight) (ci := 5) (av := []) (st := []) dX6_check_13 q2234 mX6_areSizesRight rfl (k_ok_some b4).1 (k_ok_some b4).2) mX6_areSizesRight.2.2.1 mX6_areSizesRight.2.2.2.2.1 (Nat.le_of_ble_eq_true rfl) (Nat.le_of_ble_eq_true rfl) (fun q hq => pX6_areSizesRight (by omega) hq) (fun q5 hf => ?_)
    refine w_if_ne 22 dX6_check_16 (by decide) (fun c6 => ?_) (fun c6 => ?_)
    · replace hf := (if_pos (show ¬ q5.1 = 0 from c6)).symm.trans hf
      refine w_aload_n dX6_check_22 rfl rfl ?_
      obtain ⟨_, b7, hf⟩ := Option.bind_eq_some_iff.mp hf
      refine x_cnI hf (e_stV (Yc := YX6_areTagsRight) (ci := 5) (av := []) (st := []) dX6_check_23 q2247 mX6_areTagsRight rfl (k_ok_some b7).1 (k_ok_some b7).2) mX6_areTagsRight.2.2.1 mX6_areTagsRight.2.2.2.2.1 (Nat.le_of_ble_eq_true rfl) (Nat.le_of_ble_eq_true rfl) (fun q hq => pX6_areTagsRight (by omega) hq) (fun q8 hf => ?_)
      refine w_if_ne 32 dX6_check_26 (by decide) (fun c9 => ?_) (fun c9 => ?_)
      · replace hf := (if_pos (show ¬ q8.1 = 0 from c9)).symm.trans hf
        refine w_aload_n dX6_check_32 rfl rfl ?_
        obtain ⟨_, b10, hf⟩ := Option.bind_eq_some_iff.mp hf
        refine x_cnI hf (e_stV (Yc := YX6_areFractions) (ci := 5) (av := []) (st := []) dX6_check_33 q2270 mX6_areFractions rfl (k_ok_some b10).1 (k_ok_some b10).2) mX6_areFractions.2.2.1 mX6_areFractions.2.2.2.2.1 (Nat.le_of_ble_eq_true rfl) (Nat.le_of_ble_eq_true rfl) (fun q hq => pX6_areFractions (by omega) hq) (fun q11 hf => ?_)
        refine w_if_ne 42 dX6_check_36 (by decide) (fun c12 => ?_) (fun c12 => ?_)
        · replace hf := (if_pos (show ¬ q11.1 = 0 from c12)).symm.trans hf
          refine w_aload_n dX6_check_42 rfl rfl ?_
          obtain ⟨_, b13, hf⟩ := Option.bind_eq_some_iff.mp hf
          refine x_cnI hf (e_stV (Yc := YX6_isProgramRight) (ci := 5) (av := []) (st := []) dX6_check_43 q2278 mX6_isProgramRight rfl (k_ok_some b13).1 (k_ok_some b13).2) mX6_isProgramRight.2.2.1 mX6_isProgramRight.2.2.2.2.1 (Nat.le_of_ble_eq_true rfl) (Nat.le_of_ble_eq_true rfl) (fun q hq => pX6_isProgramRight (by omega) hq) (fun q14 hf => ?_)
          refine w_if_ne 52 dX6_check_46 (by decide) (fun c15 => ?_) (fun c15 => ?_)
          · replace hf := (if_pos (show ¬ q14.1 = 0 from c15)).symm.trans hf
            refine w_aload_n dX6_check_52 rfl rfl ?_
            obtain ⟨_, b16, hf⟩ := Option.bind_eq_some_iff.mp hf
            refine x_cnI hf (e_stV (Yc := YX6_areRecipesRight) (ci := 5) (av := []) (st := []) dX6_check_53 q2290 mX6_areRecipesRight rfl (k_ok_some b16).1 (k_ok_some b16).2) mX6_areRecipesRight.2.2.1 mX6_areRecipesRight.2.2.2.2.1 (Nat.le_of_ble_eq_true rfl) (Nat.le_of_ble_eq_true rfl) (fun q hq => pX6_areRecipesRight (by omega) hq) (fun q17 hf => ?_)
            refine w_if_ne 62 dX6_check_56 (by decide) (fun c18 => ?_) (fun c18 => ?_)
            · replace hf := (if_pos (show ¬ q17.1 = 0 from c18)).symm.trans hf
              refine w_aload_n dX6_check_62 rfl rfl ?_
              obtain ⟨_, b19, hf⟩ := Option.bind_eq_some_iff.mp hf
              refine x_cnI hf (e_stV (Yc := YX6_areParametersRight) (ci := 5) (av := []) (st := []) dX6_check_63 q2294 mX6_areParametersRight rfl (k_ok_some b19).1 (k_ok_some b19).2) mX6_areParametersRight.2.2.1 mX6_areParametersRight.2.2.2.2.1 (Nat.le_of_ble_eq_true rfl) (Nat.le_of_ble_eq_true rfl) (fun q hq => pX6_areParametersRight (by omega) hq) (fun q20 hf => ?_)
              refine w_if_eq 73 dX6_check_66 (by decide) (fun c21 => ?_) (fun c21 => ?_)
              · replace hf := (if_pos (show q20.1 = 0 from c21)).symm.trans hf
                refine w_bipush dX6_check_73 (v := 11) (by decide) ?_
                exact (pX6_check_b75 hd hf).to trivial
              · replace hf := (if_neg (show ¬ (q20.1 = 0) from c21)).symm.trans hf
                refine w_iconst dX6_check_69 (v := 0) (by decide) ?_
                refine w_goto 75 dX6_check_70 (by decide) ?_
                exact (pX6_check_b75 hd hf).to trivial
            · replace hf := (if_neg (show ¬ (¬ q17.1 = 0) from (fun z => z c18))).symm.trans hf
              refine w_bipush dX6_check_59 (v := 10) (by decide) ?_
              cases hf
              exact w_iret dX6_check_61 rfl rfl rfl
          · replace hf := (if_neg (show ¬ (¬ q14.1 = 0) from (fun z => z c15))).symm.trans hf
            refine w_bipush dX6_check_49 (v := 9) (by decide) ?_
            cases hf
            exact w_iret dX6_check_51 rfl rfl rfl
        · replace hf := (if_neg (show ¬ (¬ q11.1 = 0) from (fun z => z c12))).symm.trans hf
          refine w_bipush dX6_check_39 (v := 8) (by decide) ?_
          cases hf
          exact w_iret dX6_check_41 rfl rfl rfl
      · replace hf := (if_neg (show ¬ (¬ q8.1 = 0) from (fun z => z c9))).symm.trans hf
        refine w_bipush dX6_check_29 (v := 7) (by decide) ?_
        cases hf
        exact w_iret dX6_check_31 rfl rfl rfl
    · replace hf := (if_neg (show ¬ (¬ q5.1 = 0) from (fun z => z c6))).symm.trans hf
      refine w_bipush dX6_check_19 (v := 6) (by decide) ?_
      cases hf
      exact w_iret dX6_check_21 rfl rfl rfl
  · replace hf := (if_neg (show ¬ (q2.1 = 0) from c3)).symm.trans hf
    refine w_iload_n dX6_check_10 rfl rfl ?_
    cases hf
    exact w_iret dX6_check_11 rfl rfl rfl
