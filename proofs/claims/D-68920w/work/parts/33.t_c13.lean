set_option maxRecDepth 100000
set_option maxHeartbeats 4000000
theorem q2496 : (Jvm.Cond.methodLink "TypeHouse$Expander" (200 : Nat) ({ cls := "TypeHouse$Expander", name := "tick", desc := "()V" } : Jvm.MethodName)) ∈ lw_all := lw_g (lw_at lw_m9 151 rfl) rfl
theorem q2501 : (Jvm.Cond.methodLink "TypeHouse$Expander" (203 : Nat) ({ cls := "TypeHouse$Expander", name := "call", desc := "(I)V" } : Jvm.MethodName)) ∈ lw_all := lw_g (lw_at lw_m9 156 rfl) rfl
theorem q2554 : (Jvm.Cond.methodLink "TypeHouse$Expander" (206 : Nat) ({ cls := "TypeHouse$Expander", name := "expandPrimitive", desc := "(II)V" } : Jvm.MethodName)) ∈ lw_all := lw_g (lw_at lw_m9 209 rfl) rfl
theorem q2556 : (Jvm.Cond.instanceMethod ({ cls := "TypeHouse$Expander", name := "expandPrimitive", desc := "(II)V" } : Jvm.MethodName)) ∈ lw_all := lw_g (lw_at lw_m9 211 rfl) rfl
theorem q2557 : (Jvm.Cond.code ({ cls := "TypeHouse$Expander", name := "expandPrimitive", desc := "(II)V" } : Jvm.MethodName) prog_4_method_17_code (6 : Nat) (Option.none : Option Jvm.ClassFile.FieldType)) ∈ lw_all := lw_g (lw_at lw_m9 212 rfl) rfl
theorem q2559 : (Jvm.Cond.methodLink "TypeHouse$Expander" (216 : Nat) ({ cls := "TypeHouse$Expander", name := "makeName", desc := "()V" } : Jvm.MethodName)) ∈ lw_all := lw_g (lw_at lw_m9 214 rfl) rfl
theorem q2561 : (Jvm.Cond.instanceMethod ({ cls := "TypeHouse$Expander", name := "makeName", desc := "()V" } : Jvm.MethodName)) ∈ lw_all := lw_g (lw_at lw_m9 216 rfl) rfl
theorem q2562 : (Jvm.Cond.code ({ cls := "TypeHouse$Expander", name := "makeName", desc := "()V" } : Jvm.MethodName) prog_4_method_18_code (4 : Nat) (Option.none : Option Jvm.ClassFile.FieldType)) ∈ lw_all := lw_g (lw_at lw_m9 217 rfl) rfl
theorem q2572 : (Jvm.Cond.methodLink "TypeHouse$Expander" (246 : Nat) ({ cls := "TypeHouse$Names", name := "open", desc := "()V" } : Jvm.MethodName)) ∈ lw_all := lw_g (lw_at lw_m9 227 rfl) rfl
theorem q2573 : (Jvm.Cond.methodLink "TypeHouse$Expander" (249 : Nat) ({ cls := "TypeHouse$Names", name := "add", desc := "(I)V" } : Jvm.MethodName)) ∈ lw_all := lw_g (lw_at lw_m9 228 rfl) rfl
theorem q2574 : (Jvm.Cond.methodLink "TypeHouse$Expander" (252 : Nat) ({ cls := "TypeHouse$Names", name := "slot", desc := "()I" } : Jvm.MethodName)) ∈ lw_all := lw_g (lw_at lw_m9 229 rfl) rfl
theorem q2575 : (Jvm.Cond.methodLink "TypeHouse$Expander" (222 : Nat) ({ cls := "TypeHouse$Expander", name := "spell", desc := "(I)V" } : Jvm.MethodName)) ∈ lw_all := lw_g (lw_at lw_m9 230 rfl) rfl
theorem q2577 : (Jvm.Cond.instanceMethod ({ cls := "TypeHouse$Expander", name := "spell", desc := "(I)V" } : Jvm.MethodName)) ∈ lw_all := lw_g (lw_at lw_m9 232 rfl) rfl
theorem q2578 : (Jvm.Cond.code ({ cls := "TypeHouse$Expander", name := "spell", desc := "(I)V" } : Jvm.MethodName) prog_4_method_19_code (5 : Nat) (Option.none : Option Jvm.ClassFile.FieldType)) ∈ lw_all := lw_g (lw_at lw_m9 233 rfl) rfl
theorem q2586 : (Jvm.Cond.methodLink "TypeHouse$Expander" (265 : Nat) ({ cls := "TypeHouse$Tokens", name := "putAll", desc := "([II)V" } : Jvm.MethodName)) ∈ lw_all := lw_g (lw_at lw_m10 1 rfl) rfl
theorem q2587 : (Jvm.Cond.instanceMethod ({ cls := "TypeHouse$Tokens", name := "putAll", desc := "([II)V" } : Jvm.MethodName)) ∈ lw_all := lw_g (lw_at lw_m10 2 rfl) rfl
theorem q2588 : (Jvm.Cond.selects "TypeHouse$Tokens" ({ cls := "TypeHouse$Tokens", name := "putAll", desc := "([II)V" } : Jvm.MethodName) ({ cls := "TypeHouse$Tokens", name := "putAll", desc := "([II)V" } : Jvm.MethodName)) ∈ lw_all := lw_g (lw_at lw_m10 3 rfl) rfl
theorem q2589 : (Jvm.Cond.code ({ cls := "TypeHouse$Tokens", name := "putAll", desc := "([II)V" } : Jvm.MethodName) prog_31_method_4_code (4 : Nat) (Option.none : Option Jvm.ClassFile.FieldType)) ∈ lw_all := lw_g (lw_at lw_m10 4 rfl) rfl
theorem q2601 : (Jvm.Cond.methodLink "TypeHouse$Expander" (341 : Nat) ({ cls := "TypeHouse$Expander", name := "decimal", desc := "(I)I" } : Jvm.MethodName)) ∈ lw_all := lw_g (lw_at lw_m10 16 rfl) rfl
theorem q2603 : (Jvm.Cond.instanceMethod ({ cls := "TypeHouse$Expander", name := "decimal", desc := "(I)I" } : Jvm.MethodName)) ∈ lw_all := lw_g (lw_at lw_m10 18 rfl) rfl
theorem q2604 : (Jvm.Cond.code ({ cls := "TypeHouse$Expander", name := "decimal", desc := "(I)I" } : Jvm.MethodName) prog_4_method_29_code (5 : Nat) (Option.some Jvm.ClassFile.FieldType.int)) ∈ lw_all := lw_g (lw_at lw_m10 19 rfl) rfl
theorem q2650 : (Jvm.Cond.methodLink "TypeHouse$Expander" (228 : Nat) ({ cls := "TypeHouse$Expander", name := "tellNumber", desc := "(I)V" } : Jvm.MethodName)) ∈ lw_all := lw_g (lw_at lw_m10 65 rfl) rfl
theorem q2652 : (Jvm.Cond.instanceMethod ({ cls := "TypeHouse$Expander", name := "tellNumber", desc := "(I)V" } : Jvm.MethodName)) ∈ lw_all := lw_g (lw_at lw_m10 67 rfl) rfl
theorem q2653 : (Jvm.Cond.code ({ cls := "TypeHouse$Expander", name := "tellNumber", desc := "(I)V" } : Jvm.MethodName) prog_4_method_21_code (7 : Nat) (Option.none : Option Jvm.ClassFile.FieldType)) ∈ lw_all := lw_g (lw_at lw_m10 68 rfl) rfl
theorem q2654 : (Jvm.Cond.methodLink "TypeHouse$Expander" (231 : Nat) ({ cls := "TypeHouse$Expander", name := "tellRoman", desc := "(I)V" } : Jvm.MethodName)) ∈ lw_all := lw_g (lw_at lw_m10 69 rfl) rfl
theorem q2656 : (Jvm.Cond.instanceMethod ({ cls := "TypeHouse$Expander", name := "tellRoman", desc := "(I)V" } : Jvm.MethodName)) ∈ lw_all := lw_g (lw_at lw_m10 71 rfl) rfl
theorem q2657 : (Jvm.Cond.code ({ cls := "TypeHouse$Expander", name := "tellRoman", desc := "(I)V" } : Jvm.MethodName) prog_4_method_22_code (7 : Nat) (Option.none : Option Jvm.ClassFile.FieldType)) ∈ lw_all := lw_g (lw_at lw_m10 72 rfl) rfl
theorem q2660 : (Jvm.Cond.methodLink "TypeHouse$Expander" (234 : Nat) ({ cls := "TypeHouse$Expander", name := "tellValue", desc := "(I)V" } : Jvm.MethodName)) ∈ lw_all := lw_g (lw_at lw_m10 75 rfl) rfl
theorem q2662 : (Jvm.Cond.instanceMethod ({ cls := "TypeHouse$Expander", name := "tellValue", desc := "(I)V" } : Jvm.MethodName)) ∈ lw_all := lw_g (lw_at lw_m10 77 rfl) rfl
theorem q2663 : (Jvm.Cond.code ({ cls := "TypeHouse$Expander", name := "tellValue", desc := "(I)V" } : Jvm.MethodName) prog_4_method_20_code (3 : Nat) (Option.none : Option Jvm.ClassFile.FieldType)) ∈ lw_all := lw_g (lw_at lw_m10 78 rfl) rfl
theorem q2664 : (Jvm.Cond.methodLink "TypeHouse$Expander" (237 : Nat) ({ cls := "TypeHouse$Expander", name := "turn", desc := "(II)V" } : Jvm.MethodName)) ∈ lw_all := lw_g (lw_at lw_m10 79 rfl) rfl
theorem q2666 : (Jvm.Cond.instanceMethod ({ cls := "TypeHouse$Expander", name := "turn", desc := "(II)V" } : Jvm.MethodName)) ∈ lw_all := lw_g (lw_at lw_m10 81 rfl) rfl
theorem q2667 : (Jvm.Cond.code ({ cls := "TypeHouse$Expander", name := "turn", desc := "(II)V" } : Jvm.MethodName) prog_4_method_65_code (5 : Nat) (Option.none : Option Jvm.ClassFile.FieldType)) ∈ lw_all := lw_g (lw_at lw_m10 82 rfl) rfl
theorem q2668 : (Jvm.Cond.constant "TypeHouse$Expander" (535 : Nat) (1052950 : Int32)) ∈ lw_all := lw_g (lw_at lw_m10 83 rfl) rfl
theorem q2673 : (Jvm.Cond.methodLink "TypeHouse$Expander" (240 : Nat) ({ cls := "TypeHouse$Expander", name := "decide", desc := "(I)V" } : Jvm.MethodName)) ∈ lw_all := lw_g (lw_at lw_m10 88 rfl) rfl
theorem q2675 : (Jvm.Cond.instanceMethod ({ cls := "TypeHouse$Expander", name := "decide", desc := "(I)V" } : Jvm.MethodName)) ∈ lw_all := lw_g (lw_at lw_m10 90 rfl) rfl
theorem q2676 : (Jvm.Cond.code ({ cls := "TypeHouse$Expander", name := "decide", desc := "(I)V" } : Jvm.MethodName) prog_4_method_67_code (5 : Nat) (Option.none : Option Jvm.ClassFile.FieldType)) ∈ lw_all := lw_g (lw_at lw_m10 91 rfl) rfl
theorem q2677 : (Jvm.Cond.methodLink "TypeHouse$Expander" (539 : Nat) ({ cls := "TypeHouse$Expander", name := "chooseCase", desc := "(II)V" } : Jvm.MethodName)) ∈ lw_all := lw_g (lw_at lw_m10 92 rfl) rfl
theorem q2685 : (Jvm.Cond.methodLink "TypeHouse$Expander" (542 : Nat) ({ cls := "TypeHouse$Expander", name := "test", desc := "(I)Z" } : Jvm.MethodName)) ∈ lw_all := lw_g (lw_at lw_m10 100 rfl) rfl
abbrev cX8_decide : ByteArray := prog_4_method_67_code
def yX8_decide : MethodName := ⟨RX8, "decide", "(I)V"⟩
def YX8_decide : eY := (yX8_decide, cX8_decide, 5, none, [])
theorem mX8_decide : e_mv YX8_decide RX8 1 := ⟨q2675, qs80, q2676, by decide, by decide +kernel, (e_sig (by decide +kernel))⟩
theorem dX8_decide_0 : decode cX8_decide 0 = .ok (.aload_n 0, 1) := dc_42 (by decide +kernel)
theorem dX8_decide_1 : decode cX8_decide 1 = .ok (.getfield 51, 3) := dc_180 (a := 0) (b := 51) (n := 51) (by decide +kernel)
theorem dX8_decide_4 : decode cX8_decide 4 = .ok (.aload_n 0, 1) := dc_42 (by decide +kernel)
theorem dX8_decide_5 : decode cX8_decide 5 = .ok (.getfield 128, 3) := dc_180 (a := 0) (b := 128) (n := 128) (by decide +kernel)
theorem dX8_decide_8 : decode cX8_decide 8 = .ok (.bipush 100, 2) := dc_16 (a := 100) (v := 100) (by decide +kernel)
theorem dX8_decide_10 : decode cX8_decide 10 = .ok (.if_icmp .ge 7, 3) := dc_162 (a := 0) (b := 7) (v := 7) (by decide +kernel)
theorem dX8_decide_13 : decode cX8_decide 13 = .ok (.iconst 1, 1) := dc_4 (by decide +kernel)
theorem dX8_decide_14 : decode cX8_decide 14 = .ok (.goto 4, 3) := dc_167 (a := 0) (b := 4) (v := 4) (by decide +kernel)
theorem dX8_decide_17 : decode cX8_decide 17 = .ok (.iconst 0, 1) := dc_3 (by decide +kernel)
theorem dX8_decide_18 : decode cX8_decide 18 = .ok (.iconst 2, 1) := dc_5 (by decide +kernel)
theorem dX8_decide_19 : decode cX8_decide 19 = .ok (.invokevirtual 145, 3) := dc_182 (a := 0) (b := 145) (n := 145) (by decide +kernel)
theorem dX8_decide_22 : decode cX8_decide 22 = .ok (.aload_n 0, 1) := dc_42 (by decide +kernel)
theorem dX8_decide_23 : decode cX8_decide 23 = .ok (.dup, 1) := dc_89 (by decide +kernel)
theorem dX8_decide_24 : decode cX8_decide 24 = .ok (.getfield 128, 3) := dc_180 (a := 0) (b := 128) (n := 128) (by decide +kernel)
theorem dX8_decide_27 : decode cX8_decide 27 = .ok (.dup_x1, 1) := dc_90 (by decide +kernel)
theorem dX8_decide_28 : decode cX8_decide 28 = .ok (.iconst 1, 1) := dc_4 (by decide +kernel)
theorem dX8_decide_29 : decode cX8_decide 29 = .ok (.iadd, 1) := dc_96 (by decide +kernel)
theorem dX8_decide_30 : decode cX8_decide 30 = .ok (.putfield 128, 3) := dc_181 (a := 0) (b := 128) (n := 128) (by decide +kernel)
theorem dX8_decide_33 : decode cX8_decide 33 = .ok (.istore_n 2, 1) := dc_61 (by decide +kernel)
theorem dX8_decide_34 : decode cX8_decide 34 = .ok (.aload_n 0, 1) := dc_42 (by decide +kernel)
theorem dX8_decide_35 : decode cX8_decide 35 = .ok (.getfield 18, 3) := dc_180 (a := 0) (b := 18) (n := 18) (by decide +kernel)
theorem dX8_decide_38 : decode cX8_decide 38 = .ok (.iload_n 2, 1) := dc_28 (by decide +kernel)
theorem dX8_decide_39 : decode cX8_decide 39 = .ok (.iconst 0, 1) := dc_3 (by decide +kernel)
theorem dX8_decide_40 : decode cX8_decide 40 = .ok (.bastore, 1) := dc_84 (by decide +kernel)
theorem dX8_decide_41 : decode cX8_decide 41 = .ok (.aload_n 0, 1) := dc_42 (by decide +kernel)
theorem dX8_decide_42 : decode cX8_decide 42 = .ok (.getfield 22, 3) := dc_180 (a := 0) (b := 22) (n := 22) (by decide +kernel)
theorem dX8_decide_45 : decode cX8_decide 45 = .ok (.iload_n 2, 1) := dc_28 (by decide +kernel)
theorem dX8_decide_46 : decode cX8_decide 46 = .ok (.iload_n 1, 1) := dc_27 (by decide +kernel)
theorem dX8_decide_47 : decode cX8_decide 47 = .ok (.bipush 18, 2) := dc_16 (a := 18) (v := 18) (by decide +kernel)
theorem dX8_decide_49 : decode cX8_decide 49 = .ok (.if_icmp .ne 7, 3) := dc_160 (a := 0) (b := 7) (v := 7) (by decide +kernel)
theorem dX8_decide_52 : decode cX8_decide 52 = .ok (.iconst 1, 1) := dc_4 (by decide +kernel)
theorem dX8_decide_53 : decode cX8_decide 53 = .ok (.goto 4, 3) := dc_167 (a := 0) (b := 4) (v := 4) (by decide +kernel)
theorem dX8_decide_56 : decode cX8_decide 56 = .ok (.iconst 0, 1) := dc_3 (by decide +kernel)
theorem dX8_decide_57 : decode cX8_decide 57 = .ok (.bastore, 1) := dc_84 (by decide +kernel)
theorem dX8_decide_58 : decode cX8_decide 58 = .ok (.aload_n 0, 1) := dc_42 (by decide +kernel)
theorem dX8_decide_59 : decode cX8_decide 59 = .ok (.getfield 25, 3) := dc_180 (a := 0) (b := 25) (n := 25) (by decide +kernel)
theorem dX8_decide_62 : decode cX8_decide 62 = .ok (.iload_n 2, 1) := dc_28 (by decide +kernel)
theorem dX8_decide_63 : decode cX8_decide 63 = .ok (.iconst 0, 1) := dc_3 (by decide +kernel)
theorem dX8_decide_64 : decode cX8_decide 64 = .ok (.bastore, 1) := dc_84 (by decide +kernel)
theorem dX8_decide_65 : decode cX8_decide 65 = .ok (.iload_n 1, 1) := dc_27 (by decide +kernel)
theorem dX8_decide_66 : decode cX8_decide 66 = .ok (.bipush 18, 2) := dc_16 (a := 18) (v := 18) (by decide +kernel)
theorem dX8_decide_68 : decode cX8_decide 68 = .ok (.if_icmp .ne 13, 3) := dc_160 (a := 0) (b := 13) (v := 13) (by decide +kernel)
theorem dX8_decide_71 : decode cX8_decide 71 = .ok (.aload_n 0, 1) := dc_42 (by decide +kernel)
theorem dX8_decide_72 : decode cX8_decide 72 = .ok (.iload_n 2, 1) := dc_28 (by decide +kernel)
theorem dX8_decide_73 : decode cX8_decide 73 = .ok (.aload_n 0, 1) := dc_42 (by decide +kernel)
theorem dX8_decide_74 : decode cX8_decide 74 = .ok (.invokevirtual 225, 3) := dc_182 (a := 0) (b := 225) (n := 225) (by decide +kernel)
theorem dX8_decide_77 : decode cX8_decide 77 = .ok (.invokevirtual 539, 3) := dc_182 (a := 2) (b := 27) (n := 539) (by decide +kernel)
theorem dX8_decide_80 : decode cX8_decide 80 = .ok (.return_, 1) := dc_177 (by decide +kernel)
theorem dX8_decide_81 : decode cX8_decide 81 = .ok (.aload_n 0, 1) := dc_42 (by decide +kernel)
theorem dX8_decide_82 : decode cX8_decide 82 = .ok (.iload_n 1, 1) := dc_27 (by decide +kernel)
theorem dX8_decide_83 : decode cX8_decide 83 = .ok (.invokevirtual 542, 3) := dc_182 (a := 2) (b := 30) (n := 542) (by decide +kernel)
theorem dX8_decide_86 : decode cX8_decide 86 = .ok (.istore_n 3, 1) := dc_62 (by decide +kernel)
theorem dX8_decide_87 : decode cX8_decide 87 = .ok (.aload_n 0, 1) := dc_42 (by decide +kernel)
theorem dX8_decide_88 : decode cX8_decide 88 = .ok (.getfield 18, 3) := dc_180 (a := 0) (b := 18) (n := 18) (by decide +kernel)
theorem dX8_decide_91 : decode cX8_decide 91 = .ok (.iload_n 2, 1) := dc_28 (by decide +kernel)
theorem dX8_decide_92 : decode cX8_decide 92 = .ok (.iconst 1, 1) := dc_4 (by decide +kernel)
theorem dX8_decide_93 : decode cX8_decide 93 = .ok (.bastore, 1) := dc_84 (by decide +kernel)
theorem dX8_decide_94 : decode cX8_decide 94 = .ok (.iload_n 3, 1) := dc_29 (by decide +kernel)
theorem dX8_decide_95 : decode cX8_decide 95 = .ok (.ifCond .eq 4, 3) := dc_153 (a := 0) (b := 4) (v := 4) (by decide +kernel)
theorem dX8_decide_98 : decode cX8_decide 98 = .ok (.return_, 1) := dc_177 (by decide +kernel)
theorem dX8_decide_99 : decode cX8_decide 99 = .ok (.aload_n 0, 1) := dc_42 (by decide +kernel)
theorem dX8_decide_100 : decode cX8_decide 100 = .ok (.iload_n 2, 1) := dc_28 (by decide +kernel)
theorem dX8_decide_101 : decode cX8_decide 101 = .ok (.invokevirtual 545, 3) := dc_182 (a := 2) (b := 33) (n := 545) (by decide +kernel)
theorem dX8_decide_104 : decode cX8_decide 104 = .ok (.istore 4, 2) := dc_54 (a := 4) (by decide +kernel)
theorem dX8_decide_106 : decode cX8_decide 106 = .ok (.aload_n 0, 1) := dc_42 (by decide +kernel)
theorem dX8_decide_107 : decode cX8_decide 107 = .ok (.getfield 51, 3) := dc_180 (a := 0) (b := 51) (n := 51) (by decide +kernel)
theorem dX8_decide_110 : decode cX8_decide 110 = .ok (.iload 4, 2) := dc_21 (a := 4) (by decide +kernel)
theorem dX8_decide_112 : decode cX8_decide 112 = .ok (.bipush 20, 2) := dc_16 (a := 20) (v := 20) (by decide +kernel)
theorem dX8_decide_114 : decode cX8_decide 114 = .ok (.if_icmp .eq 7, 3) := dc_159 (a := 0) (b := 7) (v := 7) (by decide +kernel)
theorem dX8_decide_117 : decode cX8_decide 117 = .ok (.iconst 1, 1) := dc_4 (by decide +kernel)
theorem dX8_decide_118 : decode cX8_decide 118 = .ok (.goto 4, 3) := dc_167 (a := 0) (b := 4) (v := 4) (by decide +kernel)
theorem dX8_decide_121 : decode cX8_decide 121 = .ok (.iconst 0, 1) := dc_3 (by decide +kernel)
theorem dX8_decide_122 : decode cX8_decide 122 = .ok (.bipush 8, 2) := dc_16 (a := 8) (v := 8) (by decide +kernel)
theorem dX8_decide_124 : decode cX8_decide 124 = .ok (.invokevirtual 145, 3) := dc_182 (a := 0) (b := 145) (n := 145) (by decide +kernel)
theorem dX8_decide_127 : decode cX8_decide 127 = .ok (.aload_n 0, 1) := dc_42 (by decide +kernel)
theorem dX8_decide_128 : decode cX8_decide 128 = .ok (.getfield 25, 3) := dc_180 (a := 0) (b := 25) (n := 25) (by decide +kernel)
theorem dX8_decide_131 : decode cX8_decide 131 = .ok (.iload_n 2, 1) := dc_28 (by decide +kernel)
theorem dX8_decide_132 : decode cX8_decide 132 = .ok (.iload 4, 2) := dc_21 (a := 4) (by decide +kernel)
theorem dX8_decide_134 : decode cX8_decide 134 = .ok (.bipush 19, 2) := dc_16 (a := 19) (v := 19) (by decide +kernel)
theorem dX8_decide_136 : decode cX8_decide 136 = .ok (.if_icmp .ne 7, 3) := dc_160 (a := 0) (b := 7) (v := 7) (by decide +kernel)
theorem dX8_decide_139 : decode cX8_decide 139 = .ok (.iconst 1, 1) := dc_4 (by decide +kernel)
theorem dX8_decide_140 : decode cX8_decide 140 = .ok (.goto 4, 3) := dc_167 (a := 0) (b := 4) (v := 4) (by decide +kernel)
theorem dX8_decide_143 : decode cX8_decide 143 = .ok (.iconst 0, 1) := dc_3 (by decide +kernel)
theorem dX8_decide_144 : decode cX8_decide 144 = .ok (.bastore, 1) := dc_84 (by decide +kernel)
theorem dX8_decide_145 : decode cX8_decide 145 = .ok (.iload 4, 2) := dc_21 (a := 4) (by decide +kernel)
theorem dX8_decide_147 : decode cX8_decide 147 = .ok (.bipush 21, 2) := dc_16 (a := 21) (v := 21) (by decide +kernel)
theorem dX8_decide_149 : decode cX8_decide 149 = .ok (.if_icmp .ne 13, 3) := dc_160 (a := 0) (b := 13) (v := 13) (by decide +kernel)
theorem dX8_decide_152 : decode cX8_decide 152 = .ok (.aload_n 0, 1) := dc_42 (by decide +kernel)
theorem dX8_decide_153 : decode cX8_decide 153 = .ok (.dup, 1) := dc_89 (by decide +kernel)
theorem dX8_decide_154 : decode cX8_decide 154 = .ok (.getfield 128, 3) := dc_180 (a := 0) (b := 128) (n := 128) (by decide +kernel)
theorem dX8_decide_157 : decode cX8_decide 157 = .ok (.iconst 1, 1) := dc_4 (by decide +kernel)
theorem dX8_decide_158 : decode cX8_decide 158 = .ok (.isub, 1) := dc_100 (by decide +kernel)
theorem dX8_decide_159 : decode cX8_decide 159 = .ok (.putfield 128, 3) := dc_181 (a := 0) (b := 128) (n := 128) (by decide +kernel)
theorem dX8_decide_162 : decode cX8_decide 162 = .ok (.return_, 1) := dc_177 (by decide +kernel)
theorem GX8_22 {w : eW} {d : Nat} {Y : eY} {pc : Nat} {ls : eL} {st : List Value} {h : eH} {Q : eO → eH → Prop} {a : Nat} {x : Nat} (hf : g_A 7 h a 13 = some x) (hd : decode Y.2.1 pc = .ok (.getfield 22, 3)) (hY : Y.1.cls = RX8) (kk : wp w d Y (pc + 3) ls (.ref x :: st) h Q) : wp w d Y pc ls (.ref a :: st) h Q := x_gA (ci := 7) (k := 13) hf hd rfl (by decide) (by rw [hY]; exact q850) kk
def fX8_decide_b162 (N : Nat) (rE : Nat → Int32 → eH → Option ((Unit ⊕ Nat) × eH)) (rN : Nat → eH → Option ((Int32 ⊕ Nat) × eH))  (h : eH) : Option ((Unit ⊕ Nat) × eH) :=
  some (.inl (), h)
theorem pX8_decide_b162 {w : eW} {d : Nat} {dr : Nat} (hd : dr + 20 ≤ d + 1) (hdr : 12 ≤ dr) {N : Nat} {rE : Nat → Int32 → eH → Option ((Unit ⊕ Nat) × eH)} {rN : Nat → eH → Option ((Int32 ⊕ Nat) × eH)} (hrE : ∀ a t0 h q, rE a t0 h = some q → wm w dr YX8_expand [.ref a, .int t0] h (e_is (e_rt c_V q))) (hrN : ∀ a h q, rN a h = some q → wm w dr YX8_number [.ref a] h (e_is (e_rt c_I q)))  {h : eH} {q} (hf : fX8_decide_b162 N rE rN h = some q) : wp w (d + 1) YX8_decide 162 [none, none, none, none, none] [] h (e_is (e_rt c_V q)) := by
  unfold fX8_decide_b162 at hf
  cases hf
  exact w_vret dX8_decide_162 rfl rfl
def fX8_decide_b144 (N : Nat) (rE : Nat → Int32 → eH → Option ((Unit ⊕ Nat) × eH)) (rN : Nat → eH → Option ((Int32 ⊕ Nat) × eH)) (l0 : Nat) (l4 : Int32) (s0 : Nat) (s1 : Int32) (s2 : Int32) (h : eH) : Option ((Unit ⊕ Nat) × eH) :=
  (q_V 103 h s0 s1 (.int (s2 &&& 1))).bind fun h1 =>
  if ¬ l4 = (21 : Int32) then
    fX8_decide_b162 N rE rN h1
  else
    (g_I 7 h1 l0 15).bind fun x4 =>
    (p_V 7 h1 l0 15 (.int (x4 - (1 : Int32)))).bind fun h6 =>
    fX8_decide_b162 N rE rN h6
theorem pX8_decide_b144 {w : eW} {d : Nat} {dr : Nat} (hd : dr + 20 ≤ d + 1) (hdr : 12 ≤ dr) {N : Nat} {rE : Nat → Int32 → eH → Option ((Unit ⊕ Nat) × eH)} {rN : Nat → eH → Option ((Int32 ⊕ Nat) × eH)} (hrE : ∀ a t0 h q, rE a t0 h = some q → wm w dr YX8_expand [.ref a, .int t0] h (e_is (e_rt c_V q))) (hrN : ∀ a h q, rN a h = some q → wm w dr YX8_number [.ref a] h (e_is (e_rt c_I q))) {l0 : Nat} {l4 : Int32} {s0 : Nat} {s1 : Int32} {s2 : Int32} {h : eH} {q} (hf : fX8_decide_b144 N rE rN l0 l4 s0 s1 s2 h = some q) : wp w (d + 1) YX8_decide 144 [some (.ref l0), none, none, none, some (.int l4)] [.int s2, .int s1, .ref s0] h (e_is (e_rt c_V q)) := by
  unfold fX8_decide_b144 at hf
  obtain ⟨h1, b2, hf⟩ := Option.bind_eq_some_iff.mp hf
  refine x_qZ b2 dX8_decide_144 ?_
  refine w_iload dX8_decide_145 rfl ?_
  refine w_bipush dX8_decide_147 (v := 21) (by decide) ?_
  refine w_icmp_ne 162 dX8_decide_149 (by decide) (fun c3 => ?_) (fun c3 => ?_)
  · replace hf := (if_pos (show ¬ l4 = (21 : Int32) from c3)).symm.trans hf
    exact (pX8_decide_b162 hd hdr hrE hrN hf).to trivial
  · replace hf := (if_neg (show ¬ (¬ l4 = (21 : Int32)) from (fun z => z c3))).symm.trans hf
    refine w_aload_n dX8_decide_152 rfl rfl ?_
    refine w_dup dX8_decide_153 rfl ?_
    obtain ⟨x4, b5, hf⟩ := Option.bind_eq_some_iff.mp hf
    refine GX8_128 b5 dX8_decide_154 rfl ?_
    refine w_iconst dX8_decide_157 (v := 1) (by decide) ?_
    refine w_isub dX8_decide_158 ?_
    obtain ⟨h6, b7, hf⟩ := Option.bind_eq_some_iff.mp hf
    refine SX8_128 b7 dX8_decide_159 rfl ?_
    exact (pX8_decide_b162 hd hdr hrE hrN hf).to trivial
def fX8_decide_b122 (N : Nat) (rE : Nat → Int32 → eH → Option ((Unit ⊕ Nat) × eH)) (rN : Nat → eH → Option ((Int32 ⊕ Nat) × eH)) (l0 : Nat) (l2 : Int32) (l4 : Int32) (s0 : Nat) (s1 : Int32) (h : eH) : Option ((Unit ⊕ Nat) × eH) :=
  (k_ok 3 h s0).bind fun _ =>
  t_B (fX4_want s0 s1 (8 : Int32) h) fun x2 h3 =>
  (g_A 7 h3 l0 14).bind fun a4 =>
  if ¬ l4 = (19 : Int32) then
    fX8_decide_b144 N rE rN l0 l4 a4 l2 (0 : Int32) h3
  else
    fX8_decide_b144 N rE rN l0 l4 a4 l2 (1 : Int32) h3
theorem pX8_decide_b122 {w : eW} {d : Nat} {dr : Nat} (hd : dr + 20 ≤ d + 1) (hdr : 12 ≤ dr) {N : Nat} {rE : Nat → Int32 → eH → Option ((Unit ⊕ Nat) × eH)} {rN : Nat → eH → Option ((Int32 ⊕ Nat) × eH)} (hrE : ∀ a t0 h q, rE a t0 h = some q → wm w dr YX8_expand [.ref a, .int t0] h (e_is (e_rt c_V q))) (hrN : ∀ a h q, rN a h = some q → wm w dr YX8_number [.ref a] h (e_is (e_rt c_I q))) {l0 : Nat} {l2 : Int32} {l4 : Int32} {s0 : Nat} {s1 : Int32} {h : eH} {q} (hf : fX8_decide_b122 N rE rN l0 l2 l4 s0 s1 h = some q) : wp w (d + 1) YX8_decide 122 [some (.ref l0), none, some (.int l2), none, some (.int l4)] [.int s1, .ref s0] h (e_is (e_rt c_V q)) := by
  unfold fX8_decide_b122 at hf
  refine w_bipush dX8_decide_122 (v := 8) (by decide) ?_
  obtain ⟨_, b1, hf⟩ := Option.bind_eq_some_iff.mp hf
  refine x_ctV hf (e_stV (Yc := YX4_want) (ci := 3) (av := [.int s1, .int (8 : Int32)]) (st := []) dX8_decide_124 q2500 mX4_want rfl (k_ok_some b1).1 (k_ok_some b1).2) mX4_want.2.2.1 mX4_want.2.2.2.2.1 (Nat.le_of_ble_eq_true rfl) (Nat.le_of_ble_eq_true rfl) rfl (fun q hq => pX4_want (by omega) hq) (fun x2 h3 hf => ?_)
  refine w_aload_n dX8_decide_127 rfl rfl ?_
  obtain ⟨a4, b5, hf⟩ := Option.bind_eq_some_iff.mp hf
  refine GX8_25 b5 dX8_decide_128 rfl ?_
  refine w_iload_n dX8_decide_131 rfl rfl ?_
  refine w_iload dX8_decide_132 rfl ?_
  refine w_bipush dX8_decide_134 (v := 19) (by decide) ?_
  refine w_icmp_ne 143 dX8_decide_136 (by decide) (fun c6 => ?_) (fun c6 => ?_)
  · replace hf := (if_pos (show ¬ l4 = (19 : Int32) from c6)).symm.trans hf
    refine w_iconst dX8_decide_143 (v := 0) (by decide) ?_
    exact (pX8_decide_b144 hd hdr hrE hrN hf).to ⟨rfl, rfl, trivial⟩
  · replace hf := (if_neg (show ¬ (¬ l4 = (19 : Int32)) from (fun z => z c6))).symm.trans hf
    refine w_iconst dX8_decide_139 (v := 1) (by decide) ?_
    refine w_goto 144 dX8_decide_140 (by decide) ?_
    exact (pX8_decide_b144 hd hdr hrE hrN hf).to ⟨rfl, rfl, trivial⟩
def fX8_decide_b57 (N : Nat) (rE : Nat → Int32 → eH → Option ((Unit ⊕ Nat) × eH)) (rN : Nat → eH → Option ((Int32 ⊕ Nat) × eH)) (l0 : Nat) (l1 : Int32) (l2 : Int32) (s0 : Nat) (s1 : Int32) (s2 : Int32) (h : eH) : Option ((Unit ⊕ Nat) × eH) :=
  (q_V 103 h s0 s1 (.int (s2 &&& 1))).bind fun h1 =>
  (g_A 7 h1 l0 14).bind fun a3 =>
  (q_V 103 h1 a3 l2 (.int ((0 : Int32) &&& 1))).bind fun h5 =>
  if ¬ l1 = (18 : Int32) then
    (k_ok 7 h5 l0).bind fun _ =>
    t_B (fX8_test N rE rN l0 l1 h5) fun x9 h10 =>
    (g_A 7 h10 l0 12).bind fun a11 =>
    (q_V 103 h10 a11 l2 (.int ((1 : Int32) &&& 1))).bind fun h13 =>
    if x9 = 0 then
      (k_ok 7 h13 l0).bind fun _ =>
      t_B (fX8_passOwn N l0 l2 h13) fun x17 h18 =>
      (g_A 7 h18 l0 0).bind fun a19 =>
      if x17 = (20 : Int32) then
        fX8_decide_b122 N rE rN l0 l2 x17 a19 (0 : Int32) h18
      else
        fX8_decide_b122 N rE rN l0 l2 x17 a19 (1 : Int32) h18
    else
      some (.inl (), h13)
  else
    (k_ok 7 h5 l0).bind fun _ =>
    t_B (rN l0 h5) fun x23 h24 =>
    (k_ok 7 h24 l0).bind fun _ =>
    t_B (fX8_chooseCase N l0 l2 x23 h24) fun x26 h27 =>
    some (.inl (), h27)
theorem pX8_decide_b57 {w : eW} {d : Nat} {dr : Nat} (hd : dr + 20 ≤ d + 1) (hdr : 12 ≤ dr) {N : Nat} {rE : Nat → Int32 → eH → Option ((Unit ⊕ Nat) × eH)} {rN : Nat → eH → Option ((Int32 ⊕ Nat) × eH)} (hrE : ∀ a t0 h q, rE a t0 h = some q → wm w dr YX8_expand [.ref a, .int t0] h (e_is (e_rt c_V q))) (hrN : ∀ a h q, rN a h = some q → wm w dr YX8_number [.ref a] h (e_is (e_rt c_I q))) {l0 : Nat} {l1 : Int32} {l2 : Int32} {s0 : Nat} {s1 : Int32} {s2 : Int32} {h : eH} {q} (hf : fX8_decide_b57 N rE rN l0 l1 l2 s0 s1 s2 h = some q) : wp w (d + 1) YX8_decide 57 [some (.ref l0), some (.int l1), some (.int l2), none, none] [.int s2, .int s1, .ref s0] h (e_is (e_rt c_V q)) := by
  unfold fX8_decide_b57 at hf
  obtain ⟨h1, b2, hf⟩ := Option.bind_eq_some_iff.mp hf
  refine x_qZ b2 dX8_decide_57 ?_
  refine w_aload_n dX8_decide_58 rfl rfl ?_
  obtain ⟨a3, b4, hf⟩ := Option.bind_eq_some_iff.mp hf
  refine GX8_25 b4 dX8_decide_59 rfl ?_
  refine w_iload_n dX8_decide_62 rfl rfl ?_
  refine w_iconst dX8_decide_63 (v := 0) (by decide) ?_
  obtain ⟨h5, b6, hf⟩ := Option.bind_eq_some_iff.mp hf
  refine x_qZ b6 dX8_decide_64 ?_
  refine w_iload_n dX8_decide_65 rfl rfl ?_
  refine w_bipush dX8_decide_66 (v := 18) (by decide) ?_
  refine w_icmp_ne 81 dX8_decide_68 (by decide) (fun c7 => ?_) (fun c7 => ?_)
  · replace hf := (if_pos (show ¬ l1 = (18 : Int32) from c7)).symm.trans hf
    refine w_aload_n dX8_decide_81 rfl rfl ?_
    refine w_iload_n dX8_decide_82 rfl rfl ?_
    obtain ⟨_, b8, hf⟩ := Option.bind_eq_some_iff.mp hf
    refine x_ctI hf (e_stV (Yc := YX8_test) (ci := 7) (av := [.int l1]) (st := []) dX8_decide_83 q2685 mX8_test rfl (k_ok_some b8).1 (k_ok_some b8).2) mX8_test.2.2.1 mX8_test.2.2.2.2.1 (Nat.le_of_ble_eq_true rfl) (Nat.le_of_ble_eq_true rfl) rfl (fun q hq => pX8_test (by omega) hdr hrE hrN hq) (fun x9 h10 hf => ?_)
    refine w_istore_n dX8_decide_86 rfl (by decide) (ls' := [some (.ref l0), some (.int l1), some (.int l2), some (.int x9), none]) rfl ?_
    refine w_aload_n dX8_decide_87 rfl rfl ?_
    obtain ⟨a11, b12, hf⟩ := Option.bind_eq_some_iff.mp hf
    refine GX8_18 b12 dX8_decide_88 rfl ?_
    refine w_iload_n dX8_decide_91 rfl rfl ?_
    refine w_iconst dX8_decide_92 (v := 1) (by decide) ?_
    obtain ⟨h13, b14, hf⟩ := Option.bind_eq_some_iff.mp hf
    refine x_qZ b14 dX8_decide_93 ?_
    refine w_iload_n dX8_decide_94 rfl rfl ?_
    refine w_if_eq 99 dX8_decide_95 (by decide) (fun c15 => ?_) (fun c15 => ?_)
    · replace hf := (if_pos (show x9 = 0 from c15)).symm.trans hf
      refine w_aload_n dX8_decide_99 rfl rfl ?_
      refine w_iload_n dX8_decide_100 rfl rfl ?_
      obtain ⟨_, b16, hf⟩ := Option.bind_eq_some_iff.mp hf
      refine x_ctI hf (e_stV (Yc := YX8_passOwn) (ci := 7) (av := [.int l2]) (st := []) dX8_decide_101 q2681 mX8_passOwn rfl (k_ok_some b16).1 (k_ok_some b16).2) mX8_passOwn.2.2.1 mX8_passOwn.2.2.2.2.1 (Nat.le_of_ble_eq_true rfl) (Nat.le_of_ble_eq_true rfl) rfl (fun q hq => pX8_passOwn (by omega) hq) (fun x17 h18 hf => ?_)
      refine w_istore dX8_decide_104 (by decide) (ls' := [some (.ref l0), some (.int l1), some (.int l2), some (.int x9), some (.int x17)]) rfl ?_
      refine w_aload_n dX8_decide_106 rfl rfl ?_
      obtain ⟨a19, b20, hf⟩ := Option.bind_eq_some_iff.mp hf
      refine GX8_51 b20 dX8_decide_107 rfl ?_
      refine w_iload dX8_decide_110 rfl ?_
      refine w_bipush dX8_decide_112 (v := 20) (by decide) ?_
      refine w_icmp_eq 121 dX8_decide_114 (by decide) (fun c21 => ?_) (fun c21 => ?_)
      · replace hf := (if_pos (show x17 = (20 : Int32) from c21)).symm.trans hf
        refine w_iconst dX8_decide_121 (v := 0) (by decide) ?_
        exact (pX8_decide_b122 hd hdr hrE hrN hf).to ⟨rfl, rfl, rfl, trivial⟩
      · replace hf := (if_neg (show ¬ (x17 = (20 : Int32)) from c21)).symm.trans hf
        refine w_iconst dX8_decide_117 (v := 1) (by decide) ?_
        refine w_goto 122 dX8_decide_118 (by decide) ?_
        exact (pX8_decide_b122 hd hdr hrE hrN hf).to ⟨rfl, rfl, rfl, trivial⟩
    · replace hf := (if_neg (show ¬ (x9 = 0) from c15)).symm.trans hf
      cases hf
      exact w_vret dX8_decide_98 rfl rfl
  · replace hf := (if_neg (show ¬ (¬ l1 = (18 : Int32)) from (fun z => z c7))).symm.trans hf
    refine w_aload_n dX8_decide_71 rfl rfl ?_
    refine w_iload_n dX8_decide_72 rfl rfl ?_
    refine w_aload_n dX8_decide_73 rfl rfl ?_
    obtain ⟨_, b22, hf⟩ := Option.bind_eq_some_iff.mp hf
    refine x_ctI hf (e_stV (Yc := YX8_number) (ci := 7) (av := []) (st := [.int l2, .ref l0]) dX8_decide_74 q2590 mX8_number rfl (k_ok_some b22).1 (k_ok_some b22).2) mX8_number.2.2.1 mX8_number.2.2.2.2.1 (Nat.le_of_ble_eq_true rfl) (Nat.le_of_ble_eq_true rfl) rfl (fun q hq => (hrN _ _ _ hq).up (by omega)) (fun x23 h24 hf => ?_)
    obtain ⟨_, b25, hf⟩ := Option.bind_eq_some_iff.mp hf
    refine x_ctV hf (e_stV (Yc := YX8_chooseCase) (ci := 7) (av := [.int l2, .int x23]) (st := []) dX8_decide_77 q2677 mX8_chooseCase rfl (k_ok_some b25).1 (k_ok_some b25).2) mX8_chooseCase.2.2.1 mX8_chooseCase.2.2.2.2.1 (Nat.le_of_ble_eq_true rfl) (Nat.le_of_ble_eq_true rfl) rfl (fun q hq => pX8_chooseCase (by omega) hq) (fun x26 h27 hf => ?_)
    cases hf
    exact w_vret dX8_decide_80 rfl rfl
def fX8_decide_b18 (N : Nat) (rE : Nat → Int32 → eH → Option ((Unit ⊕ Nat) × eH)) (rN : Nat → eH → Option ((Int32 ⊕ Nat) × eH)) (l0 : Nat) (l1 : Int32) (s0 : Nat) (s1 : Int32) (h : eH) : Option ((Unit ⊕ Nat) × eH) :=
  (k_ok 3 h s0).bind fun _ =>
  t_B (fX4_want s0 s1 (2 : Int32) h) fun x2 h3 =>
  (g_I 7 h3 l0 15).bind fun x4 =>
  (p_V 7 h3 l0 15 (.int (x4 + (1 : Int32)))).bind fun h6 =>
  (g_A 7 h6 l0 12).bind fun a8 =>
  (q_V 103 h6 a8 x4 (.int ((0 : Int32) &&& 1))).bind fun h10 =>
  (g_A 7 h10 l0 13).bind fun a12 =>
  if ¬ l1 = (18 : Int32) then
    fX8_decide_b57 N rE rN l0 l1 x4 a12 x4 (0 : Int32) h10
  else
    fX8_decide_b57 N rE rN l0 l1 x4 a12 x4 (1 : Int32) h10
theorem pX8_decide_b18 {w : eW} {d : Nat} {dr : Nat} (hd : dr + 20 ≤ d + 1) (hdr : 12 ≤ dr) {N : Nat} {rE : Nat → Int32 → eH → Option ((Unit ⊕ Nat) × eH)} {rN : Nat → eH → Option ((Int32 ⊕ Nat) × eH)} (hrE : ∀ a t0 h q, rE a t0 h = some q → wm w dr YX8_expand [.ref a, .int t0] h (e_is (e_rt c_V q))) (hrN : ∀ a h q, rN a h = some q → wm w dr YX8_number [.ref a] h (e_is (e_rt c_I q))) {l0 : Nat} {l1 : Int32} {s0 : Nat} {s1 : Int32} {h : eH} {q} (hf : fX8_decide_b18 N rE rN l0 l1 s0 s1 h = some q) : wp w (d + 1) YX8_decide 18 [some (.ref l0), some (.int l1), none, none, none] [.int s1, .ref s0] h (e_is (e_rt c_V q)) := by
  unfold fX8_decide_b18 at hf
  refine w_iconst dX8_decide_18 (v := 2) (by decide) ?_
  obtain ⟨_, b1, hf⟩ := Option.bind_eq_some_iff.mp hf
  refine x_ctV hf (e_stV (Yc := YX4_want) (ci := 3) (av := [.int s1, .int (2 : Int32)]) (st := []) dX8_decide_19 q2500 mX4_want rfl (k_ok_some b1).1 (k_ok_some b1).2) mX4_want.2.2.1 mX4_want.2.2.2.2.1 (Nat.le_of_ble_eq_true rfl) (Nat.le_of_ble_eq_true rfl) rfl (fun q hq => pX4_want (by omega) hq) (fun x2 h3 hf => ?_)
  refine w_aload_n dX8_decide_22 rfl rfl ?_
  refine w_dup dX8_decide_23 rfl ?_
  obtain ⟨x4, b5, hf⟩ := Option.bind_eq_some_iff.mp hf
  refine GX8_128 b5 dX8_decide_24 rfl ?_
  refine w_dup_x1 dX8_decide_27 rfl rfl ?_
  refine w_iconst dX8_decide_28 (v := 1) (by decide) ?_
  refine w_iadd dX8_decide_29 ?_
  obtain ⟨h6, b7, hf⟩ := Option.bind_eq_some_iff.mp hf
  refine SX8_128 b7 dX8_decide_30 rfl ?_
  refine w_istore_n dX8_decide_33 rfl (by decide) (ls' := [some (.ref l0), some (.int l1), some (.int x4), none, none]) rfl ?_
  refine w_aload_n dX8_decide_34 rfl rfl ?_
  obtain ⟨a8, b9, hf⟩ := Option.bind_eq_some_iff.mp hf
  refine GX8_18 b9 dX8_decide_35 rfl ?_
  refine w_iload_n dX8_decide_38 rfl rfl ?_
  refine w_iconst dX8_decide_39 (v := 0) (by decide) ?_
  obtain ⟨h10, b11, hf⟩ := Option.bind_eq_some_iff.mp hf
  refine x_qZ b11 dX8_decide_40 ?_
  refine w_aload_n dX8_decide_41 rfl rfl ?_
  obtain ⟨a12, b13, hf⟩ := Option.bind_eq_some_iff.mp hf
  refine GX8_22 b13 dX8_decide_42 rfl ?_
  refine w_iload_n dX8_decide_45 rfl rfl ?_
  refine w_iload_n dX8_decide_46 rfl rfl ?_
  refine w_bipush dX8_decide_47 (v := 18) (by decide) ?_
  refine w_icmp_ne 56 dX8_decide_49 (by decide) (fun c14 => ?_) (fun c14 => ?_)
  · replace hf := (if_pos (show ¬ l1 = (18 : Int32) from c14)).symm.trans hf
    refine w_iconst dX8_decide_56 (v := 0) (by decide) ?_
    exact (pX8_decide_b57 hd hdr hrE hrN hf).to ⟨rfl, rfl, rfl, trivial⟩
  · replace hf := (if_neg (show ¬ (¬ l1 = (18 : Int32)) from (fun z => z c14))).symm.trans hf
    refine w_iconst dX8_decide_52 (v := 1) (by decide) ?_
    refine w_goto 57 dX8_decide_53 (by decide) ?_
    exact (pX8_decide_b57 hd hdr hrE hrN hf).to ⟨rfl, rfl, rfl, trivial⟩
def fX8_decide (N : Nat) (rE : Nat → Int32 → eH → Option ((Unit ⊕ Nat) × eH)) (rN : Nat → eH → Option ((Int32 ⊕ Nat) × eH)) (this : Nat) (p0 : Int32) (h : eH) : Option ((Unit ⊕ Nat) × eH) :=
  (g_A 7 h this 0).bind fun a1 =>
  (g_I 7 h this 15).bind fun x3 =>
  if (100 : Int32) ≤ x3 then
    fX8_decide_b18 N rE rN this p0 a1 (0 : Int32) h
  else
    fX8_decide_b18 N rE rN this p0 a1 (1 : Int32) h
theorem pX8_decide {w : eW} {d : Nat} {dr : Nat} (hd : dr + 20 ≤ d) (hdr : 12 ≤ dr) {N : Nat} {rE : Nat → Int32 → eH → Option ((Unit ⊕ Nat) × eH)} {rN : Nat → eH → Option ((Int32 ⊕ Nat) × eH)} (hrE : ∀ a t0 h q, rE a t0 h = some q → wm w dr YX8_expand [.ref a, .int t0] h (e_is (e_rt c_V q))) (hrN : ∀ a h q, rN a h = some q → wm w dr YX8_number [.ref a] h (e_is (e_rt c_I q))) {this : Nat} {p0 : Int32} {h : eH} {q} (hf : fX8_decide N rE rN this p0 h = some q) : wm w d YX8_decide [.ref this, .int p0] h (e_is (e_rt c_V q)) := by
  obtain ⟨d, rfl⟩ : ∃ e, d = e + 1 := ⟨d - 1, by omega⟩
  show wp w (d + 1) YX8_decide 0 [some (.ref this), some (.int p0), none, none, none] [] h _
  unfold fX8_decide at hf
  refine w_aload_n dX8_decide_0 rfl rfl ?_
  obtain ⟨a1, b2, hf⟩ := Option.bind_eq_some_iff.mp hf
  refine GX8_51 b2 dX8_decide_1 rfl ?_
  refine w_aload_n dX8_decide_4 rfl rfl ?_
  obtain ⟨x3, b4, hf⟩ := Option.bind_eq_some_iff.mp hf
  refine GX8_128 b4 dX8_decide_5 rfl ?_
  refine w_bipush dX8_decide_8 (v := 100) (by decide) ?_
  refine w_icmp_ge 17 dX8_decide_10 (by decide) (fun c5 => ?_) (fun c5 => ?_)
  · replace hf := (if_pos (show (100 : Int32) ≤ x3 from c5)).symm.trans hf
    refine w_iconst dX8_decide_17 (v := 0) (by decide) ?_
    exact (pX8_decide_b18 hd hdr hrE hrN hf).to ⟨rfl, rfl, trivial⟩
  · replace hf := (if_neg (show ¬ ((100 : Int32) ≤ x3) from c5)).symm.trans hf
    refine w_iconst dX8_decide_13 (v := 1) (by decide) ?_
    refine w_goto 18 dX8_decide_14 (by decide) ?_
    exact (pX8_decide_b18 hd hdr hrE hrN hf).to ⟨rfl, rfl, trivial⟩
abbrev cX8_decimal : ByteArray := prog_4_method_29_code
def yX8_decimal : MethodName := ⟨RX8, "decimal", "(I)I"⟩
def YX8_decimal : eY := (yX8_decimal, cX8_decimal, 5, (Option.some FieldType.int), [])
theorem mX8_decimal : e_mv YX8_decimal RX8 1 := ⟨q2603, qs66, q2604, by decide, by decide +kernel, (e_sig (by decide +kernel))⟩
theorem dX8_decimal_0 : decode cX8_decimal 0 = .ok (.iload_n 1, 1) := dc_27 (by decide +kernel)
theorem dX8_decimal_1 : decode cX8_decimal 1 = .ok (.bipush 15, 2) := dc_16 (a := 15) (v := 15) (by decide +kernel)
theorem dX8_decimal_3 : decode cX8_decimal 3 = .ok (.iand, 1) := dc_126 (by decide +kernel)
theorem dX8_decimal_4 : decode cX8_decimal 4 = .ok (.i2l, 1) := dc_133 (by decide +kernel)
theorem dX8_decimal_5 : decode cX8_decimal 5 = .ok (.lstore_n 2, 1) := dc_65 (by decide +kernel)
theorem dX8_decimal_6 : decode cX8_decimal 6 = .ok (.aload_n 0, 1) := dc_42 (by decide +kernel)
theorem dX8_decimal_7 : decode cX8_decimal 7 = .ok (.invokevirtual 187, 3) := dc_182 (a := 0) (b := 187) (n := 187) (by decide +kernel)
theorem dX8_decimal_10 : decode cX8_decimal 10 = .ok (.istore 4, 2) := dc_54 (a := 4) (by decide +kernel)
theorem dX8_decimal_12 : decode cX8_decimal 12 = .ok (.iload 4, 2) := dc_21 (a := 4) (by decide +kernel)
theorem dX8_decimal_14 : decode cX8_decimal 14 = .ok (.invokestatic 338, 3) := dc_184 (a := 1) (b := 82) (n := 338) (by decide +kernel)
theorem dX8_decimal_17 : decode cX8_decimal 17 = .ok (.ifCond .eq 47, 3) := dc_153 (a := 0) (b := 47) (v := 47) (by decide +kernel)
theorem dX8_decimal_20 : decode cX8_decimal 20 = .ok (.ldc2_w 278, 3) := dc_20 (a := 1) (b := 22) (n := 278) (by decide +kernel)
theorem dX8_decimal_23 : decode cX8_decimal 23 = .ok (.lload_n 2, 1) := dc_32 (by decide +kernel)
theorem dX8_decimal_24 : decode cX8_decimal 24 = .ok (.lmul, 1) := dc_105 (by decide +kernel)
theorem dX8_decimal_25 : decode cX8_decimal 25 = .ok (.iload 4, 2) := dc_21 (a := 4) (by decide +kernel)
theorem dX8_decimal_27 : decode cX8_decimal 27 = .ok (.bipush 15, 2) := dc_16 (a := 15) (v := 15) (by decide +kernel)
theorem dX8_decimal_29 : decode cX8_decimal 29 = .ok (.iand, 1) := dc_126 (by decide +kernel)
theorem dX8_decimal_30 : decode cX8_decimal 30 = .ok (.i2l, 1) := dc_133 (by decide +kernel)
theorem dX8_decimal_31 : decode cX8_decimal 31 = .ok (.ladd, 1) := dc_97 (by decide +kernel)
theorem dX8_decimal_32 : decode cX8_decimal 32 = .ok (.lstore_n 2, 1) := dc_65 (by decide +kernel)
theorem dX8_decimal_33 : decode cX8_decimal 33 = .ok (.aload_n 0, 1) := dc_42 (by decide +kernel)
theorem dX8_decimal_34 : decode cX8_decimal 34 = .ok (.getfield 51, 3) := dc_180 (a := 0) (b := 51) (n := 51) (by decide +kernel)
theorem dX8_decimal_37 : decode cX8_decimal 37 = .ok (.lload_n 2, 1) := dc_32 (by decide +kernel)
theorem dX8_decimal_38 : decode cX8_decimal 38 = .ok (.ldc2_w 349, 3) := dc_20 (a := 1) (b := 93) (n := 349) (by decide +kernel)
theorem dX8_decimal_41 : decode cX8_decimal 41 = .ok (.lcmp, 1) := dc_148 (by decide +kernel)
theorem dX8_decimal_42 : decode cX8_decimal 42 = .ok (.ifCond .gt 7, 3) := dc_157 (a := 0) (b := 7) (v := 7) (by decide +kernel)
theorem dX8_decimal_45 : decode cX8_decimal 45 = .ok (.iconst 1, 1) := dc_4 (by decide +kernel)
theorem dX8_decimal_46 : decode cX8_decimal 46 = .ok (.goto 4, 3) := dc_167 (a := 0) (b := 4) (v := 4) (by decide +kernel)
theorem dX8_decimal_49 : decode cX8_decimal 49 = .ok (.iconst 0, 1) := dc_3 (by decide +kernel)
theorem dX8_decimal_50 : decode cX8_decimal 50 = .ok (.bipush 7, 2) := dc_16 (a := 7) (v := 7) (by decide +kernel)
theorem dX8_decimal_52 : decode cX8_decimal 52 = .ok (.invokevirtual 145, 3) := dc_182 (a := 0) (b := 145) (n := 145) (by decide +kernel)
theorem dX8_decimal_55 : decode cX8_decimal 55 = .ok (.aload_n 0, 1) := dc_42 (by decide +kernel)
theorem dX8_decimal_56 : decode cX8_decimal 56 = .ok (.invokevirtual 187, 3) := dc_182 (a := 0) (b := 187) (n := 187) (by decide +kernel)
theorem dX8_decimal_59 : decode cX8_decimal 59 = .ok (.istore 4, 2) := dc_54 (a := 4) (by decide +kernel)
theorem dX8_decimal_61 : decode cX8_decimal 61 = .ok (.goto (-49), 3) := dc_167 (a := 255) (b := 207) (v := -49) (by decide +kernel)
theorem dX8_decimal_64 : decode cX8_decimal 64 = .ok (.iload 4, 2) := dc_21 (a := 4) (by decide +kernel)
theorem dX8_decimal_66 : decode cX8_decimal 66 = .ok (.bipush 10, 2) := dc_16 (a := 10) (v := 10) (by decide +kernel)
theorem dX8_decimal_68 : decode cX8_decimal 68 = .ok (.invokestatic 193, 3) := dc_184 (a := 0) (b := 193) (n := 193) (by decide +kernel)
theorem dX8_decimal_71 : decode cX8_decimal 71 = .ok (.ifCond .ne 9, 3) := dc_154 (a := 0) (b := 9) (v := 9) (by decide +kernel)
theorem dX8_decimal_74 : decode cX8_decimal 74 = .ok (.aload_n 0, 1) := dc_42 (by decide +kernel)
theorem dX8_decimal_75 : decode cX8_decimal 75 = .ok (.iload 4, 2) := dc_21 (a := 4) (by decide +kernel)
theorem dX8_decimal_77 : decode cX8_decimal 77 = .ok (.invokevirtual 351, 3) := dc_182 (a := 1) (b := 95) (n := 351) (by decide +kernel)
theorem dX8_decimal_80 : decode cX8_decimal 80 = .ok (.lload_n 2, 1) := dc_32 (by decide +kernel)
theorem dX8_decimal_81 : decode cX8_decimal 81 = .ok (.l2i, 1) := dc_136 (by decide +kernel)
theorem dX8_decimal_82 : decode cX8_decimal 82 = .ok (.ireturn, 1) := dc_172 (by decide +kernel)
def fX8_decimal_b50 (N : Nat) (rE : Nat → Int32 → eH → Option ((Unit ⊕ Nat) × eH)) (k12 : Nat → Int64 → Int32 → eH → Option ((Int32 ⊕ Nat) × eH)) (l0 : Nat) (l2 : Int64) (s0 : Nat) (s1 : Int32) (h : eH) : Option ((Int32 ⊕ Nat) × eH) :=
  (k_ok 3 h s0).bind fun _ =>
  t_B (fX4_want s0 s1 (7 : Int32) h) fun x2 h3 =>
  (k_ok 7 h3 l0).bind fun _ =>
  t_B (fX8_getExpanded N rE l0 h3) fun x5 h6 =>
  k12 l0 l2 x5 h6
theorem pX8_decimal_b50 {w : eW} {d : Nat} {dr : Nat} (hd : dr + 14 ≤ d + 1) (hdr : 12 ≤ dr) {N : Nat} {rE : Nat → Int32 → eH → Option ((Unit ⊕ Nat) × eH)} (hrE : ∀ a t0 h q, rE a t0 h = some q → wm w dr YX8_expand [.ref a, .int t0] h (e_is (e_rt c_V q))) {k12 : Nat → Int64 → Int32 → eH → Option ((Int32 ⊕ Nat) × eH)} (hk12 : ∀ l0 l2 l4 h q, k12 l0 l2 l4 h = some q → wp w (d + 1) YX8_decimal 12 [some (.ref l0), none, some (.long l2), none, some (.int l4)] [] h (e_is (e_rt c_I q))) {l0 : Nat} {l2 : Int64} {s0 : Nat} {s1 : Int32} {h : eH} {q} (hf : fX8_decimal_b50 N rE k12 l0 l2 s0 s1 h = some q) : wp w (d + 1) YX8_decimal 50 [some (.ref l0), none, some (.long l2), none, none] [.int s1, .ref s0] h (e_is (e_rt c_I q)) := by
  unfold fX8_decimal_b50 at hf
  refine w_bipush dX8_decimal_50 (v := 7) (by decide) ?_
  obtain ⟨_, b1, hf⟩ := Option.bind_eq_some_iff.mp hf
  refine x_ctV hf (e_stV (Yc := YX4_want) (ci := 3) (av := [.int s1, .int (7 : Int32)]) (st := []) dX8_decimal_52 q2500 mX4_want rfl (k_ok_some b1).1 (k_ok_some b1).2) mX4_want.2.2.1 mX4_want.2.2.2.2.1 (Nat.le_of_ble_eq_true rfl) (Nat.le_of_ble_eq_true rfl) rfl (fun q hq => pX4_want (by omega) hq) (fun x2 h3 hf => ?_)
  refine w_aload_n dX8_decimal_55 rfl rfl ?_
  obtain ⟨_, b4, hf⟩ := Option.bind_eq_some_iff.mp hf
  refine x_ctI hf (e_stV (Yc := YX8_getExpanded) (ci := 7) (av := []) (st := []) dX8_decimal_56 q2567 mX8_getExpanded rfl (k_ok_some b4).1 (k_ok_some b4).2) mX8_getExpanded.2.2.1 mX8_getExpanded.2.2.2.2.1 (Nat.le_of_ble_eq_true rfl) (Nat.le_of_ble_eq_true rfl) rfl (fun q hq => pX8_getExpanded (by omega) hdr hrE hq) (fun x5 h6 hf => ?_)
  refine w_istore dX8_decimal_59 (by decide) (ls' := [some (.ref l0), none, some (.long l2), none, some (.int x5)]) rfl ?_
  refine w_goto 12 dX8_decimal_61 (by decide) ?_
  exact (hk12 _ _ _ _ _ hf).to ⟨rfl, rfl, rfl, trivial⟩
def fX8_decimal_b80 (N : Nat) (rE : Nat → Int32 → eH → Option ((Unit ⊕ Nat) × eH)) (l2 : Int64) (h : eH) : Option ((Int32 ⊕ Nat) × eH) :=
  some (.inl (l2).toInt32, h)
theorem pX8_decimal_b80 {w : eW} {d : Nat} {dr : Nat} (hd : dr + 14 ≤ d + 1) (hdr : 12 ≤ dr) {N : Nat} {rE : Nat → Int32 → eH → Option ((Unit ⊕ Nat) × eH)} (hrE : ∀ a t0 h q, rE a t0 h = some q → wm w dr YX8_expand [.ref a, .int t0] h (e_is (e_rt c_V q))) {l2 : Int64} {h : eH} {q} (hf : fX8_decimal_b80 N rE l2 h = some q) : wp w (d + 1) YX8_decimal 80 [none, none, some (.long l2), none, none] [] h (e_is (e_rt c_I q)) := by
  unfold fX8_decimal_b80 at hf
  refine w_lload_n dX8_decimal_80 rfl rfl ?_
  refine w_l2i dX8_decimal_81 ?_
  cases hf
  exact w_iret dX8_decimal_82 rfl rfl rfl
def fX8_decimal_b12 (N : Nat) (rE : Nat → Int32 → eH → Option ((Unit ⊕ Nat) × eH)) : Nat → Nat → Int64 → Int32 → eH → Option ((Int32 ⊕ Nat) × eH)
  | 0, _, _, _, _ => none
  | n + 1, l0, l2, l4, h =>
    (fX1_isDigit l4 h).bind fun q1 =>
    if q1.1 = 0 then
      (fX1_is l4 (10 : Int32) q1.2).bind fun q3 =>
      if ¬ q3.1 = 0 then
        fX8_decimal_b80 N rE l2 q3.2
      else
        (k_ok 7 q3.2 l0).bind fun _ =>
        (fX8_putBack l0 l4 q3.2).bind fun q6 =>
        fX8_decimal_b80 N rE l2 q6.2
    else
      (g_A 7 q1.2 l0 0).bind fun a7 =>
      if 0 < (lg_cmp (((10 : Int64) * l2) + ((l4 &&& (15 : Int32))).toInt64) (2147483647 : Int64)) then
        fX8_decimal_b50 N rE (fX8_decimal_b12 N rE n) l0 (((10 : Int64) * l2) + ((l4 &&& (15 : Int32))).toInt64) a7 (0 : Int32) q1.2
      else
        fX8_decimal_b50 N rE (fX8_decimal_b12 N rE n) l0 (((10 : Int64) * l2) + ((l4 &&& (15 : Int32))).toInt64) a7 (1 : Int32) q1.2
theorem pX8_decimal_b12 {w : eW} {d : Nat} {dr : Nat} (hd : dr + 14 ≤ d + 1) (hdr : 12 ≤ dr) {N : Nat} {rE : Nat → Int32 → eH → Option ((Unit ⊕ Nat) × eH)} (hrE : ∀ a t0 h q, rE a t0 h = some q → wm w dr YX8_expand [.ref a, .int t0] h (e_is (e_rt c_V q))) : ∀ (n : Nat) l0 l2 l4 h q, fX8_decimal_b12 N rE n l0 l2 l4 h = some q → wp w (d + 1) YX8_decimal 12 [some (.ref l0), none, some (.long l2), none, some (.int l4)] [] h (e_is (e_rt c_I q)) := by
  intro n
  induction n with
  | zero => intro l0 l2 l4 h q hf; simp [fX8_decimal_b12] at hf
  | succ n ih =>
    intro l0 l2 l4 h q hf
    rw [fX8_decimal_b12] at hf
    refine w_iload dX8_decimal_12 rfl ?_
    refine x_cnI hf (e_stSN (Yc := YX1_isDigit) (av := [.int l4]) (st := []) dX8_decimal_14 q2598 mX1_isDigit) mX1_isDigit.2.2.1 mX1_isDigit.2.2.2.2.1 (Nat.le_of_ble_eq_true rfl) (Nat.le_of_ble_eq_true rfl) (fun q hq => pX1_isDigit (by omega) hq) (fun q1 hf => ?_)
    refine w_if_eq 64 dX8_decimal_17 (by decide) (fun c2 => ?_) (fun c2 => ?_)
    · replace hf := (if_pos (show q1.1 = 0 from c2)).symm.trans hf
      refine w_iload dX8_decimal_64 rfl ?_
      refine w_bipush dX8_decimal_66 (v := 10) (by decide) ?_
      refine x_cnI hf (e_stSN (Yc := YX1_is) (av := [.int l4, .int (10 : Int32)]) (st := []) dX8_decimal_68 q2518 mX1_is) mX1_is.2.2.1 mX1_is.2.2.2.2.1 (Nat.le_of_ble_eq_true rfl) (Nat.le_of_ble_eq_true rfl) (fun q hq => pX1_is (by omega) hq) (fun q3 hf => ?_)
      refine w_if_ne 80 dX8_decimal_71 (by decide) (fun c4 => ?_) (fun c4 => ?_)
      · replace hf := (if_pos (show ¬ q3.1 = 0 from c4)).symm.trans hf
        exact (pX8_decimal_b80 hd hdr hrE hf).to ⟨rfl, trivial⟩
      · replace hf := (if_neg (show ¬ (¬ q3.1 = 0) from (fun z => z c4))).symm.trans hf
        refine w_aload_n dX8_decimal_74 rfl rfl ?_
        refine w_iload dX8_decimal_75 rfl ?_
        obtain ⟨_, b5, hf⟩ := Option.bind_eq_some_iff.mp hf
        refine x_cnV hf (e_stV (Yc := YX8_putBack) (ci := 7) (av := [.int l4]) (st := []) dX8_decimal_77 q2607 mX8_putBack rfl (k_ok_some b5).1 (k_ok_some b5).2) mX8_putBack.2.2.1 mX8_putBack.2.2.2.2.1 (Nat.le_of_ble_eq_true rfl) (Nat.le_of_ble_eq_true rfl) (fun q hq => pX8_putBack (by omega) hq) (fun q6 hf => ?_)
        exact (pX8_decimal_b80 hd hdr hrE hf).to ⟨rfl, trivial⟩
    · replace hf := (if_neg (show ¬ (q1.1 = 0) from c2)).symm.trans hf
      refine w_ldc2 dX8_decimal_20 q2605 ?_
      refine w_lload_n dX8_decimal_23 rfl rfl ?_
      refine w_lmul dX8_decimal_24 ?_
      refine w_iload dX8_decimal_25 rfl ?_
      refine w_bipush dX8_decimal_27 (v := 15) (by decide) ?_
      refine w_iand dX8_decimal_29 ?_
      refine w_i2l dX8_decimal_30 ?_
      refine w_ladd dX8_decimal_31 ?_
      refine w_lstore_n dX8_decimal_32 rfl (by decide) (ls' := [some (.ref l0), none, some (.long (((10 : Int64) * l2) + ((l4 &&& (15 : Int32))).toInt64)), none, some (.int l4)]) rfl ?_
      refine w_aload_n dX8_decimal_33 rfl rfl ?_
      obtain ⟨a7, b8, hf⟩ := Option.bind_eq_some_iff.mp hf
      refine GX8_51 b8 dX8_decimal_34 rfl ?_
      refine w_lload_n dX8_decimal_37 rfl rfl ?_
      refine w_ldc2 dX8_decimal_38 q2606 ?_
      refine w_lcmp dX8_decimal_41 ?_
      refine w_if_gt 49 dX8_decimal_42 (by decide) (fun c9 => ?_) (fun c9 => ?_)
      · replace hf := (if_pos (show 0 < (lg_cmp (((10 : Int64) * l2) + ((l4 &&& (15 : Int32))).toInt64) (2147483647 : Int64)) from c9)).symm.trans hf
        refine w_iconst dX8_decimal_49 (v := 0) (by decide) ?_
        exact (pX8_decimal_b50 hd hdr hrE ih hf).to ⟨rfl, rfl, trivial⟩
      · replace hf := (if_neg (show ¬ (0 < (lg_cmp (((10 : Int64) * l2) + ((l4 &&& (15 : Int32))).toInt64) (2147483647 : Int64))) from c9)).symm.trans hf
        refine w_iconst dX8_decimal_45 (v := 1) (by decide) ?_
        refine w_goto 50 dX8_decimal_46 (by decide) ?_
        exact (pX8_decimal_b50 hd hdr hrE ih hf).to ⟨rfl, rfl, trivial⟩
def fX8_decimal (N : Nat) (rE : Nat → Int32 → eH → Option ((Unit ⊕ Nat) × eH)) (this : Nat) (p0 : Int32) (h : eH) : Option ((Int32 ⊕ Nat) × eH) :=
  (k_ok 7 h this).bind fun _ =>
  t_B (fX8_getExpanded N rE this h) fun x2 h3 =>
  fX8_decimal_b12 N rE N this ((p0 &&& (15 : Int32))).toInt64 x2 h3
theorem pX8_decimal {w : eW} {d : Nat} {dr : Nat} (hd : dr + 14 ≤ d) (hdr : 12 ≤ dr) {N : Nat} {rE : Nat → Int32 → eH → Option ((Unit ⊕ Nat) × eH)} (hrE : ∀ a t0 h q, rE a t0 h = some q → wm w dr YX8_expand [.ref a, .int t0] h (e_is (e_rt c_V q))) {this : Nat} {p0 : Int32} {h : eH} {q} (hf : fX8_decimal N rE this p0 h = some q) : wm w d YX8_decimal [.ref this, .int p0] h (e_is (e_rt c_I q)) := by
  obtain ⟨d, rfl⟩ : ∃ e, d = e + 1 := ⟨d - 1, by omega⟩
  show wp w (d + 1) YX8_decimal 0 [some (.ref this), some (.int p0), none, none, none] [] h _
  unfold fX8_decimal at hf
  refine w_iload_n dX8_decimal_0 rfl rfl ?_
  refine w_bipush dX8_decimal_1 (v := 15) (by decide) ?_
  refine w_iand dX8_decimal_3 ?_
  refine w_i2l dX8_decimal_4 ?_
  refine w_lstore_n dX8_decimal_5 rfl (by decide) (ls' := [some (.ref this), some (.int p0), some (.long ((p0 &&& (15 : Int32))).toInt64), none, none]) rfl ?_
  refine w_aload_n dX8_decimal_6 rfl rfl ?_
  obtain ⟨_, b1, hf⟩ := Option.bind_eq_some_iff.mp hf
  refine x_ctI hf (e_stV (Yc := YX8_getExpanded) (ci := 7) (av := []) (st := []) dX8_decimal_7 q2567 mX8_getExpanded rfl (k_ok_some b1).1 (k_ok_some b1).2) mX8_getExpanded.2.2.1 mX8_getExpanded.2.2.2.2.1 (Nat.le_of_ble_eq_true rfl) (Nat.le_of_ble_eq_true rfl) rfl (fun q hq => pX8_getExpanded (by omega) hdr hrE hq) (fun x2 h3 hf => ?_)
  refine w_istore dX8_decimal_10 (by decide) (ls' := [some (.ref this), some (.int p0), some (.long ((p0 &&& (15 : Int32))).toInt64), none, some (.int x2)]) rfl ?_
  exact (pX8_decimal_b12 hd hdr hrE N _ _ _ _ _ hf).to ⟨rfl, rfl, rfl, trivial⟩
abbrev cX8_makeName : ByteArray := prog_4_method_18_code
def yX8_makeName : MethodName := ⟨RX8, "makeName", "()V"⟩
def YX8_makeName : eY := (yX8_makeName, cX8_makeName, 4, none, [])
theorem mX8_makeName : e_mv YX8_makeName RX8 0 := ⟨q2561, qs60, q2562, by decide, by decide +kernel, (e_sig (by decide +kernel))⟩
theorem dX8_makeName_0 : decode cX8_makeName 0 = .ok (.aload_n 0, 1) := dc_42 (by decide +kernel)
theorem dX8_makeName_1 : decode cX8_makeName 1 = .ok (.getfield 131, 3) := dc_180 (a := 0) (b := 131) (n := 131) (by decide +kernel)
theorem dX8_makeName_4 : decode cX8_makeName 4 = .ok (.istore_n 1, 1) := dc_60 (by decide +kernel)
theorem dX8_makeName_5 : decode cX8_makeName 5 = .ok (.aload_n 0, 1) := dc_42 (by decide +kernel)
theorem dX8_makeName_6 : decode cX8_makeName 6 = .ok (.invokevirtual 190, 3) := dc_182 (a := 0) (b := 190) (n := 190) (by decide +kernel)
theorem dX8_makeName_9 : decode cX8_makeName 9 = .ok (.istore_n 2, 1) := dc_61 (by decide +kernel)
theorem dX8_makeName_10 : decode cX8_makeName 10 = .ok (.aload_n 0, 1) := dc_42 (by decide +kernel)
theorem dX8_makeName_11 : decode cX8_makeName 11 = .ok (.iload_n 2, 1) := dc_28 (by decide +kernel)
theorem dX8_makeName_12 : decode cX8_makeName 12 = .ok (.invokevirtual 243, 3) := dc_182 (a := 0) (b := 243) (n := 243) (by decide +kernel)
theorem dX8_makeName_15 : decode cX8_makeName 15 = .ok (.bipush 27, 2) := dc_16 (a := 27) (v := 27) (by decide +kernel)
theorem dX8_makeName_17 : decode cX8_makeName 17 = .ok (.if_icmp .eq 66, 3) := dc_159 (a := 0) (b := 66) (v := 66) (by decide +kernel)
theorem dX8_makeName_20 : decode cX8_makeName 20 = .ok (.aload_n 0, 1) := dc_42 (by decide +kernel)
theorem dX8_makeName_21 : decode cX8_makeName 21 = .ok (.getfield 51, 3) := dc_180 (a := 0) (b := 51) (n := 51) (by decide +kernel)
theorem dX8_makeName_24 : decode cX8_makeName 24 = .ok (.iload_n 2, 1) := dc_28 (by decide +kernel)
theorem dX8_makeName_25 : decode cX8_makeName 25 = .ok (.invokestatic 165, 3) := dc_184 (a := 0) (b := 165) (n := 165) (by decide +kernel)
theorem dX8_makeName_28 : decode cX8_makeName 28 = .ok (.bipush 6, 2) := dc_16 (a := 6) (v := 6) (by decide +kernel)
theorem dX8_makeName_30 : decode cX8_makeName 30 = .ok (.invokevirtual 145, 3) := dc_182 (a := 0) (b := 145) (n := 145) (by decide +kernel)
theorem dX8_makeName_33 : decode cX8_makeName 33 = .ok (.aload_n 0, 1) := dc_42 (by decide +kernel)
theorem dX8_makeName_34 : decode cX8_makeName 34 = .ok (.getfield 51, 3) := dc_180 (a := 0) (b := 51) (n := 51) (by decide +kernel)
theorem dX8_makeName_37 : decode cX8_makeName 37 = .ok (.aload_n 0, 1) := dc_42 (by decide +kernel)
theorem dX8_makeName_38 : decode cX8_makeName 38 = .ok (.getfield 131, 3) := dc_180 (a := 0) (b := 131) (n := 131) (by decide +kernel)
theorem dX8_makeName_41 : decode cX8_makeName 41 = .ok (.iload_n 1, 1) := dc_27 (by decide +kernel)
theorem dX8_makeName_42 : decode cX8_makeName 42 = .ok (.bipush 40, 2) := dc_16 (a := 40) (v := 40) (by decide +kernel)
theorem dX8_makeName_44 : decode cX8_makeName 44 = .ok (.iadd, 1) := dc_96 (by decide +kernel)
theorem dX8_makeName_45 : decode cX8_makeName 45 = .ok (.if_icmp .ge 7, 3) := dc_162 (a := 0) (b := 7) (v := 7) (by decide +kernel)
theorem dX8_makeName_48 : decode cX8_makeName 48 = .ok (.iconst 1, 1) := dc_4 (by decide +kernel)
theorem dX8_makeName_49 : decode cX8_makeName 49 = .ok (.goto 4, 3) := dc_167 (a := 0) (b := 4) (v := 4) (by decide +kernel)
theorem dX8_makeName_52 : decode cX8_makeName 52 = .ok (.iconst 0, 1) := dc_3 (by decide +kernel)
theorem dX8_makeName_53 : decode cX8_makeName 53 = .ok (.iconst 2, 1) := dc_5 (by decide +kernel)
theorem dX8_makeName_54 : decode cX8_makeName 54 = .ok (.invokevirtual 145, 3) := dc_182 (a := 0) (b := 145) (n := 145) (by decide +kernel)
theorem dX8_makeName_57 : decode cX8_makeName 57 = .ok (.aload_n 0, 1) := dc_42 (by decide +kernel)
theorem dX8_makeName_58 : decode cX8_makeName 58 = .ok (.getfield 41, 3) := dc_180 (a := 0) (b := 41) (n := 41) (by decide +kernel)
theorem dX8_makeName_61 : decode cX8_makeName 61 = .ok (.aload_n 0, 1) := dc_42 (by decide +kernel)
theorem dX8_makeName_62 : decode cX8_makeName 62 = .ok (.dup, 1) := dc_89 (by decide +kernel)
theorem dX8_makeName_63 : decode cX8_makeName 63 = .ok (.getfield 131, 3) := dc_180 (a := 0) (b := 131) (n := 131) (by decide +kernel)
theorem dX8_makeName_66 : decode cX8_makeName 66 = .ok (.dup_x1, 1) := dc_90 (by decide +kernel)
theorem dX8_makeName_67 : decode cX8_makeName 67 = .ok (.iconst 1, 1) := dc_4 (by decide +kernel)
theorem dX8_makeName_68 : decode cX8_makeName 68 = .ok (.iadd, 1) := dc_96 (by decide +kernel)
theorem dX8_makeName_69 : decode cX8_makeName 69 = .ok (.putfield 131, 3) := dc_181 (a := 0) (b := 131) (n := 131) (by decide +kernel)
theorem dX8_makeName_72 : decode cX8_makeName 72 = .ok (.iload_n 2, 1) := dc_28 (by decide +kernel)
theorem dX8_makeName_73 : decode cX8_makeName 73 = .ok (.i2b, 1) := dc_145 (by decide +kernel)
theorem dX8_makeName_74 : decode cX8_makeName 74 = .ok (.bastore, 1) := dc_84 (by decide +kernel)
theorem dX8_makeName_75 : decode cX8_makeName 75 = .ok (.aload_n 0, 1) := dc_42 (by decide +kernel)
theorem dX8_makeName_76 : decode cX8_makeName 76 = .ok (.invokevirtual 190, 3) := dc_182 (a := 0) (b := 190) (n := 190) (by decide +kernel)
theorem dX8_makeName_79 : decode cX8_makeName 79 = .ok (.istore_n 2, 1) := dc_61 (by decide +kernel)
theorem dX8_makeName_80 : decode cX8_makeName 80 = .ok (.goto (-70), 3) := dc_167 (a := 255) (b := 186) (v := -70) (by decide +kernel)
theorem dX8_makeName_83 : decode cX8_makeName 83 = .ok (.aload_n 0, 1) := dc_42 (by decide +kernel)
theorem dX8_makeName_84 : decode cX8_makeName 84 = .ok (.getfield 68, 3) := dc_180 (a := 0) (b := 68) (n := 68) (by decide +kernel)
theorem dX8_makeName_87 : decode cX8_makeName 87 = .ok (.invokevirtual 246, 3) := dc_182 (a := 0) (b := 246) (n := 246) (by decide +kernel)
theorem dX8_makeName_90 : decode cX8_makeName 90 = .ok (.iload_n 1, 1) := dc_27 (by decide +kernel)
theorem dX8_makeName_91 : decode cX8_makeName 91 = .ok (.istore_n 3, 1) := dc_62 (by decide +kernel)
theorem dX8_makeName_92 : decode cX8_makeName 92 = .ok (.iload_n 3, 1) := dc_29 (by decide +kernel)
theorem dX8_makeName_93 : decode cX8_makeName 93 = .ok (.aload_n 0, 1) := dc_42 (by decide +kernel)
theorem dX8_makeName_94 : decode cX8_makeName 94 = .ok (.getfield 131, 3) := dc_180 (a := 0) (b := 131) (n := 131) (by decide +kernel)
theorem dX8_makeName_97 : decode cX8_makeName 97 = .ok (.if_icmp .ge 22, 3) := dc_162 (a := 0) (b := 22) (v := 22) (by decide +kernel)
theorem dX8_makeName_100 : decode cX8_makeName 100 = .ok (.aload_n 0, 1) := dc_42 (by decide +kernel)
theorem dX8_makeName_101 : decode cX8_makeName 101 = .ok (.getfield 68, 3) := dc_180 (a := 0) (b := 68) (n := 68) (by decide +kernel)
theorem dX8_makeName_104 : decode cX8_makeName 104 = .ok (.aload_n 0, 1) := dc_42 (by decide +kernel)
theorem dX8_makeName_105 : decode cX8_makeName 105 = .ok (.getfield 41, 3) := dc_180 (a := 0) (b := 41) (n := 41) (by decide +kernel)
theorem dX8_makeName_108 : decode cX8_makeName 108 = .ok (.iload_n 3, 1) := dc_29 (by decide +kernel)
theorem dX8_makeName_109 : decode cX8_makeName 109 = .ok (.baload, 1) := dc_51 (by decide +kernel)
theorem dX8_makeName_110 : decode cX8_makeName 110 = .ok (.invokevirtual 249, 3) := dc_182 (a := 0) (b := 249) (n := 249) (by decide +kernel)
theorem dX8_makeName_113 : decode cX8_makeName 113 = .ok (.iinc 3 1, 3) := dc_132 (a := 3) (b := 1) (v := 1) (by decide +kernel)
theorem dX8_makeName_116 : decode cX8_makeName 116 = .ok (.goto (-24), 3) := dc_167 (a := 255) (b := 232) (v := -24) (by decide +kernel)
theorem dX8_makeName_119 : decode cX8_makeName 119 = .ok (.aload_n 0, 1) := dc_42 (by decide +kernel)
theorem dX8_makeName_120 : decode cX8_makeName 120 = .ok (.iload_n 1, 1) := dc_27 (by decide +kernel)
theorem dX8_makeName_121 : decode cX8_makeName 121 = .ok (.putfield 131, 3) := dc_181 (a := 0) (b := 131) (n := 131) (by decide +kernel)
theorem dX8_makeName_124 : decode cX8_makeName 124 = .ok (.aload_n 0, 1) := dc_42 (by decide +kernel)
theorem dX8_makeName_125 : decode cX8_makeName 125 = .ok (.getfield 68, 3) := dc_180 (a := 0) (b := 68) (n := 68) (by decide +kernel)
theorem dX8_makeName_128 : decode cX8_makeName 128 = .ok (.invokevirtual 252, 3) := dc_182 (a := 0) (b := 252) (n := 252) (by decide +kernel)
theorem dX8_makeName_131 : decode cX8_makeName 131 = .ok (.istore_n 3, 1) := dc_62 (by decide +kernel)
theorem dX8_makeName_132 : decode cX8_makeName 132 = .ok (.aload_n 0, 1) := dc_42 (by decide +kernel)
theorem dX8_makeName_133 : decode cX8_makeName 133 = .ok (.getfield 12, 3) := dc_180 (a := 0) (b := 12) (n := 12) (by decide +kernel)
theorem dX8_makeName_136 : decode cX8_makeName 136 = .ok (.aload_n 0, 1) := dc_42 (by decide +kernel)
theorem dX8_makeName_137 : decode cX8_makeName 137 = .ok (.getfield 68, 3) := dc_180 (a := 0) (b := 68) (n := 68) (by decide +kernel)
theorem dX8_makeName_140 : decode cX8_makeName 140 = .ok (.getfield 153, 3) := dc_180 (a := 0) (b := 153) (n := 153) (by decide +kernel)
theorem dX8_makeName_143 : decode cX8_makeName 143 = .ok (.invokevirtual 154, 3) := dc_182 (a := 0) (b := 154) (n := 154) (by decide +kernel)
theorem dX8_makeName_146 : decode cX8_makeName 146 = .ok (.aload_n 0, 1) := dc_42 (by decide +kernel)
theorem dX8_makeName_147 : decode cX8_makeName 147 = .ok (.getfield 12, 3) := dc_180 (a := 0) (b := 12) (n := 12) (by decide +kernel)
theorem dX8_makeName_150 : decode cX8_makeName 150 = .ok (.getfield 168, 3) := dc_180 (a := 0) (b := 168) (n := 168) (by decide +kernel)
theorem dX8_makeName_153 : decode cX8_makeName 153 = .ok (.iload_n 3, 1) := dc_29 (by decide +kernel)
theorem dX8_makeName_154 : decode cX8_makeName 154 = .ok (.iaload, 1) := dc_46 (by decide +kernel)
theorem dX8_makeName_155 : decode cX8_makeName 155 = .ok (.ifCond .ne 15, 3) := dc_154 (a := 0) (b := 15) (v := 15) (by decide +kernel)
theorem dX8_makeName_158 : decode cX8_makeName 158 = .ok (.aload_n 0, 1) := dc_42 (by decide +kernel)
theorem dX8_makeName_159 : decode cX8_makeName 159 = .ok (.getfield 12, 3) := dc_180 (a := 0) (b := 12) (n := 12) (by decide +kernel)
theorem dX8_makeName_162 : decode cX8_makeName 162 = .ok (.iload_n 3, 1) := dc_29 (by decide +kernel)
theorem dX8_makeName_163 : decode cX8_makeName 163 = .ok (.iconst 1, 1) := dc_4 (by decide +kernel)
theorem dX8_makeName_164 : decode cX8_makeName 164 = .ok (.bipush 22, 2) := dc_16 (a := 22) (v := 22) (by decide +kernel)
theorem dX8_makeName_166 : decode cX8_makeName 166 = .ok (.iconst 0, 1) := dc_3 (by decide +kernel)
theorem dX8_makeName_167 : decode cX8_makeName 167 = .ok (.invokevirtual 107, 3) := dc_182 (a := 0) (b := 107) (n := 107) (by decide +kernel)
theorem dX8_makeName_170 : decode cX8_makeName 170 = .ok (.aload_n 0, 1) := dc_42 (by decide +kernel)
theorem dX8_makeName_171 : decode cX8_makeName 171 = .ok (.getfield 93, 3) := dc_180 (a := 0) (b := 93) (n := 93) (by decide +kernel)
theorem dX8_makeName_174 : decode cX8_makeName 174 = .ok (.sipush 4096, 3) := dc_17 (a := 16) (b := 0) (v := 4096) (by decide +kernel)
theorem dX8_makeName_177 : decode cX8_makeName 177 = .ok (.iload_n 3, 1) := dc_29 (by decide +kernel)
theorem dX8_makeName_178 : decode cX8_makeName 178 = .ok (.iadd, 1) := dc_96 (by decide +kernel)
theorem dX8_makeName_179 : decode cX8_makeName 179 = .ok (.invokevirtual 197, 3) := dc_182 (a := 0) (b := 197) (n := 197) (by decide +kernel)
theorem dX8_makeName_182 : decode cX8_makeName 182 = .ok (.return_, 1) := dc_177 (by decide +kernel)
theorem GX8_131 {w : eW} {d : Nat} {Y : eY} {pc : Nat} {ls : eL} {st : List Value} {h : eH} {Q : eO → eH → Prop} {a : Nat} {x : Int32} (hf : g_I 7 h a 22 = some x) (hd : decode Y.2.1 pc = .ok (.getfield 131, 3)) (hY : Y.1.cls = RX8) (kk : wp w d Y (pc + 3) ls (.int x :: st) h Q) : wp w d Y pc ls (.ref a :: st) h Q := x_gI (ci := 7) (k := 22) hf hd rfl (by decide) (by rw [hY]; exact q860) kk
theorem GX8_41 {w : eW} {d : Nat} {Y : eY} {pc : Nat} {ls : eL} {st : List Value} {h : eH} {Q : eO → eH → Prop} {a : Nat} {x : Nat} (hf : g_A 7 h a 21 = some x) (hd : decode Y.2.1 pc = .ok (.getfield 41, 3)) (hY : Y.1.cls = RX8) (kk : wp w d Y (pc + 3) ls (.ref x :: st) h Q) : wp w d Y pc ls (.ref a :: st) h Q := x_gA (ci := 7) (k := 21) hf hd rfl (by decide) (by rw [hY]; exact q859) kk
def fX8_makeName_b53 (N : Nat) (rE : Nat → Int32 → eH → Option ((Unit ⊕ Nat) × eH)) (k10 : Nat → Int32 → Int32 → eH → Option ((Unit ⊕ Nat) × eH)) (l0 : Nat) (l1 : Int32) (l2 : Int32) (s0 : Nat) (s1 : Int32) (h : eH) : Option ((Unit ⊕ Nat) × eH) :=
  (k_ok 3 h s0).bind fun _ =>
  t_B (fX4_want s0 s1 (2 : Int32) h) fun x2 h3 =>
  (g_A 7 h3 l0 21).bind fun a4 =>
  (g_I 7 h3 l0 22).bind fun x6 =>
  (p_V 7 h3 l0 22 (.int (x6 + (1 : Int32)))).bind fun h8 =>
  (q_V 102 h8 a4 x6 (.int ((l2).toInt8.toInt32).toInt8.toInt32)).bind fun h10 =>
  (k_ok 7 h10 l0).bind fun _ =>
  t_B (fX8_needExpanded N rE l0 h10) fun x13 h14 =>
  k10 l0 l1 x13 h14
theorem pX8_makeName_b53 {w : eW} {d : Nat} {dr : Nat} (hd : dr + 15 ≤ d + 1) (hdr : 12 ≤ dr) {N : Nat} {rE : Nat → Int32 → eH → Option ((Unit ⊕ Nat) × eH)} (hrE : ∀ a t0 h q, rE a t0 h = some q → wm w dr YX8_expand [.ref a, .int t0] h (e_is (e_rt c_V q))) {k10 : Nat → Int32 → Int32 → eH → Option ((Unit ⊕ Nat) × eH)} (hk10 : ∀ l0 l1 l2 h q, k10 l0 l1 l2 h = some q → wp w (d + 1) YX8_makeName 10 [some (.ref l0), some (.int l1), some (.int l2), none] [] h (e_is (e_rt c_V q))) {l0 : Nat} {l1 : Int32} {l2 : Int32} {s0 : Nat} {s1 : Int32} {h : eH} {q} (hf : fX8_makeName_b53 N rE k10 l0 l1 l2 s0 s1 h = some q) : wp w (d + 1) YX8_makeName 53 [some (.ref l0), some (.int l1), some (.int l2), none] [.int s1, .ref s0] h (e_is (e_rt c_V q)) := by
  unfold fX8_makeName_b53 at hf
  refine w_iconst dX8_makeName_53 (v := 2) (by decide) ?_
  obtain ⟨_, b1, hf⟩ := Option.bind_eq_some_iff.mp hf
  refine x_ctV hf (e_stV (Yc := YX4_want) (ci := 3) (av := [.int s1, .int (2 : Int32)]) (st := []) dX8_makeName_54 q2500 mX4_want rfl (k_ok_some b1).1 (k_ok_some b1).2) mX4_want.2.2.1 mX4_want.2.2.2.2.1 (Nat.le_of_ble_eq_true rfl) (Nat.le_of_ble_eq_true rfl) rfl (fun q hq => pX4_want (by omega) hq) (fun x2 h3 hf => ?_)
  refine w_aload_n dX8_makeName_57 rfl rfl ?_
  obtain ⟨a4, b5, hf⟩ := Option.bind_eq_some_iff.mp hf
  refine GX8_41 b5 dX8_makeName_58 rfl ?_
  refine w_aload_n dX8_makeName_61 rfl rfl ?_
  refine w_dup dX8_makeName_62 rfl ?_
  obtain ⟨x6, b7, hf⟩ := Option.bind_eq_some_iff.mp hf
  refine GX8_131 b7 dX8_makeName_63 rfl ?_
  refine w_dup_x1 dX8_makeName_66 rfl rfl ?_
  refine w_iconst dX8_makeName_67 (v := 1) (by decide) ?_
  refine w_iadd dX8_makeName_68 ?_
  obtain ⟨h8, b9, hf⟩ := Option.bind_eq_some_iff.mp hf
  refine SX8_131 b9 dX8_makeName_69 rfl ?_
  refine w_iload_n dX8_makeName_72 rfl rfl ?_
  refine w_i2b dX8_makeName_73 ?_
  obtain ⟨h10, b11, hf⟩ := Option.bind_eq_some_iff.mp hf
  refine x_qB b11 dX8_makeName_74 ?_
  refine w_aload_n dX8_makeName_75 rfl rfl ?_
  obtain ⟨_, b12, hf⟩ := Option.bind_eq_some_iff.mp hf
  refine x_ctI hf (e_stV (Yc := YX8_needExpanded) (ci := 7) (av := []) (st := []) dX8_makeName_76 q2563 mX8_needExpanded rfl (k_ok_some b12).1 (k_ok_some b12).2) mX8_needExpanded.2.2.1 mX8_needExpanded.2.2.2.2.1 (Nat.le_of_ble_eq_true rfl) (Nat.le_of_ble_eq_true rfl) rfl (fun q hq => pX8_needExpanded (by omega) hdr hrE hq) (fun x13 h14 hf => ?_)
  refine w_istore_n dX8_makeName_79 rfl (by decide) (ls' := [some (.ref l0), some (.int l1), some (.int x13), none]) rfl ?_
  refine w_goto 10 dX8_makeName_80 (by decide) ?_
  exact (hk10 _ _ _ _ _ hf).to ⟨rfl, rfl, rfl, trivial⟩
def fX8_makeName_b170 (N : Nat) (rE : Nat → Int32 → eH → Option ((Unit ⊕ Nat) × eH)) (l0 : Nat) (l3 : Int32) (h : eH) : Option ((Unit ⊕ Nat) × eH) :=
  (g_A 7 h l0 7).bind fun a1 =>
  (k_ok 12 h a1).bind fun _ =>
  (fX13_put a1 ((4096 : Int32) + l3) h).bind fun q4 =>
  some (.inl (), q4.2)
theorem pX8_makeName_b170 {w : eW} {d : Nat} {dr : Nat} (hd : dr + 15 ≤ d + 1) (hdr : 12 ≤ dr) {N : Nat} {rE : Nat → Int32 → eH → Option ((Unit ⊕ Nat) × eH)} (hrE : ∀ a t0 h q, rE a t0 h = some q → wm w dr YX8_expand [.ref a, .int t0] h (e_is (e_rt c_V q))) {l0 : Nat} {l3 : Int32} {h : eH} {q} (hf : fX8_makeName_b170 N rE l0 l3 h = some q) : wp w (d + 1) YX8_makeName 170 [some (.ref l0), none, none, some (.int l3)] [] h (e_is (e_rt c_V q)) := by
  unfold fX8_makeName_b170 at hf
  refine w_aload_n dX8_makeName_170 rfl rfl ?_
  obtain ⟨a1, b2, hf⟩ := Option.bind_eq_some_iff.mp hf
  refine GX8_93 b2 dX8_makeName_171 rfl ?_
  refine w_sipush dX8_makeName_174 (v := 4096) (by decide) ?_
  refine w_iload_n dX8_makeName_177 rfl rfl ?_
  refine w_iadd dX8_makeName_178 ?_
  obtain ⟨_, b3, hf⟩ := Option.bind_eq_some_iff.mp hf
  refine x_cnV hf (e_stV (Yc := YX13_put) (ci := 12) (av := [.int ((4096 : Int32) + l3)]) (st := []) dX8_makeName_179 q2558 mX13_put rfl (k_ok_some b3).1 (k_ok_some b3).2) mX13_put.2.2.1 mX13_put.2.2.2.2.1 (Nat.le_of_ble_eq_true rfl) (Nat.le_of_ble_eq_true rfl) (fun q hq => pX13_put (by omega) hq) (fun q4 hf => ?_)
  cases hf
  exact w_vret dX8_makeName_182 rfl rfl
def fX8_makeName_b92 (N : Nat) (rE : Nat → Int32 → eH → Option ((Unit ⊕ Nat) × eH)) : Nat → Nat → Int32 → Int32 → eH → Option ((Unit ⊕ Nat) × eH)
  | 0, _, _, _, _ => none
  | n + 1, l0, l1, l3, h =>
    (g_I 7 h l0 22).bind fun x1 =>
    if x1 ≤ l3 then
      (p_V 7 h l0 22 (.int l1)).bind fun h4 =>
      (g_A 7 h4 l0 3).bind fun a6 =>
      (k_ok 9 h4 a6).bind fun _ =>
      t_B (fX10_slot N a6 h4) fun x9 h10 =>
      (g_A 7 h10 l0 4).bind fun a11 =>
      (g_A 7 h10 l0 3).bind fun a13 =>
      (g_I 9 h10 a13 6).bind fun x15 =>
      (k_ok 8 h10 a11).bind fun _ =>
      (fX9_reach a11 x15 h10).bind fun q18 =>
      (g_A 7 q18.2 l0 4).bind fun a19 =>
      (g_A 8 q18.2 a19 0).bind fun a21 =>
      (r_I 100 q18.2 a21 x9).bind fun x23 =>
      if ¬ x23 = 0 then
        fX8_makeName_b170 N rE l0 x9 q18.2
      else
        (g_A 7 q18.2 l0 4).bind fun a26 =>
        (k_ok 8 q18.2 a26).bind fun _ =>
        (fX9_mean N a26 x9 (1 : Int32) (22 : Int32) (0 : Int32) q18.2).bind fun q29 =>
        fX8_makeName_b170 N rE l0 x9 q29.2
    else
      (g_A 7 h l0 3).bind fun a30 =>
      (g_A 7 h l0 21).bind fun a32 =>
      (r_I 102 h a32 l3).bind fun x34 =>
      (k_ok 9 h a30).bind fun _ =>
      t_B (fX10_add a30 x34 h) fun x37 h38 =>
      fX8_makeName_b92 N rE n l0 l1 (l3 + (1 : Int32)) h38
theorem pX8_makeName_b92 {w : eW} {d : Nat} {dr : Nat} (hd : dr + 15 ≤ d + 1) (hdr : 12 ≤ dr) {N : Nat} {rE : Nat → Int32 → eH → Option ((Unit ⊕ Nat) × eH)} (hrE : ∀ a t0 h q, rE a t0 h = some q → wm w dr YX8_expand [.ref a, .int t0] h (e_is (e_rt c_V q))) : ∀ (n : Nat) l0 l1 l3 h q, fX8_makeName_b92 N rE n l0 l1 l3 h = some q → wp w (d + 1) YX8_makeName 92 [some (.ref l0), some (.int l1), none, some (.int l3)] [] h (e_is (e_rt c_V q)) := by
  intro n
  induction n with
  | zero => intro l0 l1 l3 h q hf; simp [fX8_makeName_b92] at hf
  | succ n ih =>
    intro l0 l1 l3 h q hf
    rw [fX8_makeName_b92] at hf
    refine w_iload_n dX8_makeName_92 rfl rfl ?_
    refine w_aload_n dX8_makeName_93 rfl rfl ?_
    obtain ⟨x1, b2, hf⟩ := Option.bind_eq_some_iff.mp hf
    refine GX8_131 b2 dX8_makeName_94 rfl ?_
    refine w_icmp_ge 119 dX8_makeName_97 (by decide) (fun c3 => ?_) (fun c3 => ?_)
    · replace hf := (if_pos (show x1 ≤ l3 from c3)).symm.trans hf
      refine w_aload_n dX8_makeName_119 rfl rfl ?_
      refine w_iload_n dX8_makeName_120 rfl rfl ?_
      obtain ⟨h4, b5, hf⟩ := Option.bind_eq_some_iff.mp hf
      refine SX8_131 b5 dX8_makeName_121 rfl ?_
      refine w_aload_n dX8_makeName_124 rfl rfl ?_
      obtain ⟨a6, b7, hf⟩ := Option.bind_eq_some_iff.mp hf
      refine GX8_68 b7 dX8_makeName_125 rfl ?_
      obtain ⟨_, b8, hf⟩ := Option.bind_eq_some_iff.mp hf
      refine x_ctI hf (e_stV (Yc := YX10_slot) (ci := 9) (av := []) (st := []) dX8_makeName_128 q2574 mX10_slot rfl (k_ok_some b8).1 (k_ok_some b8).2) mX10_slot.2.2.1 mX10_slot.2.2.2.2.1 (Nat.le_of_ble_eq_true rfl) (Nat.le_of_ble_eq_true rfl) rfl (fun q hq => pX10_slot (by omega) hq) (fun x9 h10 hf => ?_)
      refine w_istore_n dX8_makeName_131 rfl (by decide) (ls' := [some (.ref l0), some (.int l1), none, some (.int x9)]) rfl ?_
      refine w_aload_n dX8_makeName_132 rfl rfl ?_
      obtain ⟨a11, b12, hf⟩ := Option.bind_eq_some_iff.mp hf
      refine GX8_12 b12 dX8_makeName_133 rfl ?_
      refine w_aload_n dX8_makeName_136 rfl rfl ?_
      obtain ⟨a13, b14, hf⟩ := Option.bind_eq_some_iff.mp hf
      refine GX8_68 b14 dX8_makeName_137 rfl ?_
      obtain ⟨x15, b16, hf⟩ := Option.bind_eq_some_iff.mp hf
      refine GX8_153 b16 dX8_makeName_140 rfl ?_
      obtain ⟨_, b17, hf⟩ := Option.bind_eq_some_iff.mp hf
      refine x_cnV hf (e_stV (Yc := YX9_reach) (ci := 8) (av := [.int x15]) (st := []) dX8_makeName_143 q2469 mX9_reach rfl (k_ok_some b17).1 (k_ok_some b17).2) mX9_reach.2.2.1 mX9_reach.2.2.2.2.1 (Nat.le_of_ble_eq_true rfl) (Nat.le_of_ble_eq_true rfl) (fun q hq => pX9_reach (by omega) hq) (fun q18 hf => ?_)
      refine w_aload_n dX8_makeName_146 rfl rfl ?_
      obtain ⟨a19, b20, hf⟩ := Option.bind_eq_some_iff.mp hf
      refine GX8_12 b20 dX8_makeName_147 rfl ?_
      obtain ⟨a21, b22, hf⟩ := Option.bind_eq_some_iff.mp hf
      refine GX8_168 b22 dX8_makeName_150 rfl ?_
      refine w_iload_n dX8_makeName_153 rfl rfl ?_
      obtain ⟨x23, b24, hf⟩ := Option.bind_eq_some_iff.mp hf
      refine x_rI b24 dX8_makeName_154 ?_
      refine w_if_ne 170 dX8_makeName_155 (by decide) (fun c25 => ?_) (fun c25 => ?_)
      · replace hf := (if_pos (show ¬ x23 = 0 from c25)).symm.trans hf
        exact (pX8_makeName_b170 hd hdr hrE hf).to ⟨rfl, rfl, trivial⟩
      · replace hf := (if_neg (show ¬ (¬ x23 = 0) from (fun z => z c25))).symm.trans hf
        refine w_aload_n dX8_makeName_158 rfl rfl ?_
        obtain ⟨a26, b27, hf⟩ := Option.bind_eq_some_iff.mp hf
        refine GX8_12 b27 dX8_makeName_159 rfl ?_
        refine w_iload_n dX8_makeName_162 rfl rfl ?_
        refine w_iconst dX8_makeName_163 (v := 1) (by decide) ?_
        refine w_bipush dX8_makeName_164 (v := 22) (by decide) ?_
        refine w_iconst dX8_makeName_166 (v := 0) (by decide) ?_
        obtain ⟨_, b28, hf⟩ := Option.bind_eq_some_iff.mp hf
        refine x_cnV hf (e_stV (Yc := YX9_mean) (ci := 8) (av := [.int x9, .int (1 : Int32), .int (22 : Int32), .int (0 : Int32)]) (st := []) dX8_makeName_167 q2011 mX9_mean rfl (k_ok_some b28).1 (k_ok_some b28).2) mX9_mean.2.2.1 mX9_mean.2.2.2.2.1 (Nat.le_of_ble_eq_true rfl) (Nat.le_of_ble_eq_true rfl) (fun q hq => pX9_mean (by omega) hq) (fun q29 hf => ?_)
        exact (pX8_makeName_b170 hd hdr hrE hf).to ⟨rfl, rfl, trivial⟩
    · replace hf := (if_neg (show ¬ (x1 ≤ l3) from c3)).symm.trans hf
      refine w_aload_n dX8_makeName_100 rfl rfl ?_
      obtain ⟨a30, b31, hf⟩ := Option.bind_eq_some_iff.mp hf
      refine GX8_68 b31 dX8_makeName_101 rfl ?_
      refine w_aload_n dX8_makeName_104 rfl rfl ?_
      obtain ⟨a32, b33, hf⟩ := Option.bind_eq_some_iff.mp hf
      refine GX8_41 b33 dX8_makeName_105 rfl ?_
      refine w_iload_n dX8_makeName_108 rfl rfl ?_
      obtain ⟨x34, b35, hf⟩ := Option.bind_eq_some_iff.mp hf
      refine x_rB b35 dX8_makeName_109 ?_
      obtain ⟨_, b36, hf⟩ := Option.bind_eq_some_iff.mp hf
      refine x_ctV hf (e_stV (Yc := YX10_add) (ci := 9) (av := [.int x34]) (st := []) dX8_makeName_110 q2573 mX10_add rfl (k_ok_some b36).1 (k_ok_some b36).2) mX10_add.2.2.1 mX10_add.2.2.2.2.1 (Nat.le_of_ble_eq_true rfl) (Nat.le_of_ble_eq_true rfl) rfl (fun q hq => pX10_add (by omega) hq) (fun x37 h38 hf => ?_)
      refine w_iinc dX8_makeName_113 (v := (l3 + (1 : Int32))) rfl rfl (by decide) (ls' := [some (.ref l0), some (.int l1), none, some (.int (l3 + (1 : Int32)))]) rfl ?_
      refine w_goto 92 dX8_makeName_116 (by decide) ?_
      exact (ih _ _ _ _ _ hf).to ⟨rfl, rfl, rfl, trivial⟩
def fX8_makeName_b10 (N : Nat) (rE : Nat → Int32 → eH → Option ((Unit ⊕ Nat) × eH)) : Nat → Nat → Int32 → Int32 → eH → Option ((Unit ⊕ Nat) × eH)
  | 0, _, _, _, _ => none
  | n + 1, l0, l1, l2, h =>
    (k_ok 7 h l0).bind fun _ =>
    (fX8_primitive l0 l2 h).bind fun q2 =>
    if q2.1 = (27 : Int32) then
      (g_A 7 q2.2 l0 3).bind fun a4 =>
      (k_ok 9 q2.2 a4).bind fun _ =>
      (fX10_open a4 q2.2).bind fun q7 =>
      fX8_makeName_b92 N rE N l0 l1 l1 q7.2
    else
      (g_A 7 q2.2 l0 0).bind fun a8 =>
      (fX1_isCharacter l2 q2.2).bind fun q10 =>
      (k_ok 3 q10.2 a8).bind fun _ =>
      t_B (fX4_want a8 q10.1 (6 : Int32) q10.2) fun x12 h13 =>
      (g_A 7 h13 l0 0).bind fun a14 =>
      (g_I 7 h13 l0 22).bind fun x16 =>
      if (l1 + (40 : Int32)) ≤ x16 then
        fX8_makeName_b53 N rE (fX8_makeName_b10 N rE n) l0 l1 l2 a14 (0 : Int32) h13
      else
        fX8_makeName_b53 N rE (fX8_makeName_b10 N rE n) l0 l1 l2 a14 (1 : Int32) h13
theorem pX8_makeName_b10 {w : eW} {d : Nat} {dr : Nat} (hd : dr + 15 ≤ d + 1) (hdr : 12 ≤ dr) {N : Nat} {rE : Nat → Int32 → eH → Option ((Unit ⊕ Nat) × eH)} (hrE : ∀ a t0 h q, rE a t0 h = some q → wm w dr YX8_expand [.ref a, .int t0] h (e_is (e_rt c_V q))) : ∀ (n : Nat) l0 l1 l2 h q, fX8_makeName_b10 N rE n l0 l1 l2 h = some q → wp w (d + 1) YX8_makeName 10 [some (.ref l0), some (.int l1), some (.int l2), none] [] h (e_is (e_rt c_V q)) := by
  intro n
  induction n with
  | zero => intro l0 l1 l2 h q hf; simp [fX8_makeName_b10] at hf
  | succ n ih =>
    intro l0 l1 l2 h q hf
    rw [fX8_makeName_b10] at hf
    refine w_aload_n dX8_makeName_10 rfl rfl ?_
    refine w_iload_n dX8_makeName_11 rfl rfl ?_
    obtain ⟨_, b1, hf⟩ := Option.bind_eq_some_iff.mp hf
    refine x_cnI hf (e_stV (Yc := YX8_primitive) (ci := 7) (av := [.int l2]) (st := []) dX8_makeName_12 q2568 mX8_primitive rfl (k_ok_some b1).1 (k_ok_some b1).2) mX8_primitive.2.2.1 mX8_primitive.2.2.2.2.1 (Nat.le_of_ble_eq_true rfl) (Nat.le_of_ble_eq_true rfl) (fun q hq => pX8_primitive (by omega) hq) (fun q2 hf => ?_)
    refine w_bipush dX8_makeName_15 (v := 27) (by decide) ?_
    refine w_icmp_eq 83 dX8_makeName_17 (by decide) (fun c3 => ?_) (fun c3 => ?_)
    · replace hf := (if_pos (show q2.1 = (27 : Int32) from c3)).symm.trans hf
      refine w_aload_n dX8_makeName_83 rfl rfl ?_
      obtain ⟨a4, b5, hf⟩ := Option.bind_eq_some_iff.mp hf
      refine GX8_68 b5 dX8_makeName_84 rfl ?_
      obtain ⟨_, b6, hf⟩ := Option.bind_eq_some_iff.mp hf
      refine x_cnV hf (e_stV (Yc := YX10_open) (ci := 9) (av := []) (st := []) dX8_makeName_87 q2572 mX10_open rfl (k_ok_some b6).1 (k_ok_some b6).2) mX10_open.2.2.1 mX10_open.2.2.2.2.1 (Nat.le_of_ble_eq_true rfl) (Nat.le_of_ble_eq_true rfl) (fun q hq => pX10_open (by omega) hq) (fun q7 hf => ?_)
      refine w_iload_n dX8_makeName_90 rfl rfl ?_
      refine w_istore_n dX8_makeName_91 rfl (by decide) (ls' := [some (.ref l0), some (.int l1), some (.int l2), some (.int l1)]) rfl ?_
      exact (pX8_makeName_b92 hd hdr hrE N _ _ _ _ _ hf).to ⟨rfl, rfl, rfl, trivial⟩
    · replace hf := (if_neg (show ¬ (q2.1 = (27 : Int32)) from c3)).symm.trans hf
      refine w_aload_n dX8_makeName_20 rfl rfl ?_
      obtain ⟨a8, b9, hf⟩ := Option.bind_eq_some_iff.mp hf
      refine GX8_51 b9 dX8_makeName_21 rfl ?_
      refine w_iload_n dX8_makeName_24 rfl rfl ?_
      refine x_cnI hf (e_stSN (Yc := YX1_isCharacter) (av := [.int l2]) (st := [.ref a8]) dX8_makeName_25 q2485 mX1_isCharacter) mX1_isCharacter.2.2.1 mX1_isCharacter.2.2.2.2.1 (Nat.le_of_ble_eq_true rfl) (Nat.le_of_ble_eq_true rfl) (fun q hq => pX1_isCharacter (by omega) hq) (fun q10 hf => ?_)
      refine w_bipush dX8_makeName_28 (v := 6) (by decide) ?_
      obtain ⟨_, b11, hf⟩ := Option.bind_eq_some_iff.mp hf
      refine x_ctV hf (e_stV (Yc := YX4_want) (ci := 3) (av := [.int q10.1, .int (6 : Int32)]) (st := []) dX8_makeName_30 q2500 mX4_want rfl (k_ok_some b11).1 (k_ok_some b11).2) mX4_want.2.2.1 mX4_want.2.2.2.2.1 (Nat.le_of_ble_eq_true rfl) (Nat.le_of_ble_eq_true rfl) rfl (fun q hq => pX4_want (by omega) hq) (fun x12 h13 hf => ?_)
      refine w_aload_n dX8_makeName_33 rfl rfl ?_
      obtain ⟨a14, b15, hf⟩ := Option.bind_eq_some_iff.mp hf
      refine GX8_51 b15 dX8_makeName_34 rfl ?_
      refine w_aload_n dX8_makeName_37 rfl rfl ?_
      obtain ⟨x16, b17, hf⟩ := Option.bind_eq_some_iff.mp hf
      refine GX8_131 b17 dX8_makeName_38 rfl ?_
      refine w_iload_n dX8_makeName_41 rfl rfl ?_
      refine w_bipush dX8_makeName_42 (v := 40) (by decide) ?_
      refine w_iadd dX8_makeName_44 ?_
      refine w_icmp_ge 52 dX8_makeName_45 (by decide) (fun c18 => ?_) (fun c18 => ?_)
      · replace hf := (if_pos (show (l1 + (40 : Int32)) ≤ x16 from c18)).symm.trans hf
        refine w_iconst dX8_makeName_52 (v := 0) (by decide) ?_
        exact (pX8_makeName_b53 hd hdr hrE ih hf).to ⟨rfl, rfl, rfl, trivial⟩
      · replace hf := (if_neg (show ¬ ((l1 + (40 : Int32)) ≤ x16) from c18)).symm.trans hf
        refine w_iconst dX8_makeName_48 (v := 1) (by decide) ?_
        refine w_goto 53 dX8_makeName_49 (by decide) ?_
        exact (pX8_makeName_b53 hd hdr hrE ih hf).to ⟨rfl, rfl, rfl, trivial⟩
def fX8_makeName (N : Nat) (rE : Nat → Int32 → eH → Option ((Unit ⊕ Nat) × eH)) (this : Nat) (h : eH) : Option ((Unit ⊕ Nat) × eH) :=
  (g_I 7 h this 22).bind fun x1 =>
  (k_ok 7 h this).bind fun _ =>
  t_B (fX8_needExpanded N rE this h) fun x4 h5 =>
  fX8_makeName_b10 N rE N this x1 x4 h5
theorem pX8_makeName {w : eW} {d : Nat} {dr : Nat} (hd : dr + 15 ≤ d) (hdr : 12 ≤ dr) {N : Nat} {rE : Nat → Int32 → eH → Option ((Unit ⊕ Nat) × eH)} (hrE : ∀ a t0 h q, rE a t0 h = some q → wm w dr YX8_expand [.ref a, .int t0] h (e_is (e_rt c_V q))) {this : Nat} {h : eH} {q} (hf : fX8_makeName N rE this h = some q) : wm w d YX8_makeName [.ref this] h (e_is (e_rt c_V q)) := by
  obtain ⟨d, rfl⟩ : ∃ e, d = e + 1 := ⟨d - 1, by omega⟩
  show wp w (d + 1) YX8_makeName 0 [some (.ref this), none, none, none] [] h _
  unfold fX8_makeName at hf
  refine w_aload_n dX8_makeName_0 rfl rfl ?_
  obtain ⟨x1, b2, hf⟩ := Option.bind_eq_some_iff.mp hf
  refine GX8_131 b2 dX8_makeName_1 rfl ?_
  refine w_istore_n dX8_makeName_4 rfl (by decide) (ls' := [some (.ref this), some (.int x1), none, none]) rfl ?_
  refine w_aload_n dX8_makeName_5 rfl rfl ?_
  obtain ⟨_, b3, hf⟩ := Option.bind_eq_some_iff.mp hf
  refine x_ctI hf (e_stV (Yc := YX8_needExpanded) (ci := 7) (av := []) (st := []) dX8_makeName_6 q2563 mX8_needExpanded rfl (k_ok_some b3).1 (k_ok_some b3).2) mX8_needExpanded.2.2.1 mX8_needExpanded.2.2.2.2.1 (Nat.le_of_ble_eq_true rfl) (Nat.le_of_ble_eq_true rfl) rfl (fun q hq => pX8_needExpanded (by omega) hdr hrE hq) (fun x4 h5 hf => ?_)
  refine w_istore_n dX8_makeName_9 rfl (by decide) (ls' := [some (.ref this), some (.int x1), some (.int x4), none]) rfl ?_
  exact (pX8_makeName_b10 hd hdr hrE N _ _ _ _ _ hf).to ⟨rfl, rfl, rfl, trivial⟩
abbrev cX13_putAll : ByteArray := prog_31_method_4_code
def yX13_putAll : MethodName := ⟨RX13, "putAll", "([II)V"⟩
def YX13_putAll : eY := (yX13_putAll, cX13_putAll, 4, none, [])
theorem mX13_putAll : e_mv YX13_putAll RX13 2 := ⟨q2587, q2588, q2589, by decide, by decide +kernel, (e_sig (by decide +kernel))⟩
theorem dX13_putAll_0 : decode cX13_putAll 0 = .ok (.iload_n 2, 1) := dc_28 (by decide +kernel)
theorem dX13_putAll_1 : decode cX13_putAll 1 = .ok (.iconst 1, 1) := dc_4 (by decide +kernel)
theorem dX13_putAll_2 : decode cX13_putAll 2 = .ok (.isub, 1) := dc_100 (by decide +kernel)
theorem dX13_putAll_3 : decode cX13_putAll 3 = .ok (.istore_n 3, 1) := dc_62 (by decide +kernel)
theorem dX13_putAll_4 : decode cX13_putAll 4 = .ok (.iload_n 3, 1) := dc_29 (by decide +kernel)
theorem dX13_putAll_5 : decode cX13_putAll 5 = .ok (.ifCond .lt 16, 3) := dc_155 (a := 0) (b := 16) (v := 16) (by decide +kernel)
theorem dX13_putAll_8 : decode cX13_putAll 8 = .ok (.aload_n 0, 1) := dc_42 (by decide +kernel)
theorem dX13_putAll_9 : decode cX13_putAll 9 = .ok (.aload_n 1, 1) := dc_43 (by decide +kernel)
theorem dX13_putAll_10 : decode cX13_putAll 10 = .ok (.iload_n 3, 1) := dc_29 (by decide +kernel)
theorem dX13_putAll_11 : decode cX13_putAll 11 = .ok (.iaload, 1) := dc_46 (by decide +kernel)
theorem dX13_putAll_12 : decode cX13_putAll 12 = .ok (.invokevirtual 31, 3) := dc_182 (a := 0) (b := 31) (n := 31) (by decide +kernel)
theorem dX13_putAll_15 : decode cX13_putAll 15 = .ok (.iinc 3 (-1), 3) := dc_132 (a := 3) (b := 255) (v := -1) (by decide +kernel)
theorem dX13_putAll_18 : decode cX13_putAll 18 = .ok (.goto (-14), 3) := dc_167 (a := 255) (b := 242) (v := -14) (by decide +kernel)
theorem dX13_putAll_21 : decode cX13_putAll 21 = .ok (.return_, 1) := dc_177 (by decide +kernel)
def fX13_putAll_b4 (N : Nat) : Nat → Nat → Nat → Int32 → eH → Option (Unit × eH)
  | 0, _, _, _, _ => none
  | n + 1, l0, l1, l3, h =>
    if l3 < 0 then
      some ((), h)
    else
      (r_I 100 h l1 l3).bind fun x2 =>
      (k_ok 12 h l0).bind fun _ =>
      (fX13_put l0 x2 h).bind fun q5 =>
      fX13_putAll_b4 N n l0 l1 (l3 + (-1 : Int32)) q5.2
theorem pX13_putAll_b4 {w : eW} {d : Nat} (hd : 3 ≤ d + 1) {N : Nat} : ∀ (n : Nat) l0 l1 l3 h q, fX13_putAll_b4 N n l0 l1 l3 h = some q → wp w (d + 1) YX13_putAll 4 [some (.ref l0), some (.ref l1), none, some (.int l3)] [] h (e_is (e_rn c_V q)) := by
  intro n
  induction n with
  | zero => intro l0 l1 l3 h q hf; simp [fX13_putAll_b4] at hf
  | succ n ih =>
    intro l0 l1 l3 h q hf
    rw [fX13_putAll_b4] at hf
    refine w_iload_n dX13_putAll_4 rfl rfl ?_
    refine w_if_lt 21 dX13_putAll_5 (by decide) (fun c1 => ?_) (fun c1 => ?_)
    · replace hf := (if_pos (show l3 < 0 from c1)).symm.trans hf
      cases hf
      exact w_vret dX13_putAll_21 rfl rfl
    · replace hf := (if_neg (show ¬ (l3 < 0) from c1)).symm.trans hf
      refine w_aload_n dX13_putAll_8 rfl rfl ?_
      refine w_aload_n dX13_putAll_9 rfl rfl ?_
      refine w_iload_n dX13_putAll_10 rfl rfl ?_
      obtain ⟨x2, b3, hf⟩ := Option.bind_eq_some_iff.mp hf
      refine x_rI b3 dX13_putAll_11 ?_
      obtain ⟨_, b4, hf⟩ := Option.bind_eq_some_iff.mp hf
      refine x_cnV hf (e_stV (Yc := YX13_put) (ci := 12) (av := [.int x2]) (st := []) dX13_putAll_12 q2549 mX13_put rfl (k_ok_some b4).1 (k_ok_some b4).2) mX13_put.2.2.1 mX13_put.2.2.2.2.1 (Nat.le_of_ble_eq_true rfl) (Nat.le_of_ble_eq_true rfl) (fun q hq => pX13_put (by omega) hq) (fun q5 hf => ?_)
      refine w_iinc dX13_putAll_15 (v := (l3 + (-1 : Int32))) rfl rfl (by decide) (ls' := [some (.ref l0), some (.ref l1), none, some (.int (l3 + (-1 : Int32)))]) rfl ?_
      refine w_goto 4 dX13_putAll_18 (by decide) ?_
      exact (ih _ _ _ _ _ hf).to ⟨rfl, rfl, rfl, trivial⟩
def fX13_putAll (N : Nat) (this : Nat) (p0 : Nat) (p1 : Int32) (h : eH) : Option (Unit × eH) :=
  fX13_putAll_b4 N N this p0 (p1 - (1 : Int32)) h
theorem pX13_putAll {w : eW} {d : Nat} (hd : 3 ≤ d) {N : Nat} {this : Nat} {p0 : Nat} {p1 : Int32} {h : eH} {q} (hf : fX13_putAll N this p0 p1 h = some q) : wm w d YX13_putAll [.ref this, .ref p0, .int p1] h (e_is (e_rn c_V q)) := by
  obtain ⟨d, rfl⟩ : ∃ e, d = e + 1 := ⟨d - 1, by omega⟩
  show wp w (d + 1) YX13_putAll 0 [some (.ref this), some (.ref p0), some (.int p1), none] [] h _
  unfold fX13_putAll at hf
  refine w_iload_n dX13_putAll_0 rfl rfl ?_
  refine w_iconst dX13_putAll_1 (v := 1) (by decide) ?_
  refine w_isub dX13_putAll_2 ?_
  refine w_istore_n dX13_putAll_3 rfl (by decide) (ls' := [some (.ref this), some (.ref p0), some (.int p1), some (.int (p1 - (1 : Int32)))]) rfl ?_
  exact (pX13_putAll_b4 hd N _ _ _ _ _ hf).to ⟨rfl, rfl, rfl, trivial⟩
abbrev cX8_spell : ByteArray := prog_4_method_19_code
def yX8_spell : MethodName := ⟨RX8, "spell", "(I)V"⟩
def YX8_spell : eY := (yX8_spell, cX8_spell, 5, none, [])
theorem mX8_spell : e_mv YX8_spell RX8 1 := ⟨q2577, qs63, q2578, by decide, by decide +kernel, (e_sig (by decide +kernel))⟩
theorem dX8_spell_0 : decode cX8_spell 0 = .ok (.iconst 0, 1) := dc_3 (by decide +kernel)
theorem dX8_spell_1 : decode cX8_spell 1 = .ok (.istore_n 2, 1) := dc_61 (by decide +kernel)
theorem dX8_spell_2 : decode cX8_spell 2 = .ok (.iload_n 1, 1) := dc_27 (by decide +kernel)
theorem dX8_spell_3 : decode cX8_spell 3 = .ok (.invokestatic 165, 3) := dc_184 (a := 0) (b := 165) (n := 165) (by decide +kernel)
theorem dX8_spell_6 : decode cX8_spell 6 = .ok (.ifCond .eq 23, 3) := dc_153 (a := 0) (b := 23) (v := 23) (by decide +kernel)
theorem dX8_spell_9 : decode cX8_spell 9 = .ok (.aload_n 0, 1) := dc_42 (by decide +kernel)
theorem dX8_spell_10 : decode cX8_spell 10 = .ok (.getfield 35, 3) := dc_180 (a := 0) (b := 35) (n := 35) (by decide +kernel)
theorem dX8_spell_13 : decode cX8_spell 13 = .ok (.iload_n 2, 1) := dc_28 (by decide +kernel)
theorem dX8_spell_14 : decode cX8_spell 14 = .ok (.iinc 2 1, 3) := dc_132 (a := 2) (b := 1) (v := 1) (by decide +kernel)
theorem dX8_spell_17 : decode cX8_spell 17 = .ok (.iload_n 1, 1) := dc_27 (by decide +kernel)
theorem dX8_spell_18 : decode cX8_spell 18 = .ok (.sipush 255, 3) := dc_17 (a := 0) (b := 255) (v := 255) (by decide +kernel)
theorem dX8_spell_21 : decode cX8_spell 21 = .ok (.iand, 1) := dc_126 (by decide +kernel)
theorem dX8_spell_22 : decode cX8_spell 22 = .ok (.invokestatic 255, 3) := dc_184 (a := 0) (b := 255) (n := 255) (by decide +kernel)
theorem dX8_spell_25 : decode cX8_spell 25 = .ok (.iastore, 1) := dc_79 (by decide +kernel)
theorem dX8_spell_26 : decode cX8_spell 26 = .ok (.goto 95, 3) := dc_167 (a := 0) (b := 95) (v := 95) (by decide +kernel)
theorem dX8_spell_29 : decode cX8_spell 29 = .ok (.iload_n 1, 1) := dc_27 (by decide +kernel)
theorem dX8_spell_30 : decode cX8_spell 30 = .ok (.sipush 4352, 3) := dc_17 (a := 17) (b := 0) (v := 4352) (by decide +kernel)
theorem dX8_spell_33 : decode cX8_spell 33 = .ok (.if_icmp .ge 23, 3) := dc_162 (a := 0) (b := 23) (v := 23) (by decide +kernel)
theorem dX8_spell_36 : decode cX8_spell 36 = .ok (.aload_n 0, 1) := dc_42 (by decide +kernel)
theorem dX8_spell_37 : decode cX8_spell 37 = .ok (.getfield 35, 3) := dc_180 (a := 0) (b := 35) (n := 35) (by decide +kernel)
theorem dX8_spell_40 : decode cX8_spell 40 = .ok (.iload_n 2, 1) := dc_28 (by decide +kernel)
theorem dX8_spell_41 : decode cX8_spell 41 = .ok (.iinc 2 1, 3) := dc_132 (a := 2) (b := 1) (v := 1) (by decide +kernel)
theorem dX8_spell_44 : decode cX8_spell 44 = .ok (.iload_n 1, 1) := dc_27 (by decide +kernel)
theorem dX8_spell_45 : decode cX8_spell 45 = .ok (.sipush 4096, 3) := dc_17 (a := 16) (b := 0) (v := 4096) (by decide +kernel)
theorem dX8_spell_48 : decode cX8_spell 48 = .ok (.isub, 1) := dc_100 (by decide +kernel)
theorem dX8_spell_49 : decode cX8_spell 49 = .ok (.invokestatic 255, 3) := dc_184 (a := 0) (b := 255) (n := 255) (by decide +kernel)
theorem dX8_spell_52 : decode cX8_spell 52 = .ok (.iastore, 1) := dc_79 (by decide +kernel)
theorem dX8_spell_53 : decode cX8_spell 53 = .ok (.goto 68, 3) := dc_167 (a := 0) (b := 68) (v := 68) (by decide +kernel)
theorem dX8_spell_56 : decode cX8_spell 56 = .ok (.aload_n 0, 1) := dc_42 (by decide +kernel)
theorem dX8_spell_57 : decode cX8_spell 57 = .ok (.getfield 35, 3) := dc_180 (a := 0) (b := 35) (n := 35) (by decide +kernel)
theorem dX8_spell_60 : decode cX8_spell 60 = .ok (.iload_n 2, 1) := dc_28 (by decide +kernel)
theorem dX8_spell_61 : decode cX8_spell 61 = .ok (.iinc 2 1, 3) := dc_132 (a := 2) (b := 1) (v := 1) (by decide +kernel)
theorem dX8_spell_64 : decode cX8_spell 64 = .ok (.bipush 92, 2) := dc_16 (a := 92) (v := 92) (by decide +kernel)
theorem dX8_spell_66 : decode cX8_spell 66 = .ok (.invokestatic 255, 3) := dc_184 (a := 0) (b := 255) (n := 255) (by decide +kernel)
theorem dX8_spell_69 : decode cX8_spell 69 = .ok (.iastore, 1) := dc_79 (by decide +kernel)
theorem dX8_spell_70 : decode cX8_spell 70 = .ok (.iload_n 1, 1) := dc_27 (by decide +kernel)
theorem dX8_spell_71 : decode cX8_spell 71 = .ok (.sipush 4096, 3) := dc_17 (a := 16) (b := 0) (v := 4096) (by decide +kernel)
theorem dX8_spell_74 : decode cX8_spell 74 = .ok (.isub, 1) := dc_100 (by decide +kernel)
theorem dX8_spell_75 : decode cX8_spell 75 = .ok (.istore_n 3, 1) := dc_62 (by decide +kernel)
theorem dX8_spell_76 : decode cX8_spell 76 = .ok (.iconst 0, 1) := dc_3 (by decide +kernel)
theorem dX8_spell_77 : decode cX8_spell 77 = .ok (.istore 4, 2) := dc_54 (a := 4) (by decide +kernel)
theorem dX8_spell_79 : decode cX8_spell 79 = .ok (.iload 4, 2) := dc_21 (a := 4) (by decide +kernel)
theorem dX8_spell_81 : decode cX8_spell 81 = .ok (.aload_n 0, 1) := dc_42 (by decide +kernel)
theorem dX8_spell_82 : decode cX8_spell 82 = .ok (.getfield 68, 3) := dc_180 (a := 0) (b := 68) (n := 68) (by decide +kernel)
theorem dX8_spell_85 : decode cX8_spell 85 = .ok (.getfield 258, 3) := dc_180 (a := 1) (b := 2) (n := 258) (by decide +kernel)
theorem dX8_spell_88 : decode cX8_spell 88 = .ok (.iload_n 3, 1) := dc_29 (by decide +kernel)
theorem dX8_spell_89 : decode cX8_spell 89 = .ok (.iaload, 1) := dc_46 (by decide +kernel)
theorem dX8_spell_90 : decode cX8_spell 90 = .ok (.if_icmp .ge 31, 3) := dc_162 (a := 0) (b := 31) (v := 31) (by decide +kernel)
theorem dX8_spell_93 : decode cX8_spell 93 = .ok (.aload_n 0, 1) := dc_42 (by decide +kernel)
theorem dX8_spell_94 : decode cX8_spell 94 = .ok (.getfield 35, 3) := dc_180 (a := 0) (b := 35) (n := 35) (by decide +kernel)
theorem dX8_spell_97 : decode cX8_spell 97 = .ok (.iload_n 2, 1) := dc_28 (by decide +kernel)
theorem dX8_spell_98 : decode cX8_spell 98 = .ok (.iinc 2 1, 3) := dc_132 (a := 2) (b := 1) (v := 1) (by decide +kernel)
theorem dX8_spell_101 : decode cX8_spell 101 = .ok (.aload_n 0, 1) := dc_42 (by decide +kernel)
theorem dX8_spell_102 : decode cX8_spell 102 = .ok (.getfield 68, 3) := dc_180 (a := 0) (b := 68) (n := 68) (by decide +kernel)
theorem dX8_spell_105 : decode cX8_spell 105 = .ok (.iload_n 3, 1) := dc_29 (by decide +kernel)
theorem dX8_spell_106 : decode cX8_spell 106 = .ok (.iload 4, 2) := dc_21 (a := 4) (by decide +kernel)
theorem dX8_spell_108 : decode cX8_spell 108 = .ok (.invokevirtual 261, 3) := dc_182 (a := 1) (b := 5) (n := 261) (by decide +kernel)
theorem dX8_spell_111 : decode cX8_spell 111 = .ok (.invokestatic 255, 3) := dc_184 (a := 0) (b := 255) (n := 255) (by decide +kernel)
theorem dX8_spell_114 : decode cX8_spell 114 = .ok (.iastore, 1) := dc_79 (by decide +kernel)
theorem dX8_spell_115 : decode cX8_spell 115 = .ok (.iinc 4 1, 3) := dc_132 (a := 4) (b := 1) (v := 1) (by decide +kernel)
theorem dX8_spell_118 : decode cX8_spell 118 = .ok (.goto (-39), 3) := dc_167 (a := 255) (b := 217) (v := -39) (by decide +kernel)
theorem dX8_spell_121 : decode cX8_spell 121 = .ok (.aload_n 0, 1) := dc_42 (by decide +kernel)
theorem dX8_spell_122 : decode cX8_spell 122 = .ok (.getfield 93, 3) := dc_180 (a := 0) (b := 93) (n := 93) (by decide +kernel)
theorem dX8_spell_125 : decode cX8_spell 125 = .ok (.aload_n 0, 1) := dc_42 (by decide +kernel)
theorem dX8_spell_126 : decode cX8_spell 126 = .ok (.getfield 35, 3) := dc_180 (a := 0) (b := 35) (n := 35) (by decide +kernel)
theorem dX8_spell_129 : decode cX8_spell 129 = .ok (.iload_n 2, 1) := dc_28 (by decide +kernel)
theorem dX8_spell_130 : decode cX8_spell 130 = .ok (.invokevirtual 265, 3) := dc_182 (a := 1) (b := 9) (n := 265) (by decide +kernel)
theorem dX8_spell_133 : decode cX8_spell 133 = .ok (.return_, 1) := dc_177 (by decide +kernel)
theorem GX8_35 {w : eW} {d : Nat} {Y : eY} {pc : Nat} {ls : eL} {st : List Value} {h : eH} {Q : eO → eH → Prop} {a : Nat} {x : Nat} (hf : g_A 7 h a 19 = some x) (hd : decode Y.2.1 pc = .ok (.getfield 35, 3)) (hY : Y.1.cls = RX8) (kk : wp w d Y (pc + 3) ls (.ref x :: st) h Q) : wp w d Y pc ls (.ref a :: st) h Q := x_gA (ci := 7) (k := 19) hf hd rfl (by decide) (by rw [hY]; exact q857) kk
def fX8_spell_b121 (N : Nat) (l0 : Nat) (l2 : Int32) (h : eH) : Option (Unit × eH) :=
  (g_A 7 h l0 7).bind fun a1 =>
  (g_A 7 h l0 19).bind fun a3 =>
  (k_ok 12 h a1).bind fun _ =>
  (fX13_putAll N a1 a3 l2 h).bind fun q6 =>
  some ((), q6.2)
theorem pX8_spell_b121 {w : eW} {d : Nat} (hd : 4 ≤ d + 1) {N : Nat} {l0 : Nat} {l2 : Int32} {h : eH} {q} (hf : fX8_spell_b121 N l0 l2 h = some q) : wp w (d + 1) YX8_spell 121 [some (.ref l0), none, some (.int l2), none, none] [] h (e_is (e_rn c_V q)) := by
  unfold fX8_spell_b121 at hf
  refine w_aload_n dX8_spell_121 rfl rfl ?_
  obtain ⟨a1, b2, hf⟩ := Option.bind_eq_some_iff.mp hf
  refine GX8_93 b2 dX8_spell_122 rfl ?_
  refine w_aload_n dX8_spell_125 rfl rfl ?_
  obtain ⟨a3, b4, hf⟩ := Option.bind_eq_some_iff.mp hf
  refine GX8_35 b4 dX8_spell_126 rfl ?_
  refine w_iload_n dX8_spell_129 rfl rfl ?_
  obtain ⟨_, b5, hf⟩ := Option.bind_eq_some_iff.mp hf
  refine x_cnV hf (e_stV (Yc := YX13_putAll) (ci := 12) (av := [.ref a3, .int l2]) (st := []) dX8_spell_130 q2586 mX13_putAll rfl (k_ok_some b5).1 (k_ok_some b5).2) mX13_putAll.2.2.1 mX13_putAll.2.2.2.2.1 (Nat.le_of_ble_eq_true rfl) (Nat.le_of_ble_eq_true rfl) (fun q hq => pX13_putAll (by omega) hq) (fun q6 hf => ?_)
  cases hf
  exact w_vret dX8_spell_133 rfl rfl
def fX8_spell_b79 (N : Nat) : Nat → Nat → Int32 → Int32 → Int32 → eH → Option (Unit × eH)
  | 0, _, _, _, _, _ => none
  | n + 1, l0, l2, l3, l4, h =>
    (g_A 7 h l0 3).bind fun a1 =>
    (g_A 9 h a1 3).bind fun a3 =>
    (r_I 100 h a3 l3).bind fun x5 =>
    if x5 ≤ l4 then
      fX8_spell_b121 N l0 l2 h
    else
      (g_A 7 h l0 19).bind fun a8 =>
      (g_A 7 h l0 3).bind fun a10 =>
      (k_ok 9 h a10).bind fun _ =>
      (fX10_letter a10 l3 l4 h).bind fun q13 =>
      (fX1_other q13.1 q13.2).bind fun q14 =>
      (q_V 100 q14.2 a8 l2 (.int q14.1)).bind fun h15 =>
      fX8_spell_b79 N n l0 (l2 + (1 : Int32)) l3 (l4 + (1 : Int32)) h15
theorem pX8_spell_b79 {w : eW} {d : Nat} (hd : 4 ≤ d + 1) {N : Nat} : ∀ (n : Nat) l0 l2 l3 l4 h q, fX8_spell_b79 N n l0 l2 l3 l4 h = some q → wp w (d + 1) YX8_spell 79 [some (.ref l0), none, some (.int l2), some (.int l3), some (.int l4)] [] h (e_is (e_rn c_V q)) := by
  intro n
  induction n with
  | zero => intro l0 l2 l3 l4 h q hf; simp [fX8_spell_b79] at hf
  | succ n ih =>
    intro l0 l2 l3 l4 h q hf
    rw [fX8_spell_b79] at hf
    refine w_iload dX8_spell_79 rfl ?_
    refine w_aload_n dX8_spell_81 rfl rfl ?_
    obtain ⟨a1, b2, hf⟩ := Option.bind_eq_some_iff.mp hf
    refine GX8_68 b2 dX8_spell_82 rfl ?_
    obtain ⟨a3, b4, hf⟩ := Option.bind_eq_some_iff.mp hf
    refine GX8_258 b4 dX8_spell_85 rfl ?_
    refine w_iload_n dX8_spell_88 rfl rfl ?_
    obtain ⟨x5, b6, hf⟩ := Option.bind_eq_some_iff.mp hf
    refine x_rI b6 dX8_spell_89 ?_
    refine w_icmp_ge 121 dX8_spell_90 (by decide) (fun c7 => ?_) (fun c7 => ?_)
    · replace hf := (if_pos (show x5 ≤ l4 from c7)).symm.trans hf
      exact (pX8_spell_b121 hd hf).to ⟨rfl, rfl, trivial⟩
    · replace hf := (if_neg (show ¬ (x5 ≤ l4) from c7)).symm.trans hf
      refine w_aload_n dX8_spell_93 rfl rfl ?_
      obtain ⟨a8, b9, hf⟩ := Option.bind_eq_some_iff.mp hf
      refine GX8_35 b9 dX8_spell_94 rfl ?_
      refine w_iload_n dX8_spell_97 rfl rfl ?_
      refine w_iinc dX8_spell_98 (v := (l2 + (1 : Int32))) rfl rfl (by decide) (ls' := [some (.ref l0), none, some (.int (l2 + (1 : Int32))), some (.int l3), some (.int l4)]) rfl ?_
      refine w_aload_n dX8_spell_101 rfl rfl ?_
      obtain ⟨a10, b11, hf⟩ := Option.bind_eq_some_iff.mp hf
      refine GX8_68 b11 dX8_spell_102 rfl ?_
      refine w_iload_n dX8_spell_105 rfl rfl ?_
      refine w_iload dX8_spell_106 rfl ?_
      obtain ⟨_, b12, hf⟩ := Option.bind_eq_some_iff.mp hf
      refine x_cnI hf (e_stV (Yc := YX10_letter) (ci := 9) (av := [.int l3, .int l4]) (st := [.int l2, .ref a8]) dX8_spell_108 q2582 mX10_letter rfl (k_ok_some b12).1 (k_ok_some b12).2) mX10_letter.2.2.1 mX10_letter.2.2.2.2.1 (Nat.le_of_ble_eq_true rfl) (Nat.le_of_ble_eq_true rfl) (fun q hq => pX10_letter (by omega) hq) (fun q13 hf => ?_)
      refine x_cnI hf (e_stSN (Yc := YX1_other) (av := [.int q13.1]) (st := [.int l2, .ref a8]) dX8_spell_111 q2579 mX1_other) mX1_other.2.2.1 mX1_other.2.2.2.2.1 (Nat.le_of_ble_eq_true rfl) (Nat.le_of_ble_eq_true rfl) (fun q hq => pX1_other (by omega) hq) (fun q14 hf => ?_)
      obtain ⟨h15, b16, hf⟩ := Option.bind_eq_some_iff.mp hf
      refine x_qI b16 dX8_spell_114 ?_
      refine w_iinc dX8_spell_115 (v := (l4 + (1 : Int32))) rfl rfl (by decide) (ls' := [some (.ref l0), none, some (.int (l2 + (1 : Int32))), some (.int l3), some (.int (l4 + (1 : Int32)))]) rfl ?_
      refine w_goto 79 dX8_spell_118 (by decide) ?_
      exact (ih _ _ _ _ _ _ hf).to ⟨rfl, rfl, rfl, rfl, trivial⟩
def fX8_spell (N : Nat) (this : Nat) (p0 : Int32) (h : eH) : Option (Unit × eH) :=
  (fX1_isCharacter p0 h).bind fun q1 =>
  if q1.1 = 0 then
    if (4352 : Int32) ≤ p0 then
      (g_A 7 q1.2 this 19).bind fun a4 =>
      (fX1_other (92 : Int32) q1.2).bind fun q6 =>
      (q_V 100 q6.2 a4 (0 : Int32) (.int q6.1)).bind fun h7 =>
      fX8_spell_b79 N N this ((0 : Int32) + (1 : Int32)) (p0 - (4096 : Int32)) (0 : Int32) h7
    else
      (g_A 7 q1.2 this 19).bind fun a9 =>
      (fX1_other (p0 - (4096 : Int32)) q1.2).bind fun q11 =>
      (q_V 100 q11.2 a9 (0 : Int32) (.int q11.1)).bind fun h12 =>
      fX8_spell_b121 N this ((0 : Int32) + (1 : Int32)) h12
  else
    (g_A 7 q1.2 this 19).bind fun a14 =>
    (fX1_other (p0 &&& (255 : Int32)) q1.2).bind fun q16 =>
    (q_V 100 q16.2 a14 (0 : Int32) (.int q16.1)).bind fun h17 =>
    fX8_spell_b121 N this ((0 : Int32) + (1 : Int32)) h17
theorem pX8_spell {w : eW} {d : Nat} (hd : 4 ≤ d) {N : Nat} {this : Nat} {p0 : Int32} {h : eH} {q} (hf : fX8_spell N this p0 h = some q) : wm w d YX8_spell [.ref this, .int p0] h (e_is (e_rn c_V q)) := by
  obtain ⟨d, rfl⟩ : ∃ e, d = e + 1 := ⟨d - 1, by omega⟩
  show wp w (d + 1) YX8_spell 0 [some (.ref this), some (.int p0), none, none, none] [] h _
  unfold fX8_spell at hf
  refine w_iconst dX8_spell_0 (v := 0) (by decide) ?_
  refine w_istore_n dX8_spell_1 rfl (by decide) (ls' := [some (.ref this), some (.int p0), some (.int (0 : Int32)), none, none]) rfl ?_
  refine w_iload_n dX8_spell_2 rfl rfl ?_
  refine x_cnI hf (e_stSN (Yc := YX1_isCharacter) (av := [.int p0]) (st := []) dX8_spell_3 q2485 mX1_isCharacter) mX1_isCharacter.2.2.1 mX1_isCharacter.2.2.2.2.1 (Nat.le_of_ble_eq_true rfl) (Nat.le_of_ble_eq_true rfl) (fun q hq => pX1_isCharacter (by omega) hq) (fun q1 hf => ?_)
  refine w_if_eq 29 dX8_spell_6 (by decide) (fun c2 => ?_) (fun c2 => ?_)
  · replace hf := (if_pos (show q1.1 = 0 from c2)).symm.trans hf
    refine w_iload_n dX8_spell_29 rfl rfl ?_
    refine w_sipush dX8_spell_30 (v := 4352) (by decide) ?_
    refine w_icmp_ge 56 dX8_spell_33 (by decide) (fun c3 => ?_) (fun c3 => ?_)
    · replace hf := (if_pos (show (4352 : Int32) ≤ p0 from c3)).symm.trans hf
      refine w_aload_n dX8_spell_56 rfl rfl ?_
      obtain ⟨a4, b5, hf⟩ := Option.bind_eq_some_iff.mp hf
      refine GX8_35 b5 dX8_spell_57 rfl ?_
      refine w_iload_n dX8_spell_60 rfl rfl ?_
      refine w_iinc dX8_spell_61 (v := ((0 : Int32) + (1 : Int32))) rfl rfl (by decide) (ls' := [some (.ref this), some (.int p0), some (.int ((0 : Int32) + (1 : Int32))), none, none]) rfl ?_
      refine w_bipush dX8_spell_64 (v := 92) (by decide) ?_
      refine x_cnI hf (e_stSN (Yc := YX1_other) (av := [.int (92 : Int32)]) (st := [.int (0 : Int32), .ref a4]) dX8_spell_66 q2579 mX1_other) mX1_other.2.2.1 mX1_other.2.2.2.2.1 (Nat.le_of_ble_eq_true rfl) (Nat.le_of_ble_eq_true rfl) (fun q hq => pX1_other (by omega) hq) (fun q6 hf => ?_)
      obtain ⟨h7, b8, hf⟩ := Option.bind_eq_some_iff.mp hf
      refine x_qI b8 dX8_spell_69 ?_
      refine w_iload_n dX8_spell_70 rfl rfl ?_
      refine w_sipush dX8_spell_71 (v := 4096) (by decide) ?_
      refine w_isub dX8_spell_74 ?_
      refine w_istore_n dX8_spell_75 rfl (by decide) (ls' := [some (.ref this), some (.int p0), some (.int ((0 : Int32) + (1 : Int32))), some (.int (p0 - (4096 : Int32))), none]) rfl ?_
      refine w_iconst dX8_spell_76 (v := 0) (by decide) ?_
      refine w_istore dX8_spell_77 (by decide) (ls' := [some (.ref this), some (.int p0), some (.int ((0 : Int32) + (1 : Int32))), some (.int (p0 - (4096 : Int32))), some (.int (0 : Int32))]) rfl ?_
      exact (pX8_spell_b79 hd N _ _ _ _ _ _ hf).to ⟨rfl, rfl, rfl, rfl, trivial⟩
    · replace hf := (if_neg (show ¬ ((4352 : Int32) ≤ p0) from c3)).symm.trans hf
      refine w_aload_n dX8_spell_36 rfl rfl ?_
      obtain ⟨a9, b10, hf⟩ := Option.bind_eq_some_iff.mp hf
      refine GX8_35 b10 dX8_spell_37 rfl ?_
      refine w_iload_n dX8_spell_40 rfl rfl ?_
      refine w_iinc dX8_spell_41 (v := ((0 : Int32) + (1 : Int32))) rfl rfl (by decide) (ls' := [some (.ref this), some (.int p0), some (.int ((0 : Int32) + (1 : Int32))), none, none]) rfl ?_
      refine w_iload_n dX8_spell_44 rfl rfl ?_
      refine w_sipush dX8_spell_45 (v := 4096) (by decide) ?_
      refine w_isub dX8_spell_48 ?_
      refine x_cnI hf (e_stSN (Yc := YX1_other) (av := [.int (p0 - (4096 : Int32))]) (st := [.int (0 : Int32), .ref a9]) dX8_spell_49 q2579 mX1_other) mX1_other.2.2.1 mX1_other.2.2.2.2.1 (Nat.le_of_ble_eq_true rfl) (Nat.le_of_ble_eq_true rfl) (fun q hq => pX1_other (by omega) hq) (fun q11 hf => ?_)
      obtain ⟨h12, b13, hf⟩ := Option.bind_eq_some_iff.mp hf
      refine x_qI b13 dX8_spell_52 ?_
      refine w_goto 121 dX8_spell_53 (by decide) ?_
      exact (pX8_spell_b121 hd hf).to ⟨rfl, rfl, trivial⟩
  · replace hf := (if_neg (show ¬ (q1.1 = 0) from c2)).symm.trans hf
    refine w_aload_n dX8_spell_9 rfl rfl ?_
    obtain ⟨a14, b15, hf⟩ := Option.bind_eq_some_iff.mp hf
    refine GX8_35 b15 dX8_spell_10 rfl ?_
    refine w_iload_n dX8_spell_13 rfl rfl ?_
    refine w_iinc dX8_spell_14 (v := ((0 : Int32) + (1 : Int32))) rfl rfl (by decide) (ls' := [some (.ref this), some (.int p0), some (.int ((0 : Int32) + (1 : Int32))), none, none]) rfl ?_
    refine w_iload_n dX8_spell_17 rfl rfl ?_
    refine w_sipush dX8_spell_18 (v := 255) (by decide) ?_
    refine w_iand dX8_spell_21 ?_
    refine x_cnI hf (e_stSN (Yc := YX1_other) (av := [.int (p0 &&& (255 : Int32))]) (st := [.int (0 : Int32), .ref a14]) dX8_spell_22 q2579 mX1_other) mX1_other.2.2.1 mX1_other.2.2.2.2.1 (Nat.le_of_ble_eq_true rfl) (Nat.le_of_ble_eq_true rfl) (fun q hq => pX1_other (by omega) hq) (fun q16 hf => ?_)
    obtain ⟨h17, b18, hf⟩ := Option.bind_eq_some_iff.mp hf
    refine x_qI b18 dX8_spell_25 ?_
    refine w_goto 121 dX8_spell_26 (by decide) ?_
    exact (pX8_spell_b121 hd hf).to ⟨rfl, rfl, trivial⟩
abbrev cX8_tellNumber : ByteArray := prog_4_method_21_code
def yX8_tellNumber : MethodName := ⟨RX8, "tellNumber", "(I)V"⟩
def YX8_tellNumber : eY := (yX8_tellNumber, cX8_tellNumber, 7, none, [])
theorem mX8_tellNumber : e_mv YX8_tellNumber RX8 1 := ⟨q2652, qs75, q2653, by decide, by decide +kernel, (e_sig (by decide +kernel))⟩
theorem dX8_tellNumber_0 : decode cX8_tellNumber 0 = .ok (.iconst 0, 1) := dc_3 (by decide +kernel)
theorem dX8_tellNumber_1 : decode cX8_tellNumber 1 = .ok (.istore_n 2, 1) := dc_61 (by decide +kernel)
theorem dX8_tellNumber_2 : decode cX8_tellNumber 2 = .ok (.iload_n 1, 1) := dc_27 (by decide +kernel)
theorem dX8_tellNumber_3 : decode cX8_tellNumber 3 = .ok (.ifCond .ge 17, 3) := dc_156 (a := 0) (b := 17) (v := 17) (by decide +kernel)
theorem dX8_tellNumber_6 : decode cX8_tellNumber 6 = .ok (.aload_n 0, 1) := dc_42 (by decide +kernel)
theorem dX8_tellNumber_7 : decode cX8_tellNumber 7 = .ok (.getfield 35, 3) := dc_180 (a := 0) (b := 35) (n := 35) (by decide +kernel)
theorem dX8_tellNumber_10 : decode cX8_tellNumber 10 = .ok (.iload_n 2, 1) := dc_28 (by decide +kernel)
theorem dX8_tellNumber_11 : decode cX8_tellNumber 11 = .ok (.iinc 2 1, 3) := dc_132 (a := 2) (b := 1) (v := 1) (by decide +kernel)
theorem dX8_tellNumber_14 : decode cX8_tellNumber 14 = .ok (.bipush 45, 2) := dc_16 (a := 45) (v := 45) (by decide +kernel)
theorem dX8_tellNumber_16 : decode cX8_tellNumber 16 = .ok (.invokestatic 255, 3) := dc_184 (a := 0) (b := 255) (n := 255) (by decide +kernel)
theorem dX8_tellNumber_19 : decode cX8_tellNumber 19 = .ok (.iastore, 1) := dc_79 (by decide +kernel)
theorem dX8_tellNumber_20 : decode cX8_tellNumber 20 = .ok (.iload_n 1, 1) := dc_27 (by decide +kernel)
theorem dX8_tellNumber_21 : decode cX8_tellNumber 21 = .ok (.ifCond .ge 9, 3) := dc_156 (a := 0) (b := 9) (v := 9) (by decide +kernel)
theorem dX8_tellNumber_24 : decode cX8_tellNumber 24 = .ok (.iload_n 1, 1) := dc_27 (by decide +kernel)
theorem dX8_tellNumber_25 : decode cX8_tellNumber 25 = .ok (.i2l, 1) := dc_133 (by decide +kernel)
theorem dX8_tellNumber_26 : decode cX8_tellNumber 26 = .ok (.lneg, 1) := dc_117 (by decide +kernel)
theorem dX8_tellNumber_27 : decode cX8_tellNumber 27 = .ok (.goto 5, 3) := dc_167 (a := 0) (b := 5) (v := 5) (by decide +kernel)
theorem dX8_tellNumber_30 : decode cX8_tellNumber 30 = .ok (.iload_n 1, 1) := dc_27 (by decide +kernel)
theorem dX8_tellNumber_31 : decode cX8_tellNumber 31 = .ok (.i2l, 1) := dc_133 (by decide +kernel)
theorem dX8_tellNumber_32 : decode cX8_tellNumber 32 = .ok (.lstore_n 3, 1) := dc_66 (by decide +kernel)
theorem dX8_tellNumber_33 : decode cX8_tellNumber 33 = .ok (.lconst 1, 1) := dc_10 (by decide +kernel)
theorem dX8_tellNumber_34 : decode cX8_tellNumber 34 = .ok (.lstore 5, 2) := dc_55 (a := 5) (by decide +kernel)
theorem dX8_tellNumber_36 : decode cX8_tellNumber 36 = .ok (.lload 5, 2) := dc_22 (a := 5) (by decide +kernel)
theorem dX8_tellNumber_38 : decode cX8_tellNumber 38 = .ok (.ldc2_w 278, 3) := dc_20 (a := 1) (b := 22) (n := 278) (by decide +kernel)
theorem dX8_tellNumber_41 : decode cX8_tellNumber 41 = .ok (.lmul, 1) := dc_105 (by decide +kernel)
theorem dX8_tellNumber_42 : decode cX8_tellNumber 42 = .ok (.lload_n 3, 1) := dc_33 (by decide +kernel)
theorem dX8_tellNumber_43 : decode cX8_tellNumber 43 = .ok (.lcmp, 1) := dc_148 (by decide +kernel)
theorem dX8_tellNumber_44 : decode cX8_tellNumber 44 = .ok (.ifCond .gt 14, 3) := dc_157 (a := 0) (b := 14) (v := 14) (by decide +kernel)
theorem dX8_tellNumber_47 : decode cX8_tellNumber 47 = .ok (.lload 5, 2) := dc_22 (a := 5) (by decide +kernel)
theorem dX8_tellNumber_49 : decode cX8_tellNumber 49 = .ok (.ldc2_w 278, 3) := dc_20 (a := 1) (b := 22) (n := 278) (by decide +kernel)
theorem dX8_tellNumber_52 : decode cX8_tellNumber 52 = .ok (.lmul, 1) := dc_105 (by decide +kernel)
theorem dX8_tellNumber_53 : decode cX8_tellNumber 53 = .ok (.lstore 5, 2) := dc_55 (a := 5) (by decide +kernel)
theorem dX8_tellNumber_55 : decode cX8_tellNumber 55 = .ok (.goto (-19), 3) := dc_167 (a := 255) (b := 237) (v := -19) (by decide +kernel)
theorem dX8_tellNumber_58 : decode cX8_tellNumber 58 = .ok (.lload 5, 2) := dc_22 (a := 5) (by decide +kernel)
theorem dX8_tellNumber_60 : decode cX8_tellNumber 60 = .ok (.lconst 0, 1) := dc_9 (by decide +kernel)
theorem dX8_tellNumber_61 : decode cX8_tellNumber 61 = .ok (.lcmp, 1) := dc_148 (by decide +kernel)
theorem dX8_tellNumber_62 : decode cX8_tellNumber 62 = .ok (.ifCond .le 38, 3) := dc_158 (a := 0) (b := 38) (v := 38) (by decide +kernel)
theorem dX8_tellNumber_65 : decode cX8_tellNumber 65 = .ok (.aload_n 0, 1) := dc_42 (by decide +kernel)
theorem dX8_tellNumber_66 : decode cX8_tellNumber 66 = .ok (.getfield 35, 3) := dc_180 (a := 0) (b := 35) (n := 35) (by decide +kernel)
theorem dX8_tellNumber_69 : decode cX8_tellNumber 69 = .ok (.iload_n 2, 1) := dc_28 (by decide +kernel)
theorem dX8_tellNumber_70 : decode cX8_tellNumber 70 = .ok (.iinc 2 1, 3) := dc_132 (a := 2) (b := 1) (v := 1) (by decide +kernel)
theorem dX8_tellNumber_73 : decode cX8_tellNumber 73 = .ok (.bipush 48, 2) := dc_16 (a := 48) (v := 48) (by decide +kernel)
theorem dX8_tellNumber_75 : decode cX8_tellNumber 75 = .ok (.lload_n 3, 1) := dc_33 (by decide +kernel)
theorem dX8_tellNumber_76 : decode cX8_tellNumber 76 = .ok (.lload 5, 2) := dc_22 (a := 5) (by decide +kernel)
theorem dX8_tellNumber_78 : decode cX8_tellNumber 78 = .ok (.ldiv, 1) := dc_109 (by decide +kernel)
theorem dX8_tellNumber_79 : decode cX8_tellNumber 79 = .ok (.ldc2_w 278, 3) := dc_20 (a := 1) (b := 22) (n := 278) (by decide +kernel)
theorem dX8_tellNumber_82 : decode cX8_tellNumber 82 = .ok (.lrem, 1) := dc_113 (by decide +kernel)
theorem dX8_tellNumber_83 : decode cX8_tellNumber 83 = .ok (.l2i, 1) := dc_136 (by decide +kernel)
theorem dX8_tellNumber_84 : decode cX8_tellNumber 84 = .ok (.iadd, 1) := dc_96 (by decide +kernel)
theorem dX8_tellNumber_85 : decode cX8_tellNumber 85 = .ok (.invokestatic 255, 3) := dc_184 (a := 0) (b := 255) (n := 255) (by decide +kernel)
theorem dX8_tellNumber_88 : decode cX8_tellNumber 88 = .ok (.iastore, 1) := dc_79 (by decide +kernel)
theorem dX8_tellNumber_89 : decode cX8_tellNumber 89 = .ok (.lload 5, 2) := dc_22 (a := 5) (by decide +kernel)
theorem dX8_tellNumber_91 : decode cX8_tellNumber 91 = .ok (.ldc2_w 278, 3) := dc_20 (a := 1) (b := 22) (n := 278) (by decide +kernel)
theorem dX8_tellNumber_94 : decode cX8_tellNumber 94 = .ok (.ldiv, 1) := dc_109 (by decide +kernel)
theorem dX8_tellNumber_95 : decode cX8_tellNumber 95 = .ok (.lstore 5, 2) := dc_55 (a := 5) (by decide +kernel)
theorem dX8_tellNumber_97 : decode cX8_tellNumber 97 = .ok (.goto (-39), 3) := dc_167 (a := 255) (b := 217) (v := -39) (by decide +kernel)
theorem dX8_tellNumber_100 : decode cX8_tellNumber 100 = .ok (.aload_n 0, 1) := dc_42 (by decide +kernel)
theorem dX8_tellNumber_101 : decode cX8_tellNumber 101 = .ok (.getfield 93, 3) := dc_180 (a := 0) (b := 93) (n := 93) (by decide +kernel)
theorem dX8_tellNumber_104 : decode cX8_tellNumber 104 = .ok (.aload_n 0, 1) := dc_42 (by decide +kernel)
theorem dX8_tellNumber_105 : decode cX8_tellNumber 105 = .ok (.getfield 35, 3) := dc_180 (a := 0) (b := 35) (n := 35) (by decide +kernel)
theorem dX8_tellNumber_108 : decode cX8_tellNumber 108 = .ok (.iload_n 2, 1) := dc_28 (by decide +kernel)
theorem dX8_tellNumber_109 : decode cX8_tellNumber 109 = .ok (.invokevirtual 265, 3) := dc_182 (a := 1) (b := 9) (n := 265) (by decide +kernel)
theorem dX8_tellNumber_112 : decode cX8_tellNumber 112 = .ok (.return_, 1) := dc_177 (by decide +kernel)
def fX8_tellNumber_b58 (N : Nat) : Nat → Nat → Int32 → Int64 → Int64 → eH → Option (Unit × eH)
  | 0, _, _, _, _, _ => none
  | n + 1, l0, l2, l3, l5, h =>
    if (lg_cmp l5 (0 : Int64)) ≤ 0 then
      (g_A 7 h l0 7).bind fun a2 =>
      (g_A 7 h l0 19).bind fun a4 =>
      (k_ok 12 h a2).bind fun _ =>
      (fX13_putAll N a2 a4 l2 h).bind fun q7 =>
      some ((), q7.2)
    else
      (g_A 7 h l0 19).bind fun a8 =>
      if l5 = 0 then none else
      (fX1_other ((48 : Int32) + (((l3 / l5) - (l3 / l5) / (10 : Int64) * (10 : Int64))).toInt32) h).bind fun q11 =>
      (q_V 100 q11.2 a8 l2 (.int q11.1)).bind fun h12 =>
      fX8_tellNumber_b58 N n l0 (l2 + (1 : Int32)) l3 (l5 / (10 : Int64)) h12
theorem pX8_tellNumber_b58 {w : eW} {d : Nat} (hd : 4 ≤ d + 1) {N : Nat} : ∀ (n : Nat) l0 l2 l3 l5 h q, fX8_tellNumber_b58 N n l0 l2 l3 l5 h = some q → wp w (d + 1) YX8_tellNumber 58 [some (.ref l0), none, some (.int l2), some (.long l3), none, some (.long l5), none] [] h (e_is (e_rn c_V q)) := by
  intro n
  induction n with
  | zero => intro l0 l2 l3 l5 h q hf; simp [fX8_tellNumber_b58] at hf
  | succ n ih =>
    intro l0 l2 l3 l5 h q hf
    rw [fX8_tellNumber_b58] at hf
    refine w_lload dX8_tellNumber_58 rfl ?_
    refine w_lconst dX8_tellNumber_60 (v := 0) (by decide) ?_
    refine w_lcmp dX8_tellNumber_61 ?_
    refine w_if_le 100 dX8_tellNumber_62 (by decide) (fun c1 => ?_) (fun c1 => ?_)
    · replace hf := (if_pos (show (lg_cmp l5 (0 : Int64)) ≤ 0 from c1)).symm.trans hf
      refine w_aload_n dX8_tellNumber_100 rfl rfl ?_
      obtain ⟨a2, b3, hf⟩ := Option.bind_eq_some_iff.mp hf
      refine GX8_93 b3 dX8_tellNumber_101 rfl ?_
      refine w_aload_n dX8_tellNumber_104 rfl rfl ?_
      obtain ⟨a4, b5, hf⟩ := Option.bind_eq_some_iff.mp hf
      refine GX8_35 b5 dX8_tellNumber_105 rfl ?_
      refine w_iload_n dX8_tellNumber_108 rfl rfl ?_
      obtain ⟨_, b6, hf⟩ := Option.bind_eq_some_iff.mp hf
      refine x_cnV hf (e_stV (Yc := YX13_putAll) (ci := 12) (av := [.ref a4, .int l2]) (st := []) dX8_tellNumber_109 q2586 mX13_putAll rfl (k_ok_some b6).1 (k_ok_some b6).2) mX13_putAll.2.2.1 mX13_putAll.2.2.2.2.1 (Nat.le_of_ble_eq_true rfl) (Nat.le_of_ble_eq_true rfl) (fun q hq => pX13_putAll (by omega) hq) (fun q7 hf => ?_)
      cases hf
      exact w_vret dX8_tellNumber_112 rfl rfl
    · replace hf := (if_neg (show ¬ ((lg_cmp l5 (0 : Int64)) ≤ 0) from c1)).symm.trans hf
      refine w_aload_n dX8_tellNumber_65 rfl rfl ?_
      obtain ⟨a8, b9, hf⟩ := Option.bind_eq_some_iff.mp hf
      refine GX8_35 b9 dX8_tellNumber_66 rfl ?_
      refine w_iload_n dX8_tellNumber_69 rfl rfl ?_
      refine w_iinc dX8_tellNumber_70 (v := (l2 + (1 : Int32))) rfl rfl (by decide) (ls' := [some (.ref l0), none, some (.int (l2 + (1 : Int32))), some (.long l3), none, some (.long l5), none]) rfl ?_
      refine w_bipush dX8_tellNumber_73 (v := 48) (by decide) ?_
      refine w_lload_n dX8_tellNumber_75 rfl rfl ?_
      refine w_lload dX8_tellNumber_76 rfl ?_
      by_cases c10 : l5 = 0
      · exact absurd ((if_pos c10).symm.trans hf) (by simp)
      replace hf := (if_neg c10).symm.trans hf
      refine w_ldiv dX8_tellNumber_78 c10 ?_
      refine w_ldc2 dX8_tellNumber_79 q2605 ?_
      refine w_lrem dX8_tellNumber_82 (by decide) ?_
      refine w_l2i dX8_tellNumber_83 ?_
      refine w_iadd dX8_tellNumber_84 ?_
      refine x_cnI hf (e_stSN (Yc := YX1_other) (av := [.int ((48 : Int32) + (((l3 / l5) - (l3 / l5) / (10 : Int64) * (10 : Int64))).toInt32)]) (st := [.int l2, .ref a8]) dX8_tellNumber_85 q2579 mX1_other) mX1_other.2.2.1 mX1_other.2.2.2.2.1 (Nat.le_of_ble_eq_true rfl) (Nat.le_of_ble_eq_true rfl) (fun q hq => pX1_other (by omega) hq) (fun q11 hf => ?_)
      obtain ⟨h12, b13, hf⟩ := Option.bind_eq_some_iff.mp hf
      refine x_qI b13 dX8_tellNumber_88 ?_
      refine w_lload dX8_tellNumber_89 rfl ?_
      refine w_ldc2 dX8_tellNumber_91 q2605 ?_
      refine w_ldiv dX8_tellNumber_94 (by decide) ?_
      refine w_lstore dX8_tellNumber_95 (by decide) (ls' := [some (.ref l0), none, some (.int (l2 + (1 : Int32))), some (.long l3), none, some (.long (l5 / (10 : Int64))), none]) rfl ?_
      refine w_goto 58 dX8_tellNumber_97 (by decide) ?_
      exact (ih _ _ _ _ _ _ hf).to ⟨rfl, rfl, rfl, rfl, trivial⟩
def fX8_tellNumber_b36 (N : Nat) : Nat → Nat → Int32 → Int64 → Int64 → eH → Option (Unit × eH)
  | 0, _, _, _, _, _ => none
  | n + 1, l0, l2, l3, l5, h =>
    if 0 < (lg_cmp (l5 * (10 : Int64)) l3) then
      fX8_tellNumber_b58 N N l0 l2 l3 l5 h
    else
      fX8_tellNumber_b36 N n l0 l2 l3 (l5 * (10 : Int64)) h
theorem pX8_tellNumber_b36 {w : eW} {d : Nat} (hd : 4 ≤ d + 1) {N : Nat} : ∀ (n : Nat) l0 l2 l3 l5 h q, fX8_tellNumber_b36 N n l0 l2 l3 l5 h = some q → wp w (d + 1) YX8_tellNumber 36 [some (.ref l0), none, some (.int l2), some (.long l3), none, some (.long l5), none] [] h (e_is (e_rn c_V q)) := by
  intro n
  induction n with
  | zero => intro l0 l2 l3 l5 h q hf; simp [fX8_tellNumber_b36] at hf
  | succ n ih =>
    intro l0 l2 l3 l5 h q hf
    rw [fX8_tellNumber_b36] at hf
    refine w_lload dX8_tellNumber_36 rfl ?_
    refine w_ldc2 dX8_tellNumber_38 q2605 ?_
    refine w_lmul dX8_tellNumber_41 ?_
    refine w_lload_n dX8_tellNumber_42 rfl rfl ?_
    refine w_lcmp dX8_tellNumber_43 ?_
    refine w_if_gt 58 dX8_tellNumber_44 (by decide) (fun c1 => ?_) (fun c1 => ?_)
    · replace hf := (if_pos (show 0 < (lg_cmp (l5 * (10 : Int64)) l3) from c1)).symm.trans hf
      exact (pX8_tellNumber_b58 hd N _ _ _ _ _ _ hf).to ⟨rfl, rfl, rfl, rfl, trivial⟩
    · replace hf := (if_neg (show ¬ (0 < (lg_cmp (l5 * (10 : Int64)) l3)) from c1)).symm.trans hf
      refine w_lload dX8_tellNumber_47 rfl ?_
      refine w_ldc2 dX8_tellNumber_49 q2605 ?_
      refine w_lmul dX8_tellNumber_52 ?_
      refine w_lstore dX8_tellNumber_53 (by decide) (ls' := [some (.ref l0), none, some (.int l2), some (.long l3), none, some (.long (l5 * (10 : Int64))), none]) rfl ?_
      refine w_goto 36 dX8_tellNumber_55 (by decide) ?_
      exact (ih _ _ _ _ _ _ hf).to ⟨rfl, rfl, rfl, rfl, trivial⟩
def fX8_tellNumber_b32 (N : Nat) (l0 : Nat) (l2 : Int32) (s0 : Int64) (h : eH) : Option (Unit × eH) :=
  fX8_tellNumber_b36 N N l0 l2 s0 (1 : Int64) h
theorem pX8_tellNumber_b32 {w : eW} {d : Nat} (hd : 4 ≤ d + 1) {N : Nat} {l0 : Nat} {l2 : Int32} {s0 : Int64} {h : eH} {q} (hf : fX8_tellNumber_b32 N l0 l2 s0 h = some q) : wp w (d + 1) YX8_tellNumber 32 [some (.ref l0), none, some (.int l2), none, none, none, none] [.long s0] h (e_is (e_rn c_V q)) := by
  unfold fX8_tellNumber_b32 at hf
  refine w_lstore_n dX8_tellNumber_32 rfl (by decide) (ls' := [some (.ref l0), none, some (.int l2), some (.long s0), none, none, none]) rfl ?_
  refine w_lconst dX8_tellNumber_33 (v := 1) (by decide) ?_
  refine w_lstore dX8_tellNumber_34 (by decide) (ls' := [some (.ref l0), none, some (.int l2), some (.long s0), none, some (.long (1 : Int64)), none]) rfl ?_
  exact (pX8_tellNumber_b36 hd N _ _ _ _ _ _ hf).to ⟨rfl, rfl, rfl, rfl, trivial⟩
def fX8_tellNumber_b20 (N : Nat) (l0 : Nat) (l1 : Int32) (l2 : Int32) (h : eH) : Option (Unit × eH) :=
  if 0 ≤ l1 then
    fX8_tellNumber_b32 N l0 l2 (l1).toInt64 h
  else
    fX8_tellNumber_b32 N l0 l2 (-(l1).toInt64) h
theorem pX8_tellNumber_b20 {w : eW} {d : Nat} (hd : 4 ≤ d + 1) {N : Nat} {l0 : Nat} {l1 : Int32} {l2 : Int32} {h : eH} {q} (hf : fX8_tellNumber_b20 N l0 l1 l2 h = some q) : wp w (d + 1) YX8_tellNumber 20 [some (.ref l0), some (.int l1), some (.int l2), none, none, none, none] [] h (e_is (e_rn c_V q)) := by
  unfold fX8_tellNumber_b20 at hf
  refine w_iload_n dX8_tellNumber_20 rfl rfl ?_
  refine w_if_ge 30 dX8_tellNumber_21 (by decide) (fun c1 => ?_) (fun c1 => ?_)
  · replace hf := (if_pos (show 0 ≤ l1 from c1)).symm.trans hf
    refine w_iload_n dX8_tellNumber_30 rfl rfl ?_
    refine w_i2l dX8_tellNumber_31 ?_
    exact (pX8_tellNumber_b32 hd hf).to ⟨rfl, rfl, trivial⟩
  · replace hf := (if_neg (show ¬ (0 ≤ l1) from c1)).symm.trans hf
    refine w_iload_n dX8_tellNumber_24 rfl rfl ?_
    refine w_i2l dX8_tellNumber_25 ?_
    refine w_lneg dX8_tellNumber_26 ?_
    refine w_goto 32 dX8_tellNumber_27 (by decide) ?_
    exact (pX8_tellNumber_b32 hd hf).to ⟨rfl, rfl, trivial⟩
def fX8_tellNumber (N : Nat) (this : Nat) (p0 : Int32) (h : eH) : Option (Unit × eH) :=
  if 0 ≤ p0 then
    fX8_tellNumber_b20 N this p0 (0 : Int32) h
  else
    (g_A 7 h this 19).bind fun a2 =>
    (fX1_other (45 : Int32) h).bind fun q4 =>
    (q_V 100 q4.2 a2 (0 : Int32) (.int q4.1)).bind fun h5 =>
    fX8_tellNumber_b20 N this p0 ((0 : Int32) + (1 : Int32)) h5
theorem pX8_tellNumber {w : eW} {d : Nat} (hd : 4 ≤ d) {N : Nat} {this : Nat} {p0 : Int32} {h : eH} {q} (hf : fX8_tellNumber N this p0 h = some q) : wm w d YX8_tellNumber [.ref this, .int p0] h (e_is (e_rn c_V q)) := by
  obtain ⟨d, rfl⟩ : ∃ e, d = e + 1 := ⟨d - 1, by omega⟩
  show wp w (d + 1) YX8_tellNumber 0 [some (.ref this), some (.int p0), none, none, none, none, none] [] h _
  unfold fX8_tellNumber at hf
  refine w_iconst dX8_tellNumber_0 (v := 0) (by decide) ?_
  refine w_istore_n dX8_tellNumber_1 rfl (by decide) (ls' := [some (.ref this), some (.int p0), some (.int (0 : Int32)), none, none, none, none]) rfl ?_
  refine w_iload_n dX8_tellNumber_2 rfl rfl ?_
  refine w_if_ge 20 dX8_tellNumber_3 (by decide) (fun c1 => ?_) (fun c1 => ?_)
  · replace hf := (if_pos (show 0 ≤ p0 from c1)).symm.trans hf
    exact (pX8_tellNumber_b20 hd hf).to ⟨rfl, rfl, rfl, trivial⟩
  · replace hf := (if_neg (show ¬ (0 ≤ p0) from c1)).symm.trans hf
    refine w_aload_n dX8_tellNumber_6 rfl rfl ?_
    obtain ⟨a2, b3, hf⟩ := Option.bind_eq_some_iff.mp hf
    refine GX8_35 b3 dX8_tellNumber_7 rfl ?_
    refine w_iload_n dX8_tellNumber_10 rfl rfl ?_
    refine w_iinc dX8_tellNumber_11 (v := ((0 : Int32) + (1 : Int32))) rfl rfl (by decide) (ls' := [some (.ref this), some (.int p0), some (.int ((0 : Int32) + (1 : Int32))), none, none, none, none]) rfl ?_
    refine w_bipush dX8_tellNumber_14 (v := 45) (by decide) ?_
    refine x_cnI hf (e_stSN (Yc := YX1_other) (av := [.int (45 : Int32)]) (st := [.int (0 : Int32), .ref a2]) dX8_tellNumber_16 q2579 mX1_other) mX1_other.2.2.1 mX1_other.2.2.2.2.1 (Nat.le_of_ble_eq_true rfl) (Nat.le_of_ble_eq_true rfl) (fun q hq => pX1_other (by omega) hq) (fun q4 hf => ?_)
    obtain ⟨h5, b6, hf⟩ := Option.bind_eq_some_iff.mp hf
    refine x_qI b6 dX8_tellNumber_19 ?_
    exact (pX8_tellNumber_b20 hd hf).to ⟨rfl, rfl, rfl, trivial⟩
abbrev cX8_tellRoman : ByteArray := prog_4_method_22_code
def yX8_tellRoman : MethodName := ⟨RX8, "tellRoman", "(I)V"⟩
def YX8_tellRoman : eY := (yX8_tellRoman, cX8_tellRoman, 7, none, [])
theorem mX8_tellRoman : e_mv YX8_tellRoman RX8 1 := ⟨q2656, qs76, q2657, by decide, by decide +kernel, (e_sig (by decide +kernel))⟩
theorem dX8_tellRoman_0 : decode cX8_tellRoman 0 = .ok (.aload_n 0, 1) := dc_42 (by decide +kernel)
theorem dX8_tellRoman_1 : decode cX8_tellRoman 1 = .ok (.getfield 51, 3) := dc_180 (a := 0) (b := 51) (n := 51) (by decide +kernel)
theorem dX8_tellRoman_4 : decode cX8_tellRoman 4 = .ok (.iload_n 1, 1) := dc_27 (by decide +kernel)
theorem dX8_tellRoman_5 : decode cX8_tellRoman 5 = .ok (.sipush 9999, 3) := dc_17 (a := 39) (b := 15) (v := 9999) (by decide +kernel)
theorem dX8_tellRoman_8 : decode cX8_tellRoman 8 = .ok (.if_icmp .gt 7, 3) := dc_163 (a := 0) (b := 7) (v := 7) (by decide +kernel)
theorem dX8_tellRoman_11 : decode cX8_tellRoman 11 = .ok (.iconst 1, 1) := dc_4 (by decide +kernel)
theorem dX8_tellRoman_12 : decode cX8_tellRoman 12 = .ok (.goto 4, 3) := dc_167 (a := 0) (b := 4) (v := 4) (by decide +kernel)
theorem dX8_tellRoman_15 : decode cX8_tellRoman 15 = .ok (.iconst 0, 1) := dc_3 (by decide +kernel)
theorem dX8_tellRoman_16 : decode cX8_tellRoman 16 = .ok (.bipush 7, 2) := dc_16 (a := 7) (v := 7) (by decide +kernel)
theorem dX8_tellRoman_18 : decode cX8_tellRoman 18 = .ok (.invokevirtual 145, 3) := dc_182 (a := 0) (b := 145) (n := 145) (by decide +kernel)
theorem dX8_tellRoman_21 : decode cX8_tellRoman 21 = .ok (.ldc_w 280, 3) := dc_19 (a := 1) (b := 24) (n := 280) (by decide +kernel)
theorem dX8_tellRoman_24 : decode cX8_tellRoman 24 = .ok (.astore_n 2, 1) := dc_77 (by decide +kernel)
theorem dX8_tellRoman_25 : decode cX8_tellRoman 25 = .ok (.iconst 0, 1) := dc_3 (by decide +kernel)
theorem dX8_tellRoman_26 : decode cX8_tellRoman 26 = .ok (.istore_n 3, 1) := dc_62 (by decide +kernel)
theorem dX8_tellRoman_27 : decode cX8_tellRoman 27 = .ok (.iload_n 1, 1) := dc_27 (by decide +kernel)
theorem dX8_tellRoman_28 : decode cX8_tellRoman 28 = .ok (.istore 4, 2) := dc_54 (a := 4) (by decide +kernel)
theorem dX8_tellRoman_30 : decode cX8_tellRoman 30 = .ok (.iconst 0, 1) := dc_3 (by decide +kernel)
theorem dX8_tellRoman_31 : decode cX8_tellRoman 31 = .ok (.istore 5, 2) := dc_54 (a := 5) (by decide +kernel)
theorem dX8_tellRoman_33 : decode cX8_tellRoman 33 = .ok (.iload 5, 2) := dc_21 (a := 5) (by decide +kernel)
theorem dX8_tellRoman_35 : decode cX8_tellRoman 35 = .ok (.bipush 13, 2) := dc_16 (a := 13) (v := 13) (by decide +kernel)
theorem dX8_tellRoman_37 : decode cX8_tellRoman 37 = .ok (.if_icmp .ge 112, 3) := dc_162 (a := 0) (b := 112) (v := 112) (by decide +kernel)
theorem dX8_tellRoman_40 : decode cX8_tellRoman 40 = .ok (.iconst 4, 1) := dc_7 (by decide +kernel)
theorem dX8_tellRoman_41 : decode cX8_tellRoman 41 = .ok (.iload 5, 2) := dc_21 (a := 5) (by decide +kernel)
theorem dX8_tellRoman_43 : decode cX8_tellRoman 43 = .ok (.iconst 2, 1) := dc_5 (by decide +kernel)
theorem dX8_tellRoman_44 : decode cX8_tellRoman 44 = .ok (.idiv, 1) := dc_108 (by decide +kernel)
theorem dX8_tellRoman_45 : decode cX8_tellRoman 45 = .ok (.imul, 1) := dc_104 (by decide +kernel)
theorem dX8_tellRoman_46 : decode cX8_tellRoman 46 = .ok (.istore 6, 2) := dc_54 (a := 6) (by decide +kernel)
theorem dX8_tellRoman_48 : decode cX8_tellRoman 48 = .ok (.iload 4, 2) := dc_21 (a := 4) (by decide +kernel)
theorem dX8_tellRoman_50 : decode cX8_tellRoman 50 = .ok (.aload_n 0, 1) := dc_42 (by decide +kernel)
theorem dX8_tellRoman_51 : decode cX8_tellRoman 51 = .ok (.getfield 38, 3) := dc_180 (a := 0) (b := 38) (n := 38) (by decide +kernel)
theorem dX8_tellRoman_54 : decode cX8_tellRoman 54 = .ok (.iload 5, 2) := dc_21 (a := 5) (by decide +kernel)
theorem dX8_tellRoman_56 : decode cX8_tellRoman 56 = .ok (.iaload, 1) := dc_46 (by decide +kernel)
theorem dX8_tellRoman_57 : decode cX8_tellRoman 57 = .ok (.if_icmp .lt 86, 3) := dc_161 (a := 0) (b := 86) (v := 86) (by decide +kernel)
theorem dX8_tellRoman_60 : decode cX8_tellRoman 60 = .ok (.iload 4, 2) := dc_21 (a := 4) (by decide +kernel)
theorem dX8_tellRoman_62 : decode cX8_tellRoman 62 = .ok (.aload_n 0, 1) := dc_42 (by decide +kernel)
theorem dX8_tellRoman_63 : decode cX8_tellRoman 63 = .ok (.getfield 38, 3) := dc_180 (a := 0) (b := 38) (n := 38) (by decide +kernel)
theorem dX8_tellRoman_66 : decode cX8_tellRoman 66 = .ok (.iload 5, 2) := dc_21 (a := 5) (by decide +kernel)
theorem dX8_tellRoman_68 : decode cX8_tellRoman 68 = .ok (.iaload, 1) := dc_46 (by decide +kernel)
theorem dX8_tellRoman_69 : decode cX8_tellRoman 69 = .ok (.isub, 1) := dc_100 (by decide +kernel)
theorem dX8_tellRoman_70 : decode cX8_tellRoman 70 = .ok (.istore 4, 2) := dc_54 (a := 4) (by decide +kernel)
theorem dX8_tellRoman_72 : decode cX8_tellRoman 72 = .ok (.iload 5, 2) := dc_21 (a := 5) (by decide +kernel)
theorem dX8_tellRoman_74 : decode cX8_tellRoman 74 = .ok (.iconst 2, 1) := dc_5 (by decide +kernel)
theorem dX8_tellRoman_75 : decode cX8_tellRoman 75 = .ok (.irem, 1) := dc_112 (by decide +kernel)
theorem dX8_tellRoman_76 : decode cX8_tellRoman 76 = .ok (.ifCond .ne 24, 3) := dc_154 (a := 0) (b := 24) (v := 24) (by decide +kernel)
theorem dX8_tellRoman_79 : decode cX8_tellRoman 79 = .ok (.aload_n 0, 1) := dc_42 (by decide +kernel)
theorem dX8_tellRoman_80 : decode cX8_tellRoman 80 = .ok (.getfield 35, 3) := dc_180 (a := 0) (b := 35) (n := 35) (by decide +kernel)
theorem dX8_tellRoman_83 : decode cX8_tellRoman 83 = .ok (.iload_n 3, 1) := dc_29 (by decide +kernel)
theorem dX8_tellRoman_84 : decode cX8_tellRoman 84 = .ok (.iinc 3 1, 3) := dc_132 (a := 3) (b := 1) (v := 1) (by decide +kernel)
theorem dX8_tellRoman_87 : decode cX8_tellRoman 87 = .ok (.aload_n 2, 1) := dc_44 (by decide +kernel)
theorem dX8_tellRoman_88 : decode cX8_tellRoman 88 = .ok (.iload 6, 2) := dc_21 (a := 6) (by decide +kernel)
theorem dX8_tellRoman_90 : decode cX8_tellRoman 90 = .ok (.invokevirtual 282, 3) := dc_182 (a := 1) (b := 26) (n := 282) (by decide +kernel)
theorem dX8_tellRoman_93 : decode cX8_tellRoman 93 = .ok (.invokestatic 255, 3) := dc_184 (a := 0) (b := 255) (n := 255) (by decide +kernel)
theorem dX8_tellRoman_96 : decode cX8_tellRoman 96 = .ok (.iastore, 1) := dc_79 (by decide +kernel)
theorem dX8_tellRoman_97 : decode cX8_tellRoman 97 = .ok (.goto (-49), 3) := dc_167 (a := 255) (b := 207) (v := -49) (by decide +kernel)
theorem dX8_tellRoman_100 : decode cX8_tellRoman 100 = .ok (.aload_n 0, 1) := dc_42 (by decide +kernel)
theorem dX8_tellRoman_101 : decode cX8_tellRoman 101 = .ok (.getfield 35, 3) := dc_180 (a := 0) (b := 35) (n := 35) (by decide +kernel)
theorem dX8_tellRoman_104 : decode cX8_tellRoman 104 = .ok (.iload_n 3, 1) := dc_29 (by decide +kernel)
theorem dX8_tellRoman_105 : decode cX8_tellRoman 105 = .ok (.iinc 3 1, 3) := dc_132 (a := 3) (b := 1) (v := 1) (by decide +kernel)
theorem dX8_tellRoman_108 : decode cX8_tellRoman 108 = .ok (.aload_n 2, 1) := dc_44 (by decide +kernel)
theorem dX8_tellRoman_109 : decode cX8_tellRoman 109 = .ok (.iload 6, 2) := dc_21 (a := 6) (by decide +kernel)
theorem dX8_tellRoman_111 : decode cX8_tellRoman 111 = .ok (.iconst 2, 1) := dc_5 (by decide +kernel)
theorem dX8_tellRoman_112 : decode cX8_tellRoman 112 = .ok (.iadd, 1) := dc_96 (by decide +kernel)
theorem dX8_tellRoman_113 : decode cX8_tellRoman 113 = .ok (.invokevirtual 282, 3) := dc_182 (a := 1) (b := 26) (n := 282) (by decide +kernel)
theorem dX8_tellRoman_116 : decode cX8_tellRoman 116 = .ok (.invokestatic 255, 3) := dc_184 (a := 0) (b := 255) (n := 255) (by decide +kernel)
theorem dX8_tellRoman_119 : decode cX8_tellRoman 119 = .ok (.iastore, 1) := dc_79 (by decide +kernel)
theorem dX8_tellRoman_120 : decode cX8_tellRoman 120 = .ok (.aload_n 0, 1) := dc_42 (by decide +kernel)
theorem dX8_tellRoman_121 : decode cX8_tellRoman 121 = .ok (.getfield 35, 3) := dc_180 (a := 0) (b := 35) (n := 35) (by decide +kernel)
theorem dX8_tellRoman_124 : decode cX8_tellRoman 124 = .ok (.iload_n 3, 1) := dc_29 (by decide +kernel)
theorem dX8_tellRoman_125 : decode cX8_tellRoman 125 = .ok (.iinc 3 1, 3) := dc_132 (a := 3) (b := 1) (v := 1) (by decide +kernel)
theorem dX8_tellRoman_128 : decode cX8_tellRoman 128 = .ok (.aload_n 2, 1) := dc_44 (by decide +kernel)
theorem dX8_tellRoman_129 : decode cX8_tellRoman 129 = .ok (.iload 6, 2) := dc_21 (a := 6) (by decide +kernel)
theorem dX8_tellRoman_131 : decode cX8_tellRoman 131 = .ok (.iconst 3, 1) := dc_6 (by decide +kernel)
theorem dX8_tellRoman_132 : decode cX8_tellRoman 132 = .ok (.iadd, 1) := dc_96 (by decide +kernel)
theorem dX8_tellRoman_133 : decode cX8_tellRoman 133 = .ok (.invokevirtual 282, 3) := dc_182 (a := 1) (b := 26) (n := 282) (by decide +kernel)
theorem dX8_tellRoman_136 : decode cX8_tellRoman 136 = .ok (.invokestatic 255, 3) := dc_184 (a := 0) (b := 255) (n := 255) (by decide +kernel)
theorem dX8_tellRoman_139 : decode cX8_tellRoman 139 = .ok (.iastore, 1) := dc_79 (by decide +kernel)
theorem dX8_tellRoman_140 : decode cX8_tellRoman 140 = .ok (.goto (-92), 3) := dc_167 (a := 255) (b := 164) (v := -92) (by decide +kernel)
theorem dX8_tellRoman_143 : decode cX8_tellRoman 143 = .ok (.iinc 5 1, 3) := dc_132 (a := 5) (b := 1) (v := 1) (by decide +kernel)
theorem dX8_tellRoman_146 : decode cX8_tellRoman 146 = .ok (.goto (-113), 3) := dc_167 (a := 255) (b := 143) (v := -113) (by decide +kernel)
theorem dX8_tellRoman_149 : decode cX8_tellRoman 149 = .ok (.aload_n 0, 1) := dc_42 (by decide +kernel)
theorem dX8_tellRoman_150 : decode cX8_tellRoman 150 = .ok (.getfield 93, 3) := dc_180 (a := 0) (b := 93) (n := 93) (by decide +kernel)
theorem dX8_tellRoman_153 : decode cX8_tellRoman 153 = .ok (.aload_n 0, 1) := dc_42 (by decide +kernel)
theorem dX8_tellRoman_154 : decode cX8_tellRoman 154 = .ok (.getfield 35, 3) := dc_180 (a := 0) (b := 35) (n := 35) (by decide +kernel)
theorem dX8_tellRoman_157 : decode cX8_tellRoman 157 = .ok (.iload_n 3, 1) := dc_29 (by decide +kernel)
theorem dX8_tellRoman_158 : decode cX8_tellRoman 158 = .ok (.invokevirtual 265, 3) := dc_182 (a := 1) (b := 9) (n := 265) (by decide +kernel)
theorem dX8_tellRoman_161 : decode cX8_tellRoman 161 = .ok (.return_, 1) := dc_177 (by decide +kernel)
theorem GX8_38 {w : eW} {d : Nat} {Y : eY} {pc : Nat} {ls : eL} {st : List Value} {h : eH} {Q : eO → eH → Prop} {a : Nat} {x : Nat} (hf : g_A 7 h a 20 = some x) (hd : decode Y.2.1 pc = .ok (.getfield 38, 3)) (hY : Y.1.cls = RX8) (kk : wp w d Y (pc + 3) ls (.ref x :: st) h Q) : wp w d Y pc ls (.ref a :: st) h Q := x_gA (ci := 7) (k := 20) hf hd rfl (by decide) (by rw [hY]; exact q858) kk
def fX8_tellRoman_b48 (N : Nat) (k33 : Nat → Nat → Int32 → Int32 → Int32 → eH → Option ((Unit ⊕ Nat) × eH)) : Nat → Nat → Nat → Int32 → Int32 → Int32 → Int32 → eH → Option ((Unit ⊕ Nat) × eH)
  | 0, _, _, _, _, _, _, _ => none
  | n + 1, l0, l2, l3, l4, l5, l6, h =>
    (g_A 7 h l0 20).bind fun a1 =>
    (r_I 100 h a1 l5).bind fun x3 =>
    if l4 < x3 then
      k33 l0 l2 l3 l4 (l5 + (1 : Int32)) h
    else
      (g_A 7 h l0 20).bind fun a6 =>
      (r_I 100 h a6 l5).bind fun x8 =>
      if ¬ (l5 - l5 / (2 : Int32) * (2 : Int32)) = 0 then
        (g_A 7 h l0 19).bind fun a11 =>
        (s_ok l2).bind fun _ =>
        (fJ1_charAt l2 (l6 + (2 : Int32)) h).bind fun q14 =>
        (fX1_other q14.1 q14.2).bind fun q15 =>
        (q_V 100 q15.2 a11 l3 (.int q15.1)).bind fun h16 =>
        (g_A 7 h16 l0 19).bind fun a18 =>
        (s_ok l2).bind fun _ =>
        (fJ1_charAt l2 (l6 + (3 : Int32)) h16).bind fun q21 =>
        (fX1_other q21.1 q21.2).bind fun q22 =>
        (q_V 100 q22.2 a18 (l3 + (1 : Int32)) (.int q22.1)).bind fun h23 =>
        fX8_tellRoman_b48 N k33 n l0 l2 ((l3 + (1 : Int32)) + (1 : Int32)) (l4 - x8) l5 l6 h23
      else
        (g_A 7 h l0 19).bind fun a25 =>
        (s_ok l2).bind fun _ =>
        (fJ1_charAt l2 l6 h).bind fun q28 =>
        (fX1_other q28.1 q28.2).bind fun q29 =>
        (q_V 100 q29.2 a25 l3 (.int q29.1)).bind fun h30 =>
        fX8_tellRoman_b48 N k33 n l0 l2 (l3 + (1 : Int32)) (l4 - x8) l5 l6 h30
theorem pX8_tellRoman_b48 {w : eW} {d : Nat} (hd : 8 ≤ d + 1) {N : Nat} {k33 : Nat → Nat → Int32 → Int32 → Int32 → eH → Option ((Unit ⊕ Nat) × eH)} (hk33 : ∀ l0 l2 l3 l4 l5 h q, k33 l0 l2 l3 l4 l5 h = some q → wp w (d + 1) YX8_tellRoman 33 [some (.ref l0), none, some (.ref l2), some (.int l3), some (.int l4), some (.int l5), none] [] h (e_is (e_rt c_V q))) : ∀ (n : Nat) l0 l2 l3 l4 l5 l6 h q, fX8_tellRoman_b48 N k33 n l0 l2 l3 l4 l5 l6 h = some q → wp w (d + 1) YX8_tellRoman 48 [some (.ref l0), none, some (.ref l2), some (.int l3), some (.int l4), some (.int l5), some (.int l6)] [] h (e_is (e_rt c_V q)) := by
  intro n
  induction n with
  | zero => intro l0 l2 l3 l4 l5 l6 h q hf; simp [fX8_tellRoman_b48] at hf
  | succ n ih =>
    intro l0 l2 l3 l4 l5 l6 h q hf
    rw [fX8_tellRoman_b48] at hf
    refine w_iload dX8_tellRoman_48 rfl ?_
    refine w_aload_n dX8_tellRoman_50 rfl rfl ?_
    obtain ⟨a1, b2, hf⟩ := Option.bind_eq_some_iff.mp hf
    refine GX8_38 b2 dX8_tellRoman_51 rfl ?_
    refine w_iload dX8_tellRoman_54 rfl ?_
    obtain ⟨x3, b4, hf⟩ := Option.bind_eq_some_iff.mp hf
    refine x_rI b4 dX8_tellRoman_56 ?_
    refine w_icmp_lt 143 dX8_tellRoman_57 (by decide) (fun c5 => ?_) (fun c5 => ?_)
    · replace hf := (if_pos (show l4 < x3 from c5)).symm.trans hf
      refine w_iinc dX8_tellRoman_143 (v := (l5 + (1 : Int32))) rfl rfl (by decide) (ls' := [some (.ref l0), none, some (.ref l2), some (.int l3), some (.int l4), some (.int (l5 + (1 : Int32))), some (.int l6)]) rfl ?_
      refine w_goto 33 dX8_tellRoman_146 (by decide) ?_
      exact (hk33 _ _ _ _ _ _ _ hf).to ⟨rfl, rfl, rfl, rfl, rfl, trivial⟩
    · replace hf := (if_neg (show ¬ (l4 < x3) from c5)).symm.trans hf
      refine w_iload dX8_tellRoman_60 rfl ?_
      refine w_aload_n dX8_tellRoman_62 rfl rfl ?_
      obtain ⟨a6, b7, hf⟩ := Option.bind_eq_some_iff.mp hf
      refine GX8_38 b7 dX8_tellRoman_63 rfl ?_
      refine w_iload dX8_tellRoman_66 rfl ?_
      obtain ⟨x8, b9, hf⟩ := Option.bind_eq_some_iff.mp hf
      refine x_rI b9 dX8_tellRoman_68 ?_
      refine w_isub dX8_tellRoman_69 ?_
      refine w_istore dX8_tellRoman_70 (by decide) (ls' := [some (.ref l0), none, some (.ref l2), some (.int l3), some (.int (l4 - x8)), some (.int l5), some (.int l6)]) rfl ?_
      refine w_iload dX8_tellRoman_72 rfl ?_
      refine w_iconst dX8_tellRoman_74 (v := 2) (by decide) ?_
      refine w_irem dX8_tellRoman_75 (by decide) ?_
      refine w_if_ne 100 dX8_tellRoman_76 (by decide) (fun c10 => ?_) (fun c10 => ?_)
      · replace hf := (if_pos (show ¬ (l5 - l5 / (2 : Int32) * (2 : Int32)) = 0 from c10)).symm.trans hf
        refine w_aload_n dX8_tellRoman_100 rfl rfl ?_
        obtain ⟨a11, b12, hf⟩ := Option.bind_eq_some_iff.mp hf
        refine GX8_35 b12 dX8_tellRoman_101 rfl ?_
        refine w_iload_n dX8_tellRoman_104 rfl rfl ?_
        refine w_iinc dX8_tellRoman_105 (v := (l3 + (1 : Int32))) rfl rfl (by decide) (ls' := [some (.ref l0), none, some (.ref l2), some (.int (l3 + (1 : Int32))), some (.int (l4 - x8)), some (.int l5), some (.int l6)]) rfl ?_
        refine w_aload_n dX8_tellRoman_108 rfl rfl ?_
        refine w_iload dX8_tellRoman_109 rfl ?_
        refine w_iconst dX8_tellRoman_111 (v := 2) (by decide) ?_
        refine w_iadd dX8_tellRoman_112 ?_
        obtain ⟨_, b13, hf⟩ := Option.bind_eq_some_iff.mp hf
        refine x_cnI hf (e_stVO (Yc := YJ1_charAt) (av := [.int (l6 + (2 : Int32))]) (st := [.int l3, .ref a11]) dX8_tellRoman_113 q2659 mJ1_charAt b13) mJ1_charAt.2.2.1 mJ1_charAt.2.2.2.2.1 (Nat.le_of_ble_eq_true rfl) (Nat.le_of_ble_eq_true rfl) (fun q hq => pJ1_charAt (by omega) hq) (fun q14 hf => ?_)
        refine x_cnI hf (e_stSN (Yc := YX1_other) (av := [.int q14.1]) (st := [.int l3, .ref a11]) dX8_tellRoman_116 q2579 mX1_other) mX1_other.2.2.1 mX1_other.2.2.2.2.1 (Nat.le_of_ble_eq_true rfl) (Nat.le_of_ble_eq_true rfl) (fun q hq => pX1_other (by omega) hq) (fun q15 hf => ?_)
        obtain ⟨h16, b17, hf⟩ := Option.bind_eq_some_iff.mp hf
        refine x_qI b17 dX8_tellRoman_119 ?_
        refine w_aload_n dX8_tellRoman_120 rfl rfl ?_
        obtain ⟨a18, b19, hf⟩ := Option.bind_eq_some_iff.mp hf
        refine GX8_35 b19 dX8_tellRoman_121 rfl ?_
        refine w_iload_n dX8_tellRoman_124 rfl rfl ?_
        refine w_iinc dX8_tellRoman_125 (v := ((l3 + (1 : Int32)) + (1 : Int32))) rfl rfl (by decide) (ls' := [some (.ref l0), none, some (.ref l2), some (.int ((l3 + (1 : Int32)) + (1 : Int32))), some (.int (l4 - x8)), some (.int l5), some (.int l6)]) rfl ?_
        refine w_aload_n dX8_tellRoman_128 rfl rfl ?_
        refine w_iload dX8_tellRoman_129 rfl ?_
        refine w_iconst dX8_tellRoman_131 (v := 3) (by decide) ?_
        refine w_iadd dX8_tellRoman_132 ?_
        obtain ⟨_, b20, hf⟩ := Option.bind_eq_some_iff.mp hf
        refine x_cnI hf (e_stVO (Yc := YJ1_charAt) (av := [.int (l6 + (3 : Int32))]) (st := [.int (l3 + (1 : Int32)), .ref a18]) dX8_tellRoman_133 q2659 mJ1_charAt b20) mJ1_charAt.2.2.1 mJ1_charAt.2.2.2.2.1 (Nat.le_of_ble_eq_true rfl) (Nat.le_of_ble_eq_true rfl) (fun q hq => pJ1_charAt (by omega) hq) (fun q21 hf => ?_)
        refine x_cnI hf (e_stSN (Yc := YX1_other) (av := [.int q21.1]) (st := [.int (l3 + (1 : Int32)), .ref a18]) dX8_tellRoman_136 q2579 mX1_other) mX1_other.2.2.1 mX1_other.2.2.2.2.1 (Nat.le_of_ble_eq_true rfl) (Nat.le_of_ble_eq_true rfl) (fun q hq => pX1_other (by omega) hq) (fun q22 hf => ?_)
        obtain ⟨h23, b24, hf⟩ := Option.bind_eq_some_iff.mp hf
        refine x_qI b24 dX8_tellRoman_139 ?_
        refine w_goto 48 dX8_tellRoman_140 (by decide) ?_
        exact (ih _ _ _ _ _ _ _ _ hf).to ⟨rfl, rfl, rfl, rfl, rfl, rfl, trivial⟩
      · replace hf := (if_neg (show ¬ (¬ (l5 - l5 / (2 : Int32) * (2 : Int32)) = 0) from (fun z => z c10))).symm.trans hf
        refine w_aload_n dX8_tellRoman_79 rfl rfl ?_
        obtain ⟨a25, b26, hf⟩ := Option.bind_eq_some_iff.mp hf
        refine GX8_35 b26 dX8_tellRoman_80 rfl ?_
        refine w_iload_n dX8_tellRoman_83 rfl rfl ?_
        refine w_iinc dX8_tellRoman_84 (v := (l3 + (1 : Int32))) rfl rfl (by decide) (ls' := [some (.ref l0), none, some (.ref l2), some (.int (l3 + (1 : Int32))), some (.int (l4 - x8)), some (.int l5), some (.int l6)]) rfl ?_
        refine w_aload_n dX8_tellRoman_87 rfl rfl ?_
        refine w_iload dX8_tellRoman_88 rfl ?_
        obtain ⟨_, b27, hf⟩ := Option.bind_eq_some_iff.mp hf
        refine x_cnI hf (e_stVO (Yc := YJ1_charAt) (av := [.int l6]) (st := [.int l3, .ref a25]) dX8_tellRoman_90 q2659 mJ1_charAt b27) mJ1_charAt.2.2.1 mJ1_charAt.2.2.2.2.1 (Nat.le_of_ble_eq_true rfl) (Nat.le_of_ble_eq_true rfl) (fun q hq => pJ1_charAt (by omega) hq) (fun q28 hf => ?_)
        refine x_cnI hf (e_stSN (Yc := YX1_other) (av := [.int q28.1]) (st := [.int l3, .ref a25]) dX8_tellRoman_93 q2579 mX1_other) mX1_other.2.2.1 mX1_other.2.2.2.2.1 (Nat.le_of_ble_eq_true rfl) (Nat.le_of_ble_eq_true rfl) (fun q hq => pX1_other (by omega) hq) (fun q29 hf => ?_)
        obtain ⟨h30, b31, hf⟩ := Option.bind_eq_some_iff.mp hf
        refine x_qI b31 dX8_tellRoman_96 ?_
        refine w_goto 48 dX8_tellRoman_97 (by decide) ?_
        exact (ih _ _ _ _ _ _ _ _ hf).to ⟨rfl, rfl, rfl, rfl, rfl, rfl, trivial⟩
def fX8_tellRoman_b33 (N : Nat) : Nat → Nat → Nat → Int32 → Int32 → Int32 → eH → Option ((Unit ⊕ Nat) × eH)
  | 0, _, _, _, _, _, _ => none
  | n + 1, l0, l2, l3, l4, l5, h =>
    if (13 : Int32) ≤ l5 then
      (g_A 7 h l0 7).bind fun a2 =>
      (g_A 7 h l0 19).bind fun a4 =>
      (k_ok 12 h a2).bind fun _ =>
      (fX13_putAll N a2 a4 l3 h).bind fun q7 =>
      some (.inl (), q7.2)
    else
      fX8_tellRoman_b48 N (fX8_tellRoman_b33 N n) N l0 l2 l3 l4 l5 ((4 : Int32) * (l5 / (2 : Int32))) h
theorem pX8_tellRoman_b33 {w : eW} {d : Nat} (hd : 8 ≤ d + 1) {N : Nat} : ∀ (n : Nat) l0 l2 l3 l4 l5 h q, fX8_tellRoman_b33 N n l0 l2 l3 l4 l5 h = some q → wp w (d + 1) YX8_tellRoman 33 [some (.ref l0), none, some (.ref l2), some (.int l3), some (.int l4), some (.int l5), none] [] h (e_is (e_rt c_V q)) := by
  intro n
  induction n with
  | zero => intro l0 l2 l3 l4 l5 h q hf; simp [fX8_tellRoman_b33] at hf
  | succ n ih =>
    intro l0 l2 l3 l4 l5 h q hf
    rw [fX8_tellRoman_b33] at hf
    refine w_iload dX8_tellRoman_33 rfl ?_
    refine w_bipush dX8_tellRoman_35 (v := 13) (by decide) ?_
    refine w_icmp_ge 149 dX8_tellRoman_37 (by decide) (fun c1 => ?_) (fun c1 => ?_)
    · replace hf := (if_pos (show (13 : Int32) ≤ l5 from c1)).symm.trans hf
      refine w_aload_n dX8_tellRoman_149 rfl rfl ?_
      obtain ⟨a2, b3, hf⟩ := Option.bind_eq_some_iff.mp hf
      refine GX8_93 b3 dX8_tellRoman_150 rfl ?_
      refine w_aload_n dX8_tellRoman_153 rfl rfl ?_
      obtain ⟨a4, b5, hf⟩ := Option.bind_eq_some_iff.mp hf
      refine GX8_35 b5 dX8_tellRoman_154 rfl ?_
      refine w_iload_n dX8_tellRoman_157 rfl rfl ?_
      obtain ⟨_, b6, hf⟩ := Option.bind_eq_some_iff.mp hf
      refine x_cnV hf (e_stV (Yc := YX13_putAll) (ci := 12) (av := [.ref a4, .int l3]) (st := []) dX8_tellRoman_158 q2586 mX13_putAll rfl (k_ok_some b6).1 (k_ok_some b6).2) mX13_putAll.2.2.1 mX13_putAll.2.2.2.2.1 (Nat.le_of_ble_eq_true rfl) (Nat.le_of_ble_eq_true rfl) (fun q hq => pX13_putAll (by omega) hq) (fun q7 hf => ?_)
      cases hf
      exact w_vret dX8_tellRoman_161 rfl rfl
    · replace hf := (if_neg (show ¬ ((13 : Int32) ≤ l5) from c1)).symm.trans hf
      refine w_iconst dX8_tellRoman_40 (v := 4) (by decide) ?_
      refine w_iload dX8_tellRoman_41 rfl ?_
      refine w_iconst dX8_tellRoman_43 (v := 2) (by decide) ?_
      refine w_idiv dX8_tellRoman_44 (by decide) ?_
      refine w_imul dX8_tellRoman_45 ?_
      refine w_istore dX8_tellRoman_46 (by decide) (ls' := [some (.ref l0), none, some (.ref l2), some (.int l3), some (.int l4), some (.int l5), some (.int ((4 : Int32) * (l5 / (2 : Int32))))]) rfl ?_
      exact (pX8_tellRoman_b48 hd ih N _ _ _ _ _ _ _ _ hf).to ⟨rfl, rfl, rfl, rfl, rfl, rfl, trivial⟩
def fX8_tellRoman_b16 (N : Nat) (l0 : Nat) (l1 : Int32) (s0 : Nat) (s1 : Int32) (h : eH) : Option ((Unit ⊕ Nat) × eH) :=
  (k_ok 3 h s0).bind fun _ =>
  t_B (fX4_want s0 s1 (7 : Int32) h) fun x2 h3 =>
  fX8_tellRoman_b33 N N l0 1000000101 (0 : Int32) l1 (0 : Int32) h3
theorem pX8_tellRoman_b16 {w : eW} {d : Nat} (hd : 8 ≤ d + 1) {N : Nat} {l0 : Nat} {l1 : Int32} {s0 : Nat} {s1 : Int32} {h : eH} {q} (hf : fX8_tellRoman_b16 N l0 l1 s0 s1 h = some q) : wp w (d + 1) YX8_tellRoman 16 [some (.ref l0), some (.int l1), none, none, none, none, none] [.int s1, .ref s0] h (e_is (e_rt c_V q)) := by
  unfold fX8_tellRoman_b16 at hf
  refine w_bipush dX8_tellRoman_16 (v := 7) (by decide) ?_
  obtain ⟨_, b1, hf⟩ := Option.bind_eq_some_iff.mp hf
  refine x_ctV hf (e_stV (Yc := YX4_want) (ci := 3) (av := [.int s1, .int (7 : Int32)]) (st := []) dX8_tellRoman_18 q2500 mX4_want rfl (k_ok_some b1).1 (k_ok_some b1).2) mX4_want.2.2.1 mX4_want.2.2.2.2.1 (Nat.le_of_ble_eq_true rfl) (Nat.le_of_ble_eq_true rfl) rfl (fun q hq => pX4_want (by omega) hq) (fun x2 h3 hf => ?_)
  refine x_ldcSw (k := 1) dX8_tellRoman_21 rfl ?_
  refine w_astore_n dX8_tellRoman_24 rfl (by decide) (ls' := [some (.ref l0), some (.int l1), some (.ref 1000000101), none, none, none, none]) rfl ?_
  refine w_iconst dX8_tellRoman_25 (v := 0) (by decide) ?_
  refine w_istore_n dX8_tellRoman_26 rfl (by decide) (ls' := [some (.ref l0), some (.int l1), some (.ref 1000000101), some (.int (0 : Int32)), none, none, none]) rfl ?_
  refine w_iload_n dX8_tellRoman_27 rfl rfl ?_
  refine w_istore dX8_tellRoman_28 (by decide) (ls' := [some (.ref l0), some (.int l1), some (.ref 1000000101), some (.int (0 : Int32)), some (.int l1), none, none]) rfl ?_
  refine w_iconst dX8_tellRoman_30 (v := 0) (by decide) ?_
  refine w_istore dX8_tellRoman_31 (by decide) (ls' := [some (.ref l0), some (.int l1), some (.ref 1000000101), some (.int (0 : Int32)), some (.int l1), some (.int (0 : Int32)), none]) rfl ?_
  exact (pX8_tellRoman_b33 hd N _ _ _ _ _ _ _ hf).to ⟨rfl, rfl, rfl, rfl, rfl, trivial⟩
def fX8_tellRoman (N : Nat) (this : Nat) (p0 : Int32) (h : eH) : Option ((Unit ⊕ Nat) × eH) :=
  (g_A 7 h this 0).bind fun a1 =>
  if (9999 : Int32) < p0 then
    fX8_tellRoman_b16 N this p0 a1 (0 : Int32) h
  else
    fX8_tellRoman_b16 N this p0 a1 (1 : Int32) h
theorem pX8_tellRoman {w : eW} {d : Nat} (hd : 8 ≤ d) {N : Nat} {this : Nat} {p0 : Int32} {h : eH} {q} (hf : fX8_tellRoman N this p0 h = some q) : wm w d YX8_tellRoman [.ref this, .int p0] h (e_is (e_rt c_V q)) := by
  obtain ⟨d, rfl⟩ : ∃ e, d = e + 1 := ⟨d - 1, by omega⟩
  show wp w (d + 1) YX8_tellRoman 0 [some (.ref this), some (.int p0), none, none, none, none, none] [] h _
  unfold fX8_tellRoman at hf
  refine w_aload_n dX8_tellRoman_0 rfl rfl ?_
  obtain ⟨a1, b2, hf⟩ := Option.bind_eq_some_iff.mp hf
  refine GX8_51 b2 dX8_tellRoman_1 rfl ?_
  refine w_iload_n dX8_tellRoman_4 rfl rfl ?_
  refine w_sipush dX8_tellRoman_5 (v := 9999) (by decide) ?_
  refine w_icmp_gt 15 dX8_tellRoman_8 (by decide) (fun c3 => ?_) (fun c3 => ?_)
  · replace hf := (if_pos (show (9999 : Int32) < p0 from c3)).symm.trans hf
    refine w_iconst dX8_tellRoman_15 (v := 0) (by decide) ?_
    exact (pX8_tellRoman_b16 hd hf).to ⟨rfl, rfl, trivial⟩
  · replace hf := (if_neg (show ¬ ((9999 : Int32) < p0) from c3)).symm.trans hf
    refine w_iconst dX8_tellRoman_11 (v := 1) (by decide) ?_
    refine w_goto 16 dX8_tellRoman_12 (by decide) ?_
    exact (pX8_tellRoman_b16 hd hf).to ⟨rfl, rfl, trivial⟩
abbrev cX8_tellValue : ByteArray := prog_4_method_20_code
def yX8_tellValue : MethodName := ⟨RX8, "tellValue", "(I)V"⟩
def YX8_tellValue : eY := (yX8_tellValue, cX8_tellValue, 3, none, [])
theorem mX8_tellValue : e_mv YX8_tellValue RX8 1 := ⟨q2662, qs77, q2663, by decide, by decide +kernel, (e_sig (by decide +kernel))⟩
theorem dX8_tellValue_0 : decode cX8_tellValue 0 = .ok (.aload_n 0, 1) := dc_42 (by decide +kernel)
theorem dX8_tellValue_1 : decode cX8_tellValue 1 = .ok (.iload_n 1, 1) := dc_27 (by decide +kernel)
theorem dX8_tellValue_2 : decode cX8_tellValue 2 = .ok (.invokevirtual 269, 3) := dc_182 (a := 1) (b := 13) (n := 269) (by decide +kernel)
theorem dX8_tellValue_5 : decode cX8_tellValue 5 = .ok (.ifCond .eq 39, 3) := dc_153 (a := 0) (b := 39) (v := 39) (by decide +kernel)
theorem dX8_tellValue_8 : decode cX8_tellValue 8 = .ok (.aload_n 0, 1) := dc_42 (by decide +kernel)
theorem dX8_tellValue_9 : decode cX8_tellValue 9 = .ok (.iload_n 1, 1) := dc_27 (by decide +kernel)
theorem dX8_tellValue_10 : decode cX8_tellValue 10 = .ok (.invokevirtual 272, 3) := dc_182 (a := 1) (b := 16) (n := 272) (by decide +kernel)
theorem dX8_tellValue_13 : decode cX8_tellValue 13 = .ok (.istore_n 2, 1) := dc_61 (by decide +kernel)
theorem dX8_tellValue_14 : decode cX8_tellValue 14 = .ok (.aload_n 0, 1) := dc_42 (by decide +kernel)
theorem dX8_tellValue_15 : decode cX8_tellValue 15 = .ok (.getfield 93, 3) := dc_180 (a := 0) (b := 93) (n := 93) (by decide +kernel)
theorem dX8_tellValue_18 : decode cX8_tellValue 18 = .ok (.bipush 112, 2) := dc_16 (a := 112) (v := 112) (by decide +kernel)
theorem dX8_tellValue_20 : decode cX8_tellValue 20 = .ok (.invokestatic 255, 3) := dc_184 (a := 0) (b := 255) (n := 255) (by decide +kernel)
theorem dX8_tellValue_23 : decode cX8_tellValue 23 = .ok (.invokevirtual 197, 3) := dc_182 (a := 0) (b := 197) (n := 197) (by decide +kernel)
theorem dX8_tellValue_26 : decode cX8_tellValue 26 = .ok (.aload_n 0, 1) := dc_42 (by decide +kernel)
theorem dX8_tellValue_27 : decode cX8_tellValue 27 = .ok (.getfield 93, 3) := dc_180 (a := 0) (b := 93) (n := 93) (by decide +kernel)
theorem dX8_tellValue_30 : decode cX8_tellValue 30 = .ok (.bipush 115, 2) := dc_16 (a := 115) (v := 115) (by decide +kernel)
theorem dX8_tellValue_32 : decode cX8_tellValue 32 = .ok (.invokestatic 255, 3) := dc_184 (a := 0) (b := 255) (n := 255) (by decide +kernel)
theorem dX8_tellValue_35 : decode cX8_tellValue 35 = .ok (.invokevirtual 197, 3) := dc_182 (a := 0) (b := 197) (n := 197) (by decide +kernel)
theorem dX8_tellValue_38 : decode cX8_tellValue 38 = .ok (.aload_n 0, 1) := dc_42 (by decide +kernel)
theorem dX8_tellValue_39 : decode cX8_tellValue 39 = .ok (.iload_n 2, 1) := dc_28 (by decide +kernel)
theorem dX8_tellValue_40 : decode cX8_tellValue 40 = .ok (.invokevirtual 228, 3) := dc_182 (a := 0) (b := 228) (n := 228) (by decide +kernel)
theorem dX8_tellValue_43 : decode cX8_tellValue 43 = .ok (.return_, 1) := dc_177 (by decide +kernel)
theorem dX8_tellValue_44 : decode cX8_tellValue 44 = .ok (.aload_n 0, 1) := dc_42 (by decide +kernel)
theorem dX8_tellValue_45 : decode cX8_tellValue 45 = .ok (.aload_n 0, 1) := dc_42 (by decide +kernel)
theorem dX8_tellValue_46 : decode cX8_tellValue 46 = .ok (.iload_n 1, 1) := dc_27 (by decide +kernel)
theorem dX8_tellValue_47 : decode cX8_tellValue 47 = .ok (.invokevirtual 275, 3) := dc_182 (a := 1) (b := 19) (n := 275) (by decide +kernel)
theorem dX8_tellValue_50 : decode cX8_tellValue 50 = .ok (.invokevirtual 228, 3) := dc_182 (a := 0) (b := 228) (n := 228) (by decide +kernel)
theorem dX8_tellValue_53 : decode cX8_tellValue 53 = .ok (.return_, 1) := dc_177 (by decide +kernel)
def fX8_tellValue (N : Nat) (rN : Nat → eH → Option ((Int32 ⊕ Nat) × eH)) (this : Nat) (p0 : Int32) (h : eH) : Option ((Unit ⊕ Nat) × eH) :=
  (k_ok 7 h this).bind fun _ =>
  (fX8_isSized this p0 h).bind fun q2 =>
  if q2.1 = 0 then
    (k_ok 7 q2.2 this).bind fun _ =>
    t_B (fX8_valued rN this p0 q2.2) fun x5 h6 =>
    (k_ok 7 h6 this).bind fun _ =>
    (fX8_tellNumber N this x5 h6).bind fun q8 =>
    some (.inl (), q8.2)
  else
    (k_ok 7 q2.2 this).bind fun _ =>
    t_B (fX8_sized rN this p0 q2.2) fun x10 h11 =>
    (g_A 7 h11 this 7).bind fun a12 =>
    (fX1_other (112 : Int32) h11).bind fun q14 =>
    (k_ok 12 q14.2 a12).bind fun _ =>
    (fX13_put a12 q14.1 q14.2).bind fun q16 =>
    (g_A 7 q16.2 this 7).bind fun a17 =>
    (fX1_other (115 : Int32) q16.2).bind fun q19 =>
    (k_ok 12 q19.2 a17).bind fun _ =>
    (fX13_put a17 q19.1 q19.2).bind fun q21 =>
    (k_ok 7 q21.2 this).bind fun _ =>
    (fX8_tellNumber N this x10 q21.2).bind fun q23 =>
    some (.inl (), q23.2)
theorem pX8_tellValue {w : eW} {d : Nat} {dr : Nat} (hd : dr + 11 ≤ d) (hdr : 12 ≤ dr) {N : Nat} {rN : Nat → eH → Option ((Int32 ⊕ Nat) × eH)} (hrN : ∀ a h q, rN a h = some q → wm w dr YX8_number [.ref a] h (e_is (e_rt c_I q))) {this : Nat} {p0 : Int32} {h : eH} {q} (hf : fX8_tellValue N rN this p0 h = some q) : wm w d YX8_tellValue [.ref this, .int p0] h (e_is (e_rt c_V q)) := by
  obtain ⟨d, rfl⟩ : ∃ e, d = e + 1 := ⟨d - 1, by omega⟩
  show wp w (d + 1) YX8_tellValue 0 [some (.ref this), some (.int p0), none] [] h _
  unfold fX8_tellValue at hf
  refine w_aload_n dX8_tellValue_0 rfl rfl ?_
  refine w_iload_n dX8_tellValue_1 rfl rfl ?_
  obtain ⟨_, b1, hf⟩ := Option.bind_eq_some_iff.mp hf
  refine x_cnI hf (e_stV (Yc := YX8_isSized) (ci := 7) (av := [.int p0]) (st := []) dX8_tellValue_2 q2615 mX8_isSized rfl (k_ok_some b1).1 (k_ok_some b1).2) mX8_isSized.2.2.1 mX8_isSized.2.2.2.2.1 (Nat.le_of_ble_eq_true rfl) (Nat.le_of_ble_eq_true rfl) (fun q hq => pX8_isSized (by omega) hq) (fun q2 hf => ?_)
  refine w_if_eq 44 dX8_tellValue_5 (by decide) (fun c3 => ?_) (fun c3 => ?_)
  · replace hf := (if_pos (show q2.1 = 0 from c3)).symm.trans hf
    refine w_aload_n dX8_tellValue_44 rfl rfl ?_
    refine w_aload_n dX8_tellValue_45 rfl rfl ?_
    refine w_iload_n dX8_tellValue_46 rfl rfl ?_
    obtain ⟨_, b4, hf⟩ := Option.bind_eq_some_iff.mp hf
    refine x_ctI hf (e_stV (Yc := YX8_valued) (ci := 7) (av := [.int p0]) (st := [.ref this]) dX8_tellValue_47 q2642 mX8_valued rfl (k_ok_some b4).1 (k_ok_some b4).2) mX8_valued.2.2.1 mX8_valued.2.2.2.2.1 (Nat.le_of_ble_eq_true rfl) (Nat.le_of_ble_eq_true rfl) rfl (fun q hq => pX8_valued (by omega) hdr hrN hq) (fun x5 h6 hf => ?_)
    obtain ⟨_, b7, hf⟩ := Option.bind_eq_some_iff.mp hf
    refine x_cnV hf (e_stV (Yc := YX8_tellNumber) (ci := 7) (av := [.int x5]) (st := []) dX8_tellValue_50 q2650 mX8_tellNumber rfl (k_ok_some b7).1 (k_ok_some b7).2) mX8_tellNumber.2.2.1 mX8_tellNumber.2.2.2.2.1 (Nat.le_of_ble_eq_true rfl) (Nat.le_of_ble_eq_true rfl) (fun q hq => pX8_tellNumber (by omega) hq) (fun q8 hf => ?_)
    cases hf
    exact w_vret dX8_tellValue_53 rfl rfl
  · replace hf := (if_neg (show ¬ (q2.1 = 0) from c3)).symm.trans hf
    refine w_aload_n dX8_tellValue_8 rfl rfl ?_
    refine w_iload_n dX8_tellValue_9 rfl rfl ?_
    obtain ⟨_, b9, hf⟩ := Option.bind_eq_some_iff.mp hf
    refine x_ctI hf (e_stV (Yc := YX8_sized) (ci := 7) (av := [.int p0]) (st := []) dX8_tellValue_10 q2625 mX8_sized rfl (k_ok_some b9).1 (k_ok_some b9).2) mX8_sized.2.2.1 mX8_sized.2.2.2.2.1 (Nat.le_of_ble_eq_true rfl) (Nat.le_of_ble_eq_true rfl) rfl (fun q hq => pX8_sized (by omega) hdr hrN hq) (fun x10 h11 hf => ?_)
    refine w_istore_n dX8_tellValue_13 rfl (by decide) (ls' := [some (.ref this), some (.int p0), some (.int x10)]) rfl ?_
    refine w_aload_n dX8_tellValue_14 rfl rfl ?_
    obtain ⟨a12, b13, hf⟩ := Option.bind_eq_some_iff.mp hf
    refine GX8_93 b13 dX8_tellValue_15 rfl ?_
    refine w_bipush dX8_tellValue_18 (v := 112) (by decide) ?_
    refine x_cnI hf (e_stSN (Yc := YX1_other) (av := [.int (112 : Int32)]) (st := [.ref a12]) dX8_tellValue_20 q2579 mX1_other) mX1_other.2.2.1 mX1_other.2.2.2.2.1 (Nat.le_of_ble_eq_true rfl) (Nat.le_of_ble_eq_true rfl) (fun q hq => pX1_other (by omega) hq) (fun q14 hf => ?_)
    obtain ⟨_, b15, hf⟩ := Option.bind_eq_some_iff.mp hf
    refine x_cnV hf (e_stV (Yc := YX13_put) (ci := 12) (av := [.int q14.1]) (st := []) dX8_tellValue_23 q2558 mX13_put rfl (k_ok_some b15).1 (k_ok_some b15).2) mX13_put.2.2.1 mX13_put.2.2.2.2.1 (Nat.le_of_ble_eq_true rfl) (Nat.le_of_ble_eq_true rfl) (fun q hq => pX13_put (by omega) hq) (fun q16 hf => ?_)
    refine w_aload_n dX8_tellValue_26 rfl rfl ?_
    obtain ⟨a17, b18, hf⟩ := Option.bind_eq_some_iff.mp hf
    refine GX8_93 b18 dX8_tellValue_27 rfl ?_
    refine w_bipush dX8_tellValue_30 (v := 115) (by decide) ?_
    refine x_cnI hf (e_stSN (Yc := YX1_other) (av := [.int (115 : Int32)]) (st := [.ref a17]) dX8_tellValue_32 q2579 mX1_other) mX1_other.2.2.1 mX1_other.2.2.2.2.1 (Nat.le_of_ble_eq_true rfl) (Nat.le_of_ble_eq_true rfl) (fun q hq => pX1_other (by omega) hq) (fun q19 hf => ?_)
    obtain ⟨_, b20, hf⟩ := Option.bind_eq_some_iff.mp hf
    refine x_cnV hf (e_stV (Yc := YX13_put) (ci := 12) (av := [.int q19.1]) (st := []) dX8_tellValue_35 q2558 mX13_put rfl (k_ok_some b20).1 (k_ok_some b20).2) mX13_put.2.2.1 mX13_put.2.2.2.2.1 (Nat.le_of_ble_eq_true rfl) (Nat.le_of_ble_eq_true rfl) (fun q hq => pX13_put (by omega) hq) (fun q21 hf => ?_)
    refine w_aload_n dX8_tellValue_38 rfl rfl ?_
    refine w_iload_n dX8_tellValue_39 rfl rfl ?_
    obtain ⟨_, b22, hf⟩ := Option.bind_eq_some_iff.mp hf
    refine x_cnV hf (e_stV (Yc := YX8_tellNumber) (ci := 7) (av := [.int x10]) (st := []) dX8_tellValue_40 q2650 mX8_tellNumber rfl (k_ok_some b22).1 (k_ok_some b22).2) mX8_tellNumber.2.2.1 mX8_tellNumber.2.2.2.2.1 (Nat.le_of_ble_eq_true rfl) (Nat.le_of_ble_eq_true rfl) (fun q hq => pX8_tellNumber (by omega) hq) (fun q23 hf => ?_)
    cases hf
    exact w_vret dX8_tellValue_43 rfl rfl
abbrev cX8_turn : ByteArray := prog_4_method_65_code
def yX8_turn : MethodName := ⟨RX8, "turn", "(II)V"⟩
def YX8_turn : eY := (yX8_turn, cX8_turn, 5, none, [])
theorem mX8_turn : e_mv YX8_turn RX8 2 := ⟨q2666, qs78, q2667, by decide, by decide +kernel, (e_sig (by decide +kernel))⟩
theorem dX8_turn_0 : decode cX8_turn 0 = .ok (.aload_n 0, 1) := dc_42 (by decide +kernel)
theorem dX8_turn_1 : decode cX8_turn 1 = .ok (.getfield 51, 3) := dc_180 (a := 0) (b := 51) (n := 51) (by decide +kernel)
theorem dX8_turn_4 : decode cX8_turn 4 = .ok (.aload_n 0, 1) := dc_42 (by decide +kernel)
theorem dX8_turn_5 : decode cX8_turn 5 = .ok (.getfield 128, 3) := dc_180 (a := 0) (b := 128) (n := 128) (by decide +kernel)
theorem dX8_turn_8 : decode cX8_turn 8 = .ok (.ifCond .le 7, 3) := dc_158 (a := 0) (b := 7) (v := 7) (by decide +kernel)
theorem dX8_turn_11 : decode cX8_turn 11 = .ok (.iconst 1, 1) := dc_4 (by decide +kernel)
theorem dX8_turn_12 : decode cX8_turn 12 = .ok (.goto 4, 3) := dc_167 (a := 0) (b := 4) (v := 4) (by decide +kernel)
theorem dX8_turn_15 : decode cX8_turn 15 = .ok (.iconst 0, 1) := dc_3 (by decide +kernel)
theorem dX8_turn_16 : decode cX8_turn 16 = .ok (.bipush 8, 2) := dc_16 (a := 8) (v := 8) (by decide +kernel)
theorem dX8_turn_18 : decode cX8_turn 18 = .ok (.invokevirtual 145, 3) := dc_182 (a := 0) (b := 145) (n := 145) (by decide +kernel)
theorem dX8_turn_21 : decode cX8_turn 21 = .ok (.aload_n 0, 1) := dc_42 (by decide +kernel)
theorem dX8_turn_22 : decode cX8_turn 22 = .ok (.getfield 128, 3) := dc_180 (a := 0) (b := 128) (n := 128) (by decide +kernel)
theorem dX8_turn_25 : decode cX8_turn 25 = .ok (.iconst 1, 1) := dc_4 (by decide +kernel)
theorem dX8_turn_26 : decode cX8_turn 26 = .ok (.isub, 1) := dc_100 (by decide +kernel)
theorem dX8_turn_27 : decode cX8_turn 27 = .ok (.istore_n 3, 1) := dc_62 (by decide +kernel)
theorem dX8_turn_28 : decode cX8_turn 28 = .ok (.aload_n 0, 1) := dc_42 (by decide +kernel)
theorem dX8_turn_29 : decode cX8_turn 29 = .ok (.getfield 18, 3) := dc_180 (a := 0) (b := 18) (n := 18) (by decide +kernel)
theorem dX8_turn_32 : decode cX8_turn 32 = .ok (.iload_n 3, 1) := dc_29 (by decide +kernel)
theorem dX8_turn_33 : decode cX8_turn 33 = .ok (.baload, 1) := dc_51 (by decide +kernel)
theorem dX8_turn_34 : decode cX8_turn 34 = .ok (.ifCond .ne 22, 3) := dc_154 (a := 0) (b := 22) (v := 22) (by decide +kernel)
theorem dX8_turn_37 : decode cX8_turn 37 = .ok (.aload_n 0, 1) := dc_42 (by decide +kernel)
theorem dX8_turn_38 : decode cX8_turn 38 = .ok (.getfield 93, 3) := dc_180 (a := 0) (b := 93) (n := 93) (by decide +kernel)
theorem dX8_turn_41 : decode cX8_turn 41 = .ok (.iload_n 1, 1) := dc_27 (by decide +kernel)
theorem dX8_turn_42 : decode cX8_turn 42 = .ok (.invokevirtual 197, 3) := dc_182 (a := 0) (b := 197) (n := 197) (by decide +kernel)
theorem dX8_turn_45 : decode cX8_turn 45 = .ok (.aload_n 0, 1) := dc_42 (by decide +kernel)
theorem dX8_turn_46 : decode cX8_turn 46 = .ok (.getfield 93, 3) := dc_180 (a := 0) (b := 93) (n := 93) (by decide +kernel)
theorem dX8_turn_49 : decode cX8_turn 49 = .ok (.ldc_w 535, 3) := dc_19 (a := 2) (b := 23) (n := 535) (by decide +kernel)
theorem dX8_turn_52 : decode cX8_turn 52 = .ok (.invokevirtual 197, 3) := dc_182 (a := 0) (b := 197) (n := 197) (by decide +kernel)
theorem dX8_turn_55 : decode cX8_turn 55 = .ok (.return_, 1) := dc_177 (by decide +kernel)
theorem dX8_turn_56 : decode cX8_turn 56 = .ok (.iload_n 2, 1) := dc_28 (by decide +kernel)
theorem dX8_turn_57 : decode cX8_turn 57 = .ok (.bipush 21, 2) := dc_16 (a := 21) (v := 21) (by decide +kernel)
theorem dX8_turn_59 : decode cX8_turn 59 = .ok (.if_icmp .ne 14, 3) := dc_160 (a := 0) (b := 14) (v := 14) (by decide +kernel)
theorem dX8_turn_62 : decode cX8_turn 62 = .ok (.aload_n 0, 1) := dc_42 (by decide +kernel)
theorem dX8_turn_63 : decode cX8_turn 63 = .ok (.dup, 1) := dc_89 (by decide +kernel)
theorem dX8_turn_64 : decode cX8_turn 64 = .ok (.getfield 128, 3) := dc_180 (a := 0) (b := 128) (n := 128) (by decide +kernel)
theorem dX8_turn_67 : decode cX8_turn 67 = .ok (.iconst 1, 1) := dc_4 (by decide +kernel)
theorem dX8_turn_68 : decode cX8_turn 68 = .ok (.isub, 1) := dc_100 (by decide +kernel)
theorem dX8_turn_69 : decode cX8_turn 69 = .ok (.putfield 128, 3) := dc_181 (a := 0) (b := 128) (n := 128) (by decide +kernel)
theorem dX8_turn_72 : decode cX8_turn 72 = .ok (.return_, 1) := dc_177 (by decide +kernel)
theorem dX8_turn_73 : decode cX8_turn 73 = .ok (.aload_n 0, 1) := dc_42 (by decide +kernel)
theorem dX8_turn_74 : decode cX8_turn 74 = .ok (.getfield 51, 3) := dc_180 (a := 0) (b := 51) (n := 51) (by decide +kernel)
theorem dX8_turn_77 : decode cX8_turn 77 = .ok (.aload_n 0, 1) := dc_42 (by decide +kernel)
theorem dX8_turn_78 : decode cX8_turn 78 = .ok (.getfield 25, 3) := dc_180 (a := 0) (b := 25) (n := 25) (by decide +kernel)
theorem dX8_turn_81 : decode cX8_turn 81 = .ok (.iload_n 3, 1) := dc_29 (by decide +kernel)
theorem dX8_turn_82 : decode cX8_turn 82 = .ok (.baload, 1) := dc_51 (by decide +kernel)
theorem dX8_turn_83 : decode cX8_turn 83 = .ok (.ifCond .ne 22, 3) := dc_154 (a := 0) (b := 22) (v := 22) (by decide +kernel)
theorem dX8_turn_86 : decode cX8_turn 86 = .ok (.iload_n 2, 1) := dc_28 (by decide +kernel)
theorem dX8_turn_87 : decode cX8_turn 87 = .ok (.bipush 20, 2) := dc_16 (a := 20) (v := 20) (by decide +kernel)
theorem dX8_turn_89 : decode cX8_turn 89 = .ok (.if_icmp .ne 12, 3) := dc_160 (a := 0) (b := 12) (v := 12) (by decide +kernel)
theorem dX8_turn_92 : decode cX8_turn 92 = .ok (.aload_n 0, 1) := dc_42 (by decide +kernel)
theorem dX8_turn_93 : decode cX8_turn 93 = .ok (.getfield 22, 3) := dc_180 (a := 0) (b := 22) (n := 22) (by decide +kernel)
theorem dX8_turn_96 : decode cX8_turn 96 = .ok (.iload_n 3, 1) := dc_29 (by decide +kernel)
theorem dX8_turn_97 : decode cX8_turn 97 = .ok (.baload, 1) := dc_51 (by decide +kernel)
theorem dX8_turn_98 : decode cX8_turn 98 = .ok (.ifCond .eq 7, 3) := dc_153 (a := 0) (b := 7) (v := 7) (by decide +kernel)
theorem dX8_turn_101 : decode cX8_turn 101 = .ok (.iconst 1, 1) := dc_4 (by decide +kernel)
theorem dX8_turn_102 : decode cX8_turn 102 = .ok (.goto 4, 3) := dc_167 (a := 0) (b := 4) (v := 4) (by decide +kernel)
theorem dX8_turn_105 : decode cX8_turn 105 = .ok (.iconst 0, 1) := dc_3 (by decide +kernel)
theorem dX8_turn_106 : decode cX8_turn 106 = .ok (.bipush 8, 2) := dc_16 (a := 8) (v := 8) (by decide +kernel)
theorem dX8_turn_108 : decode cX8_turn 108 = .ok (.invokevirtual 145, 3) := dc_182 (a := 0) (b := 145) (n := 145) (by decide +kernel)
theorem dX8_turn_111 : decode cX8_turn 111 = .ok (.aload_n 0, 1) := dc_42 (by decide +kernel)
theorem dX8_turn_112 : decode cX8_turn 112 = .ok (.invokevirtual 536, 3) := dc_182 (a := 2) (b := 24) (n := 536) (by decide +kernel)
theorem dX8_turn_115 : decode cX8_turn 115 = .ok (.istore 4, 2) := dc_54 (a := 4) (by decide +kernel)
theorem dX8_turn_117 : decode cX8_turn 117 = .ok (.iload 4, 2) := dc_21 (a := 4) (by decide +kernel)
theorem dX8_turn_119 : decode cX8_turn 119 = .ok (.bipush 21, 2) := dc_16 (a := 21) (v := 21) (by decide +kernel)
theorem dX8_turn_121 : decode cX8_turn 121 = .ok (.if_icmp .eq 12, 3) := dc_159 (a := 0) (b := 12) (v := 12) (by decide +kernel)
theorem dX8_turn_124 : decode cX8_turn 124 = .ok (.aload_n 0, 1) := dc_42 (by decide +kernel)
theorem dX8_turn_125 : decode cX8_turn 125 = .ok (.invokevirtual 536, 3) := dc_182 (a := 2) (b := 24) (n := 536) (by decide +kernel)
theorem dX8_turn_128 : decode cX8_turn 128 = .ok (.istore 4, 2) := dc_54 (a := 4) (by decide +kernel)
theorem dX8_turn_130 : decode cX8_turn 130 = .ok (.goto (-13), 3) := dc_167 (a := 255) (b := 243) (v := -13) (by decide +kernel)
theorem dX8_turn_133 : decode cX8_turn 133 = .ok (.aload_n 0, 1) := dc_42 (by decide +kernel)
theorem dX8_turn_134 : decode cX8_turn 134 = .ok (.dup, 1) := dc_89 (by decide +kernel)
theorem dX8_turn_135 : decode cX8_turn 135 = .ok (.getfield 128, 3) := dc_180 (a := 0) (b := 128) (n := 128) (by decide +kernel)
theorem dX8_turn_138 : decode cX8_turn 138 = .ok (.iconst 1, 1) := dc_4 (by decide +kernel)
theorem dX8_turn_139 : decode cX8_turn 139 = .ok (.isub, 1) := dc_100 (by decide +kernel)
theorem dX8_turn_140 : decode cX8_turn 140 = .ok (.putfield 128, 3) := dc_181 (a := 0) (b := 128) (n := 128) (by decide +kernel)
theorem dX8_turn_143 : decode cX8_turn 143 = .ok (.return_, 1) := dc_177 (by decide +kernel)
def fX8_turn_b117 (N : Nat) : Nat → Nat → Int32 → eH → Option ((Unit ⊕ Nat) × eH)
  | 0, _, _, _ => none
  | n + 1, l0, l4, h =>
    if l4 = (21 : Int32) then
      (g_I 7 h l0 15).bind fun x2 =>
      (p_V 7 h l0 15 (.int (x2 - (1 : Int32)))).bind fun h4 =>
      some (.inl (), h4)
    else
      (k_ok 7 h l0).bind fun _ =>
      t_B (fX8_pass N l0 h) fun x7 h8 =>
      fX8_turn_b117 N n l0 x7 h8
theorem pX8_turn_b117 {w : eW} {d : Nat} (hd : 15 ≤ d + 1) {N : Nat} : ∀ (n : Nat) l0 l4 h q, fX8_turn_b117 N n l0 l4 h = some q → wp w (d + 1) YX8_turn 117 [some (.ref l0), none, none, none, some (.int l4)] [] h (e_is (e_rt c_V q)) := by
  intro n
  induction n with
  | zero => intro l0 l4 h q hf; simp [fX8_turn_b117] at hf
  | succ n ih =>
    intro l0 l4 h q hf
    rw [fX8_turn_b117] at hf
    refine w_iload dX8_turn_117 rfl ?_
    refine w_bipush dX8_turn_119 (v := 21) (by decide) ?_
    refine w_icmp_eq 133 dX8_turn_121 (by decide) (fun c1 => ?_) (fun c1 => ?_)
    · replace hf := (if_pos (show l4 = (21 : Int32) from c1)).symm.trans hf
      refine w_aload_n dX8_turn_133 rfl rfl ?_
      refine w_dup dX8_turn_134 rfl ?_
      obtain ⟨x2, b3, hf⟩ := Option.bind_eq_some_iff.mp hf
      refine GX8_128 b3 dX8_turn_135 rfl ?_
      refine w_iconst dX8_turn_138 (v := 1) (by decide) ?_
      refine w_isub dX8_turn_139 ?_
      obtain ⟨h4, b5, hf⟩ := Option.bind_eq_some_iff.mp hf
      refine SX8_128 b5 dX8_turn_140 rfl ?_
      cases hf
      exact w_vret dX8_turn_143 rfl rfl
    · replace hf := (if_neg (show ¬ (l4 = (21 : Int32)) from c1)).symm.trans hf
      refine w_aload_n dX8_turn_124 rfl rfl ?_
      obtain ⟨_, b6, hf⟩ := Option.bind_eq_some_iff.mp hf
      refine x_ctI hf (e_stV (Yc := YX8_pass) (ci := 7) (av := []) (st := []) dX8_turn_125 q2669 mX8_pass rfl (k_ok_some b6).1 (k_ok_some b6).2) mX8_pass.2.2.1 mX8_pass.2.2.2.2.1 (Nat.le_of_ble_eq_true rfl) (Nat.le_of_ble_eq_true rfl) rfl (fun q hq => pX8_pass (by omega) hq) (fun x7 h8 hf => ?_)
      refine w_istore dX8_turn_128 (by decide) (ls' := [some (.ref l0), none, none, none, some (.int x7)]) rfl ?_
      refine w_goto 117 dX8_turn_130 (by decide) ?_
      exact (ih _ _ _ _ hf).to ⟨rfl, rfl, trivial⟩
def fX8_turn_b106 (N : Nat) (l0 : Nat) (s0 : Nat) (s1 : Int32) (h : eH) : Option ((Unit ⊕ Nat) × eH) :=
  (k_ok 3 h s0).bind fun _ =>
  t_B (fX4_want s0 s1 (8 : Int32) h) fun x2 h3 =>
  (k_ok 7 h3 l0).bind fun _ =>
  t_B (fX8_pass N l0 h3) fun x5 h6 =>
  fX8_turn_b117 N N l0 x5 h6
theorem pX8_turn_b106 {w : eW} {d : Nat} (hd : 15 ≤ d + 1) {N : Nat} {l0 : Nat} {s0 : Nat} {s1 : Int32} {h : eH} {q} (hf : fX8_turn_b106 N l0 s0 s1 h = some q) : wp w (d + 1) YX8_turn 106 [some (.ref l0), none, none, none, none] [.int s1, .ref s0] h (e_is (e_rt c_V q)) := by
  unfold fX8_turn_b106 at hf
  refine w_bipush dX8_turn_106 (v := 8) (by decide) ?_
  obtain ⟨_, b1, hf⟩ := Option.bind_eq_some_iff.mp hf
  refine x_ctV hf (e_stV (Yc := YX4_want) (ci := 3) (av := [.int s1, .int (8 : Int32)]) (st := []) dX8_turn_108 q2500 mX4_want rfl (k_ok_some b1).1 (k_ok_some b1).2) mX4_want.2.2.1 mX4_want.2.2.2.2.1 (Nat.le_of_ble_eq_true rfl) (Nat.le_of_ble_eq_true rfl) rfl (fun q hq => pX4_want (by omega) hq) (fun x2 h3 hf => ?_)
  refine w_aload_n dX8_turn_111 rfl rfl ?_
  obtain ⟨_, b4, hf⟩ := Option.bind_eq_some_iff.mp hf
  refine x_ctI hf (e_stV (Yc := YX8_pass) (ci := 7) (av := []) (st := []) dX8_turn_112 q2669 mX8_pass rfl (k_ok_some b4).1 (k_ok_some b4).2) mX8_pass.2.2.1 mX8_pass.2.2.2.2.1 (Nat.le_of_ble_eq_true rfl) (Nat.le_of_ble_eq_true rfl) rfl (fun q hq => pX8_pass (by omega) hq) (fun x5 h6 hf => ?_)
  refine w_istore dX8_turn_115 (by decide) (ls' := [some (.ref l0), none, none, none, some (.int x5)]) rfl ?_
  exact (pX8_turn_b117 hd N _ _ _ _ hf).to ⟨rfl, rfl, trivial⟩
def fX8_turn_b101 (N : Nat) (l0 : Nat) (s0 : Nat) (h : eH) : Option ((Unit ⊕ Nat) × eH) :=
  fX8_turn_b106 N l0 s0 (1 : Int32) h
theorem pX8_turn_b101 {w : eW} {d : Nat} (hd : 15 ≤ d + 1) {N : Nat} {l0 : Nat} {s0 : Nat} {h : eH} {q} (hf : fX8_turn_b101 N l0 s0 h = some q) : wp w (d + 1) YX8_turn 101 [some (.ref l0), none, none, none, none] [.ref s0] h (e_is (e_rt c_V q)) := by
  unfold fX8_turn_b101 at hf
  refine w_iconst dX8_turn_101 (v := 1) (by decide) ?_
  refine w_goto 106 dX8_turn_102 (by decide) ?_
  exact (pX8_turn_b106 hd hf).to ⟨rfl, trivial⟩
def fX8_turn_b105 (N : Nat) (l0 : Nat) (s0 : Nat) (h : eH) : Option ((Unit ⊕ Nat) × eH) :=
  fX8_turn_b106 N l0 s0 (0 : Int32) h
theorem pX8_turn_b105 {w : eW} {d : Nat} (hd : 15 ≤ d + 1) {N : Nat} {l0 : Nat} {s0 : Nat} {h : eH} {q} (hf : fX8_turn_b105 N l0 s0 h = some q) : wp w (d + 1) YX8_turn 105 [some (.ref l0), none, none, none, none] [.ref s0] h (e_is (e_rt c_V q)) := by
  unfold fX8_turn_b105 at hf
  refine w_iconst dX8_turn_105 (v := 0) (by decide) ?_
  exact (pX8_turn_b106 hd hf).to ⟨rfl, trivial⟩
def fX8_turn_b16 (N : Nat) (l0 : Nat) (l1 : Int32) (l2 : Int32) (s0 : Nat) (s1 : Int32) (h : eH) : Option ((Unit ⊕ Nat) × eH) :=
  (k_ok 3 h s0).bind fun _ =>
  t_B (fX4_want s0 s1 (8 : Int32) h) fun x2 h3 =>
  (g_I 7 h3 l0 15).bind fun x4 =>
  (g_A 7 h3 l0 12).bind fun a6 =>
  (r_I 103 h3 a6 (x4 - (1 : Int32))).bind fun x8 =>
  if ¬ x8 = 0 then
    if ¬ l2 = (21 : Int32) then
      (g_A 7 h3 l0 0).bind fun a12 =>
      (g_A 7 h3 l0 14).bind fun a14 =>
      (r_I 103 h3 a14 (x4 - (1 : Int32))).bind fun x16 =>
      if ¬ x16 = 0 then
        fX8_turn_b105 N l0 a12 h3
      else
        if ¬ l2 = (20 : Int32) then
          fX8_turn_b101 N l0 a12 h3
        else
          (g_A 7 h3 l0 13).bind fun a20 =>
          (r_I 103 h3 a20 (x4 - (1 : Int32))).bind fun x22 =>
          if x22 = 0 then
            fX8_turn_b105 N l0 a12 h3
          else
            fX8_turn_b101 N l0 a12 h3
    else
      (g_I 7 h3 l0 15).bind fun x25 =>
      (p_V 7 h3 l0 15 (.int (x25 - (1 : Int32)))).bind fun h27 =>
      some (.inl (), h27)
  else
    (g_A 7 h3 l0 7).bind fun a29 =>
    (k_ok 12 h3 a29).bind fun _ =>
    (fX13_put a29 l1 h3).bind fun q32 =>
    (g_A 7 q32.2 l0 7).bind fun a33 =>
    (k_ok 12 q32.2 a33).bind fun _ =>
    (fX13_put a33 (1052950 : Int32) q32.2).bind fun q36 =>
    some (.inl (), q36.2)
theorem pX8_turn_b16 {w : eW} {d : Nat} (hd : 15 ≤ d + 1) {N : Nat} {l0 : Nat} {l1 : Int32} {l2 : Int32} {s0 : Nat} {s1 : Int32} {h : eH} {q} (hf : fX8_turn_b16 N l0 l1 l2 s0 s1 h = some q) : wp w (d + 1) YX8_turn 16 [some (.ref l0), some (.int l1), some (.int l2), none, none] [.int s1, .ref s0] h (e_is (e_rt c_V q)) := by
  unfold fX8_turn_b16 at hf
  refine w_bipush dX8_turn_16 (v := 8) (by decide) ?_
  obtain ⟨_, b1, hf⟩ := Option.bind_eq_some_iff.mp hf
  refine x_ctV hf (e_stV (Yc := YX4_want) (ci := 3) (av := [.int s1, .int (8 : Int32)]) (st := []) dX8_turn_18 q2500 mX4_want rfl (k_ok_some b1).1 (k_ok_some b1).2) mX4_want.2.2.1 mX4_want.2.2.2.2.1 (Nat.le_of_ble_eq_true rfl) (Nat.le_of_ble_eq_true rfl) rfl (fun q hq => pX4_want (by omega) hq) (fun x2 h3 hf => ?_)
  refine w_aload_n dX8_turn_21 rfl rfl ?_
  obtain ⟨x4, b5, hf⟩ := Option.bind_eq_some_iff.mp hf
  refine GX8_128 b5 dX8_turn_22 rfl ?_
  refine w_iconst dX8_turn_25 (v := 1) (by decide) ?_
  refine w_isub dX8_turn_26 ?_
  refine w_istore_n dX8_turn_27 rfl (by decide) (ls' := [some (.ref l0), some (.int l1), some (.int l2), some (.int (x4 - (1 : Int32))), none]) rfl ?_
  refine w_aload_n dX8_turn_28 rfl rfl ?_
  obtain ⟨a6, b7, hf⟩ := Option.bind_eq_some_iff.mp hf
  refine GX8_18 b7 dX8_turn_29 rfl ?_
  refine w_iload_n dX8_turn_32 rfl rfl ?_
  obtain ⟨x8, b9, hf⟩ := Option.bind_eq_some_iff.mp hf
  refine x_rZ b9 dX8_turn_33 ?_
  refine w_if_ne 56 dX8_turn_34 (by decide) (fun c10 => ?_) (fun c10 => ?_)
  · replace hf := (if_pos (show ¬ x8 = 0 from c10)).symm.trans hf
    refine w_iload_n dX8_turn_56 rfl rfl ?_
    refine w_bipush dX8_turn_57 (v := 21) (by decide) ?_
    refine w_icmp_ne 73 dX8_turn_59 (by decide) (fun c11 => ?_) (fun c11 => ?_)
    · replace hf := (if_pos (show ¬ l2 = (21 : Int32) from c11)).symm.trans hf
      refine w_aload_n dX8_turn_73 rfl rfl ?_
      obtain ⟨a12, b13, hf⟩ := Option.bind_eq_some_iff.mp hf
      refine GX8_51 b13 dX8_turn_74 rfl ?_
      refine w_aload_n dX8_turn_77 rfl rfl ?_
      obtain ⟨a14, b15, hf⟩ := Option.bind_eq_some_iff.mp hf
      refine GX8_25 b15 dX8_turn_78 rfl ?_
      refine w_iload_n dX8_turn_81 rfl rfl ?_
      obtain ⟨x16, b17, hf⟩ := Option.bind_eq_some_iff.mp hf
      refine x_rZ b17 dX8_turn_82 ?_
      refine w_if_ne 105 dX8_turn_83 (by decide) (fun c18 => ?_) (fun c18 => ?_)
      · replace hf := (if_pos (show ¬ x16 = 0 from c18)).symm.trans hf
        exact (pX8_turn_b105 hd hf).to ⟨rfl, trivial⟩
      · replace hf := (if_neg (show ¬ (¬ x16 = 0) from (fun z => z c18))).symm.trans hf
        refine w_iload_n dX8_turn_86 rfl rfl ?_
        refine w_bipush dX8_turn_87 (v := 20) (by decide) ?_
        refine w_icmp_ne 101 dX8_turn_89 (by decide) (fun c19 => ?_) (fun c19 => ?_)
        · replace hf := (if_pos (show ¬ l2 = (20 : Int32) from c19)).symm.trans hf
          exact (pX8_turn_b101 hd hf).to ⟨rfl, trivial⟩
        · replace hf := (if_neg (show ¬ (¬ l2 = (20 : Int32)) from (fun z => z c19))).symm.trans hf
          refine w_aload_n dX8_turn_92 rfl rfl ?_
          obtain ⟨a20, b21, hf⟩ := Option.bind_eq_some_iff.mp hf
          refine GX8_22 b21 dX8_turn_93 rfl ?_
          refine w_iload_n dX8_turn_96 rfl rfl ?_
          obtain ⟨x22, b23, hf⟩ := Option.bind_eq_some_iff.mp hf
          refine x_rZ b23 dX8_turn_97 ?_
          refine w_if_eq 105 dX8_turn_98 (by decide) (fun c24 => ?_) (fun c24 => ?_)
          · replace hf := (if_pos (show x22 = 0 from c24)).symm.trans hf
            exact (pX8_turn_b105 hd hf).to ⟨rfl, trivial⟩
          · replace hf := (if_neg (show ¬ (x22 = 0) from c24)).symm.trans hf
            exact (pX8_turn_b101 hd hf).to ⟨rfl, trivial⟩
    · replace hf := (if_neg (show ¬ (¬ l2 = (21 : Int32)) from (fun z => z c11))).symm.trans hf
      refine w_aload_n dX8_turn_62 rfl rfl ?_
      refine w_dup dX8_turn_63 rfl ?_
      obtain ⟨x25, b26, hf⟩ := Option.bind_eq_some_iff.mp hf
      refine GX8_128 b26 dX8_turn_64 rfl ?_
      refine w_iconst dX8_turn_67 (v := 1) (by decide) ?_
      refine w_isub dX8_turn_68 ?_
      obtain ⟨h27, b28, hf⟩ := Option.bind_eq_some_iff.mp hf
      refine SX8_128 b28 dX8_turn_69 rfl ?_
      cases hf
      exact w_vret dX8_turn_72 rfl rfl
  · replace hf := (if_neg (show ¬ (¬ x8 = 0) from (fun z => z c10))).symm.trans hf
    refine w_aload_n dX8_turn_37 rfl rfl ?_
    obtain ⟨a29, b30, hf⟩ := Option.bind_eq_some_iff.mp hf
    refine GX8_93 b30 dX8_turn_38 rfl ?_
    refine w_iload_n dX8_turn_41 rfl rfl ?_
    obtain ⟨_, b31, hf⟩ := Option.bind_eq_some_iff.mp hf
    refine x_cnV hf (e_stV (Yc := YX13_put) (ci := 12) (av := [.int l1]) (st := []) dX8_turn_42 q2558 mX13_put rfl (k_ok_some b31).1 (k_ok_some b31).2) mX13_put.2.2.1 mX13_put.2.2.2.2.1 (Nat.le_of_ble_eq_true rfl) (Nat.le_of_ble_eq_true rfl) (fun q hq => pX13_put (by omega) hq) (fun q32 hf => ?_)
    refine w_aload_n dX8_turn_45 rfl rfl ?_
    obtain ⟨a33, b34, hf⟩ := Option.bind_eq_some_iff.mp hf
    refine GX8_93 b34 dX8_turn_46 rfl ?_
    refine w_ldc_w dX8_turn_49 q2668 ?_
    obtain ⟨_, b35, hf⟩ := Option.bind_eq_some_iff.mp hf
    refine x_cnV hf (e_stV (Yc := YX13_put) (ci := 12) (av := [.int (1052950 : Int32)]) (st := []) dX8_turn_52 q2558 mX13_put rfl (k_ok_some b35).1 (k_ok_some b35).2) mX13_put.2.2.1 mX13_put.2.2.2.2.1 (Nat.le_of_ble_eq_true rfl) (Nat.le_of_ble_eq_true rfl) (fun q hq => pX13_put (by omega) hq) (fun q36 hf => ?_)
    cases hf
    exact w_vret dX8_turn_55 rfl rfl
def fX8_turn (N : Nat) (this : Nat) (p0 : Int32) (p1 : Int32) (h : eH) : Option ((Unit ⊕ Nat) × eH) :=
  (g_A 7 h this 0).bind fun a1 =>
  (g_I 7 h this 15).bind fun x3 =>
  if x3 ≤ 0 then
    fX8_turn_b16 N this p0 p1 a1 (0 : Int32) h
  else
    fX8_turn_b16 N this p0 p1 a1 (1 : Int32) h
theorem pX8_turn {w : eW} {d : Nat} (hd : 15 ≤ d) {N : Nat} {this : Nat} {p0 : Int32} {p1 : Int32} {h : eH} {q} (hf : fX8_turn N this p0 p1 h = some q) : wm w d YX8_turn [.ref this, .int p0, .int p1] h (e_is (e_rt c_V q)) := by
  obtain ⟨d, rfl⟩ : ∃ e, d = e + 1 := ⟨d - 1, by omega⟩
  show wp w (d + 1) YX8_turn 0 [some (.ref this), some (.int p0), some (.int p1), none, none] [] h _
  unfold fX8_turn at hf
  refine w_aload_n dX8_turn_0 rfl rfl ?_
  obtain ⟨a1, b2, hf⟩ := Option.bind_eq_some_iff.mp hf
  refine GX8_51 b2 dX8_turn_1 rfl ?_
  refine w_aload_n dX8_turn_4 rfl rfl ?_
  obtain ⟨x3, b4, hf⟩ := Option.bind_eq_some_iff.mp hf
  refine GX8_128 b4 dX8_turn_5 rfl ?_
  refine w_if_le 15 dX8_turn_8 (by decide) (fun c5 => ?_) (fun c5 => ?_)
  · replace hf := (if_pos (show x3 ≤ 0 from c5)).symm.trans hf
    refine w_iconst dX8_turn_15 (v := 0) (by decide) ?_
    exact (pX8_turn_b16 hd hf).to ⟨rfl, rfl, rfl, trivial⟩
  · replace hf := (if_neg (show ¬ (x3 ≤ 0) from c5)).symm.trans hf
    refine w_iconst dX8_turn_11 (v := 1) (by decide) ?_
    refine w_goto 16 dX8_turn_12 (by decide) ?_
    exact (pX8_turn_b16 hd hf).to ⟨rfl, rfl, rfl, trivial⟩
abbrev cX8_expandPrimitive : ByteArray := prog_4_method_17_code
def yX8_expandPrimitive : MethodName := ⟨RX8, "expandPrimitive", "(II)V"⟩
def YX8_expandPrimitive : eY := (yX8_expandPrimitive, cX8_expandPrimitive, 6, none, [])
theorem mX8_expandPrimitive : e_mv YX8_expandPrimitive RX8 2 := ⟨q2556, qs59, q2557, by decide, by decide +kernel, (e_sig (by decide +kernel))⟩
theorem dX8_expandPrimitive_0 : decode cX8_expandPrimitive 0 = .ok (.iload_n 2, 1) := dc_28 (by decide +kernel)
theorem dX8_expandPrimitive_1 : decode cX8_expandPrimitive 1 = .ok (.tableswitch 250 0 21 #[103, 152, 187, 194, 208, 219, 230, 250, 250, 250, 250, 250, 250, 250, 250, 250, 250, 250, 250, 241, 241, 241], 103) := by decide +kernel
theorem dX8_expandPrimitive_104 : decode cX8_expandPrimitive 104 = .ok (.aload_n 0, 1) := dc_42 (by decide +kernel)
theorem dX8_expandPrimitive_105 : decode cX8_expandPrimitive 105 = .ok (.invokevirtual 213, 3) := dc_182 (a := 0) (b := 213) (n := 213) (by decide +kernel)
theorem dX8_expandPrimitive_108 : decode cX8_expandPrimitive 108 = .ok (.istore_n 3, 1) := dc_62 (by decide +kernel)
theorem dX8_expandPrimitive_109 : decode cX8_expandPrimitive 109 = .ok (.aload_n 0, 1) := dc_42 (by decide +kernel)
theorem dX8_expandPrimitive_110 : decode cX8_expandPrimitive 110 = .ok (.invokevirtual 213, 3) := dc_182 (a := 0) (b := 213) (n := 213) (by decide +kernel)
theorem dX8_expandPrimitive_113 : decode cX8_expandPrimitive 113 = .ok (.istore 4, 2) := dc_54 (a := 4) (by decide +kernel)
theorem dX8_expandPrimitive_115 : decode cX8_expandPrimitive 115 = .ok (.aload_n 0, 1) := dc_42 (by decide +kernel)
theorem dX8_expandPrimitive_116 : decode cX8_expandPrimitive 116 = .ok (.iload 4, 2) := dc_21 (a := 4) (by decide +kernel)
theorem dX8_expandPrimitive_118 : decode cX8_expandPrimitive 118 = .ok (.invokevirtual 181, 3) := dc_182 (a := 0) (b := 181) (n := 181) (by decide +kernel)
theorem dX8_expandPrimitive_121 : decode cX8_expandPrimitive 121 = .ok (.ifCond .eq 12, 3) := dc_153 (a := 0) (b := 12) (v := 12) (by decide +kernel)
theorem dX8_expandPrimitive_124 : decode cX8_expandPrimitive 124 = .ok (.aload_n 0, 1) := dc_42 (by decide +kernel)
theorem dX8_expandPrimitive_125 : decode cX8_expandPrimitive 125 = .ok (.iload 4, 2) := dc_21 (a := 4) (by decide +kernel)
theorem dX8_expandPrimitive_127 : decode cX8_expandPrimitive 127 = .ok (.invokevirtual 184, 3) := dc_182 (a := 0) (b := 184) (n := 184) (by decide +kernel)
theorem dX8_expandPrimitive_130 : decode cX8_expandPrimitive 130 = .ok (.goto 12, 3) := dc_167 (a := 0) (b := 12) (v := 12) (by decide +kernel)
theorem dX8_expandPrimitive_133 : decode cX8_expandPrimitive 133 = .ok (.aload_n 0, 1) := dc_42 (by decide +kernel)
theorem dX8_expandPrimitive_134 : decode cX8_expandPrimitive 134 = .ok (.getfield 93, 3) := dc_180 (a := 0) (b := 93) (n := 93) (by decide +kernel)
theorem dX8_expandPrimitive_137 : decode cX8_expandPrimitive 137 = .ok (.iload 4, 2) := dc_21 (a := 4) (by decide +kernel)
theorem dX8_expandPrimitive_139 : decode cX8_expandPrimitive 139 = .ok (.invokevirtual 197, 3) := dc_182 (a := 0) (b := 197) (n := 197) (by decide +kernel)
theorem dX8_expandPrimitive_142 : decode cX8_expandPrimitive 142 = .ok (.aload_n 0, 1) := dc_42 (by decide +kernel)
theorem dX8_expandPrimitive_143 : decode cX8_expandPrimitive 143 = .ok (.getfield 93, 3) := dc_180 (a := 0) (b := 93) (n := 93) (by decide +kernel)
theorem dX8_expandPrimitive_146 : decode cX8_expandPrimitive 146 = .ok (.iload_n 3, 1) := dc_29 (by decide +kernel)
theorem dX8_expandPrimitive_147 : decode cX8_expandPrimitive 147 = .ok (.invokevirtual 197, 3) := dc_182 (a := 0) (b := 197) (n := 197) (by decide +kernel)
theorem dX8_expandPrimitive_150 : decode cX8_expandPrimitive 150 = .ok (.goto 106, 3) := dc_167 (a := 0) (b := 106) (v := 106) (by decide +kernel)
theorem dX8_expandPrimitive_153 : decode cX8_expandPrimitive 153 = .ok (.aload_n 0, 1) := dc_42 (by decide +kernel)
theorem dX8_expandPrimitive_154 : decode cX8_expandPrimitive 154 = .ok (.invokevirtual 213, 3) := dc_182 (a := 0) (b := 213) (n := 213) (by decide +kernel)
theorem dX8_expandPrimitive_157 : decode cX8_expandPrimitive 157 = .ok (.istore 5, 2) := dc_54 (a := 5) (by decide +kernel)
theorem dX8_expandPrimitive_159 : decode cX8_expandPrimitive 159 = .ok (.aload_n 0, 1) := dc_42 (by decide +kernel)
theorem dX8_expandPrimitive_160 : decode cX8_expandPrimitive 160 = .ok (.getfield 93, 3) := dc_180 (a := 0) (b := 93) (n := 93) (by decide +kernel)
theorem dX8_expandPrimitive_163 : decode cX8_expandPrimitive 163 = .ok (.aload_n 0, 1) := dc_42 (by decide +kernel)
theorem dX8_expandPrimitive_164 : decode cX8_expandPrimitive 164 = .ok (.iload 5, 2) := dc_21 (a := 5) (by decide +kernel)
theorem dX8_expandPrimitive_166 : decode cX8_expandPrimitive 166 = .ok (.invokevirtual 181, 3) := dc_182 (a := 0) (b := 181) (n := 181) (by decide +kernel)
theorem dX8_expandPrimitive_169 : decode cX8_expandPrimitive 169 = .ok (.ifCond .eq 11, 3) := dc_153 (a := 0) (b := 11) (v := 11) (by decide +kernel)
theorem dX8_expandPrimitive_172 : decode cX8_expandPrimitive 172 = .ok (.iload 5, 2) := dc_21 (a := 5) (by decide +kernel)
theorem dX8_expandPrimitive_174 : decode cX8_expandPrimitive 174 = .ok (.ldc 159, 2) := dc_18 (a := 159) (by decide +kernel)
theorem dX8_expandPrimitive_176 : decode cX8_expandPrimitive 176 = .ok (.ior, 1) := dc_128 (by decide +kernel)
theorem dX8_expandPrimitive_177 : decode cX8_expandPrimitive 177 = .ok (.goto 5, 3) := dc_167 (a := 0) (b := 5) (v := 5) (by decide +kernel)
theorem dX8_expandPrimitive_180 : decode cX8_expandPrimitive 180 = .ok (.iload 5, 2) := dc_21 (a := 5) (by decide +kernel)
theorem dX8_expandPrimitive_182 : decode cX8_expandPrimitive 182 = .ok (.invokevirtual 197, 3) := dc_182 (a := 0) (b := 197) (n := 197) (by decide +kernel)
theorem dX8_expandPrimitive_185 : decode cX8_expandPrimitive 185 = .ok (.goto 71, 3) := dc_167 (a := 0) (b := 71) (v := 71) (by decide +kernel)
theorem dX8_expandPrimitive_188 : decode cX8_expandPrimitive 188 = .ok (.aload_n 0, 1) := dc_42 (by decide +kernel)
theorem dX8_expandPrimitive_189 : decode cX8_expandPrimitive 189 = .ok (.invokevirtual 216, 3) := dc_182 (a := 0) (b := 216) (n := 216) (by decide +kernel)
theorem dX8_expandPrimitive_192 : decode cX8_expandPrimitive 192 = .ok (.goto 64, 3) := dc_167 (a := 0) (b := 64) (v := 64) (by decide +kernel)
theorem dX8_expandPrimitive_195 : decode cX8_expandPrimitive 195 = .ok (.aload_n 0, 1) := dc_42 (by decide +kernel)
theorem dX8_expandPrimitive_196 : decode cX8_expandPrimitive 196 = .ok (.aload_n 0, 1) := dc_42 (by decide +kernel)
theorem dX8_expandPrimitive_197 : decode cX8_expandPrimitive 197 = .ok (.invokevirtual 213, 3) := dc_182 (a := 0) (b := 213) (n := 213) (by decide +kernel)
theorem dX8_expandPrimitive_200 : decode cX8_expandPrimitive 200 = .ok (.invokestatic 219, 3) := dc_184 (a := 0) (b := 219) (n := 219) (by decide +kernel)
theorem dX8_expandPrimitive_203 : decode cX8_expandPrimitive 203 = .ok (.invokevirtual 222, 3) := dc_182 (a := 0) (b := 222) (n := 222) (by decide +kernel)
theorem dX8_expandPrimitive_206 : decode cX8_expandPrimitive 206 = .ok (.goto 50, 3) := dc_167 (a := 0) (b := 50) (v := 50) (by decide +kernel)
theorem dX8_expandPrimitive_209 : decode cX8_expandPrimitive 209 = .ok (.aload_n 0, 1) := dc_42 (by decide +kernel)
theorem dX8_expandPrimitive_210 : decode cX8_expandPrimitive 210 = .ok (.aload_n 0, 1) := dc_42 (by decide +kernel)
theorem dX8_expandPrimitive_211 : decode cX8_expandPrimitive 211 = .ok (.invokevirtual 225, 3) := dc_182 (a := 0) (b := 225) (n := 225) (by decide +kernel)
theorem dX8_expandPrimitive_214 : decode cX8_expandPrimitive 214 = .ok (.invokevirtual 228, 3) := dc_182 (a := 0) (b := 228) (n := 228) (by decide +kernel)
theorem dX8_expandPrimitive_217 : decode cX8_expandPrimitive 217 = .ok (.goto 39, 3) := dc_167 (a := 0) (b := 39) (v := 39) (by decide +kernel)
theorem dX8_expandPrimitive_220 : decode cX8_expandPrimitive 220 = .ok (.aload_n 0, 1) := dc_42 (by decide +kernel)
theorem dX8_expandPrimitive_221 : decode cX8_expandPrimitive 221 = .ok (.aload_n 0, 1) := dc_42 (by decide +kernel)
theorem dX8_expandPrimitive_222 : decode cX8_expandPrimitive 222 = .ok (.invokevirtual 225, 3) := dc_182 (a := 0) (b := 225) (n := 225) (by decide +kernel)
theorem dX8_expandPrimitive_225 : decode cX8_expandPrimitive 225 = .ok (.invokevirtual 231, 3) := dc_182 (a := 0) (b := 231) (n := 231) (by decide +kernel)
theorem dX8_expandPrimitive_228 : decode cX8_expandPrimitive 228 = .ok (.goto 28, 3) := dc_167 (a := 0) (b := 28) (v := 28) (by decide +kernel)
theorem dX8_expandPrimitive_231 : decode cX8_expandPrimitive 231 = .ok (.aload_n 0, 1) := dc_42 (by decide +kernel)
theorem dX8_expandPrimitive_232 : decode cX8_expandPrimitive 232 = .ok (.aload_n 0, 1) := dc_42 (by decide +kernel)
theorem dX8_expandPrimitive_233 : decode cX8_expandPrimitive 233 = .ok (.invokevirtual 190, 3) := dc_182 (a := 0) (b := 190) (n := 190) (by decide +kernel)
theorem dX8_expandPrimitive_236 : decode cX8_expandPrimitive 236 = .ok (.invokevirtual 234, 3) := dc_182 (a := 0) (b := 234) (n := 234) (by decide +kernel)
theorem dX8_expandPrimitive_239 : decode cX8_expandPrimitive 239 = .ok (.goto 17, 3) := dc_167 (a := 0) (b := 17) (v := 17) (by decide +kernel)
theorem dX8_expandPrimitive_242 : decode cX8_expandPrimitive 242 = .ok (.aload_n 0, 1) := dc_42 (by decide +kernel)
theorem dX8_expandPrimitive_243 : decode cX8_expandPrimitive 243 = .ok (.iload_n 1, 1) := dc_27 (by decide +kernel)
theorem dX8_expandPrimitive_244 : decode cX8_expandPrimitive 244 = .ok (.iload_n 2, 1) := dc_28 (by decide +kernel)
theorem dX8_expandPrimitive_245 : decode cX8_expandPrimitive 245 = .ok (.invokevirtual 237, 3) := dc_182 (a := 0) (b := 237) (n := 237) (by decide +kernel)
theorem dX8_expandPrimitive_248 : decode cX8_expandPrimitive 248 = .ok (.goto 8, 3) := dc_167 (a := 0) (b := 8) (v := 8) (by decide +kernel)
theorem dX8_expandPrimitive_251 : decode cX8_expandPrimitive 251 = .ok (.aload_n 0, 1) := dc_42 (by decide +kernel)
theorem dX8_expandPrimitive_252 : decode cX8_expandPrimitive 252 = .ok (.iload_n 2, 1) := dc_28 (by decide +kernel)
theorem dX8_expandPrimitive_253 : decode cX8_expandPrimitive 253 = .ok (.invokevirtual 240, 3) := dc_182 (a := 0) (b := 240) (n := 240) (by decide +kernel)
theorem dX8_expandPrimitive_256 : decode cX8_expandPrimitive 256 = .ok (.return_, 1) := dc_177 (by decide +kernel)
def fX8_expandPrimitive_b256 (N : Nat) (rE : Nat → Int32 → eH → Option ((Unit ⊕ Nat) × eH)) (rN : Nat → eH → Option ((Int32 ⊕ Nat) × eH))  (h : eH) : Option ((Unit ⊕ Nat) × eH) :=
  some (.inl (), h)
theorem pX8_expandPrimitive_b256 {w : eW} {d : Nat} {dr : Nat} (hd : dr + 21 ≤ d + 1) (hdr : 12 ≤ dr) {N : Nat} {rE : Nat → Int32 → eH → Option ((Unit ⊕ Nat) × eH)} {rN : Nat → eH → Option ((Int32 ⊕ Nat) × eH)} (hrE : ∀ a t0 h q, rE a t0 h = some q → wm w dr YX8_expand [.ref a, .int t0] h (e_is (e_rt c_V q))) (hrN : ∀ a h q, rN a h = some q → wm w dr YX8_number [.ref a] h (e_is (e_rt c_I q)))  {h : eH} {q} (hf : fX8_expandPrimitive_b256 N rE rN h = some q) : wp w (d + 1) YX8_expandPrimitive 256 [none, none, none, none, none, none] [] h (e_is (e_rt c_V q)) := by
  unfold fX8_expandPrimitive_b256 at hf
  cases hf
  exact w_vret dX8_expandPrimitive_256 rfl rfl
def fX8_expandPrimitive_b142 (N : Nat) (rE : Nat → Int32 → eH → Option ((Unit ⊕ Nat) × eH)) (rN : Nat → eH → Option ((Int32 ⊕ Nat) × eH)) (l0 : Nat) (l3 : Int32) (h : eH) : Option ((Unit ⊕ Nat) × eH) :=
  (g_A 7 h l0 7).bind fun a1 =>
  (k_ok 12 h a1).bind fun _ =>
  (fX13_put a1 l3 h).bind fun q4 =>
  fX8_expandPrimitive_b256 N rE rN q4.2
theorem pX8_expandPrimitive_b142 {w : eW} {d : Nat} {dr : Nat} (hd : dr + 21 ≤ d + 1) (hdr : 12 ≤ dr) {N : Nat} {rE : Nat → Int32 → eH → Option ((Unit ⊕ Nat) × eH)} {rN : Nat → eH → Option ((Int32 ⊕ Nat) × eH)} (hrE : ∀ a t0 h q, rE a t0 h = some q → wm w dr YX8_expand [.ref a, .int t0] h (e_is (e_rt c_V q))) (hrN : ∀ a h q, rN a h = some q → wm w dr YX8_number [.ref a] h (e_is (e_rt c_I q))) {l0 : Nat} {l3 : Int32} {h : eH} {q} (hf : fX8_expandPrimitive_b142 N rE rN l0 l3 h = some q) : wp w (d + 1) YX8_expandPrimitive 142 [some (.ref l0), none, none, some (.int l3), none, none] [] h (e_is (e_rt c_V q)) := by
  unfold fX8_expandPrimitive_b142 at hf
  refine w_aload_n dX8_expandPrimitive_142 rfl rfl ?_
  obtain ⟨a1, b2, hf⟩ := Option.bind_eq_some_iff.mp hf
  refine GX8_93 b2 dX8_expandPrimitive_143 rfl ?_
  refine w_iload_n dX8_expandPrimitive_146 rfl rfl ?_
  obtain ⟨_, b3, hf⟩ := Option.bind_eq_some_iff.mp hf
  refine x_cnV hf (e_stV (Yc := YX13_put) (ci := 12) (av := [.int l3]) (st := []) dX8_expandPrimitive_147 q2558 mX13_put rfl (k_ok_some b3).1 (k_ok_some b3).2) mX13_put.2.2.1 mX13_put.2.2.2.2.1 (Nat.le_of_ble_eq_true rfl) (Nat.le_of_ble_eq_true rfl) (fun q hq => pX13_put (by omega) hq) (fun q4 hf => ?_)
  refine w_goto 256 dX8_expandPrimitive_150 (by decide) ?_
  exact (pX8_expandPrimitive_b256 hd hdr hrE hrN hf).to trivial
def fX8_expandPrimitive_b182 (N : Nat) (rE : Nat → Int32 → eH → Option ((Unit ⊕ Nat) × eH)) (rN : Nat → eH → Option ((Int32 ⊕ Nat) × eH)) (s0 : Nat) (s1 : Int32) (h : eH) : Option ((Unit ⊕ Nat) × eH) :=
  (k_ok 12 h s0).bind fun _ =>
  (fX13_put s0 s1 h).bind fun q2 =>
  fX8_expandPrimitive_b256 N rE rN q2.2
theorem pX8_expandPrimitive_b182 {w : eW} {d : Nat} {dr : Nat} (hd : dr + 21 ≤ d + 1) (hdr : 12 ≤ dr) {N : Nat} {rE : Nat → Int32 → eH → Option ((Unit ⊕ Nat) × eH)} {rN : Nat → eH → Option ((Int32 ⊕ Nat) × eH)} (hrE : ∀ a t0 h q, rE a t0 h = some q → wm w dr YX8_expand [.ref a, .int t0] h (e_is (e_rt c_V q))) (hrN : ∀ a h q, rN a h = some q → wm w dr YX8_number [.ref a] h (e_is (e_rt c_I q))) {s0 : Nat} {s1 : Int32} {h : eH} {q} (hf : fX8_expandPrimitive_b182 N rE rN s0 s1 h = some q) : wp w (d + 1) YX8_expandPrimitive 182 [none, none, none, none, none, none] [.int s1, .ref s0] h (e_is (e_rt c_V q)) := by
  unfold fX8_expandPrimitive_b182 at hf
  obtain ⟨_, b1, hf⟩ := Option.bind_eq_some_iff.mp hf
  refine x_cnV hf (e_stV (Yc := YX13_put) (ci := 12) (av := [.int s1]) (st := []) dX8_expandPrimitive_182 q2558 mX13_put rfl (k_ok_some b1).1 (k_ok_some b1).2) mX13_put.2.2.1 mX13_put.2.2.2.2.1 (Nat.le_of_ble_eq_true rfl) (Nat.le_of_ble_eq_true rfl) (fun q hq => pX13_put (by omega) hq) (fun q2 hf => ?_)
  refine w_goto 256 dX8_expandPrimitive_185 (by decide) ?_
  exact (pX8_expandPrimitive_b256 hd hdr hrE hrN hf).to trivial
def fX8_expandPrimitive (N : Nat) (rE : Nat → Int32 → eH → Option ((Unit ⊕ Nat) × eH)) (rN : Nat → eH → Option ((Int32 ⊕ Nat) × eH)) (this : Nat) (p0 : Int32) (p1 : Int32) (h : eH) : Option ((Unit ⊕ Nat) × eH) :=
  if p1 = (0 : Int32) then
    (k_ok 7 h this).bind fun _ =>
    t_B (fX8_need N this h) fun x3 h4 =>
    (k_ok 7 h4 this).bind fun _ =>
    t_B (fX8_need N this h4) fun x6 h7 =>
    (k_ok 7 h7 this).bind fun _ =>
    (fX8_isExpandable this x6 h7).bind fun q9 =>
    if q9.1 = 0 then
      (g_A 7 q9.2 this 7).bind fun a11 =>
      (k_ok 12 q9.2 a11).bind fun _ =>
      (fX13_put a11 x6 q9.2).bind fun q14 =>
      fX8_expandPrimitive_b142 N rE rN this x3 q14.2
    else
      (k_ok 7 q9.2 this).bind fun _ =>
      t_B (rE this x6 q9.2) fun x16 h17 =>
      fX8_expandPrimitive_b142 N rE rN this x3 h17
  else
  if p1 = (1 : Int32) then
    (k_ok 7 h this).bind fun _ =>
    t_B (fX8_need N this h) fun x20 h21 =>
    (g_A 7 h21 this 7).bind fun a22 =>
    (k_ok 7 h21 this).bind fun _ =>
    (fX8_isExpandable this x20 h21).bind fun q25 =>
    if q25.1 = 0 then
      fX8_expandPrimitive_b182 N rE rN a22 x20 q25.2
    else
      fX8_expandPrimitive_b182 N rE rN a22 (x20 ||| (1048576 : Int32)) q25.2
  else
  if p1 = (2 : Int32) then
    (k_ok 7 h this).bind fun _ =>
    t_B (fX8_makeName N rE this h) fun x29 h30 =>
    fX8_expandPrimitive_b256 N rE rN h30
  else
  if p1 = (3 : Int32) then
    (k_ok 7 h this).bind fun _ =>
    t_B (fX8_need N this h) fun x33 h34 =>
    (fX8_bare x33 h34).bind fun q35 =>
    (k_ok 7 q35.2 this).bind fun _ =>
    (fX8_spell N this q35.1 q35.2).bind fun q37 =>
    fX8_expandPrimitive_b256 N rE rN q37.2
  else
  if p1 = (4 : Int32) then
    (k_ok 7 h this).bind fun _ =>
    t_B (rN this h) fun x40 h41 =>
    (k_ok 7 h41 this).bind fun _ =>
    (fX8_tellNumber N this x40 h41).bind fun q43 =>
    fX8_expandPrimitive_b256 N rE rN q43.2
  else
  if p1 = (5 : Int32) then
    (k_ok 7 h this).bind fun _ =>
    t_B (rN this h) fun x46 h47 =>
    (k_ok 7 h47 this).bind fun _ =>
    t_B (fX8_tellRoman N this x46 h47) fun x49 h50 =>
    fX8_expandPrimitive_b256 N rE rN h50
  else
  if p1 = (6 : Int32) then
    (k_ok 7 h this).bind fun _ =>
    t_B (fX8_needExpanded N rE this h) fun x53 h54 =>
    (k_ok 7 h54 this).bind fun _ =>
    t_B (fX8_tellValue N rN this x53 h54) fun x56 h57 =>
    fX8_expandPrimitive_b256 N rE rN h57
  else
  if p1 = (7 : Int32) then
    (k_ok 7 h this).bind fun _ =>
    t_B (fX8_decide N rE rN this p1 h) fun x60 h61 =>
    fX8_expandPrimitive_b256 N rE rN h61
  else
  if p1 = (8 : Int32) then
    (k_ok 7 h this).bind fun _ =>
    t_B (fX8_decide N rE rN this p1 h) fun x64 h65 =>
    fX8_expandPrimitive_b256 N rE rN h65
  else
  if p1 = (9 : Int32) then
    (k_ok 7 h this).bind fun _ =>
    t_B (fX8_decide N rE rN this p1 h) fun x68 h69 =>
    fX8_expandPrimitive_b256 N rE rN h69
  else
  if p1 = (10 : Int32) then
    (k_ok 7 h this).bind fun _ =>
    t_B (fX8_decide N rE rN this p1 h) fun x72 h73 =>
    fX8_expandPrimitive_b256 N rE rN h73
  else
  if p1 = (11 : Int32) then
    (k_ok 7 h this).bind fun _ =>
    t_B (fX8_decide N rE rN this p1 h) fun x76 h77 =>
    fX8_expandPrimitive_b256 N rE rN h77
  else
  if p1 = (12 : Int32) then
    (k_ok 7 h this).bind fun _ =>
    t_B (fX8_decide N rE rN this p1 h) fun x80 h81 =>
    fX8_expandPrimitive_b256 N rE rN h81
  else
  if p1 = (13 : Int32) then
    (k_ok 7 h this).bind fun _ =>
    t_B (fX8_decide N rE rN this p1 h) fun x84 h85 =>
    fX8_expandPrimitive_b256 N rE rN h85
  else
  if p1 = (14 : Int32) then
    (k_ok 7 h this).bind fun _ =>
    t_B (fX8_decide N rE rN this p1 h) fun x88 h89 =>
    fX8_expandPrimitive_b256 N rE rN h89
  else
  if p1 = (15 : Int32) then
    (k_ok 7 h this).bind fun _ =>
    t_B (fX8_decide N rE rN this p1 h) fun x92 h93 =>
    fX8_expandPrimitive_b256 N rE rN h93
  else
  if p1 = (16 : Int32) then
    (k_ok 7 h this).bind fun _ =>
    t_B (fX8_decide N rE rN this p1 h) fun x96 h97 =>
    fX8_expandPrimitive_b256 N rE rN h97
  else
  if p1 = (17 : Int32) then
    (k_ok 7 h this).bind fun _ =>
    t_B (fX8_decide N rE rN this p1 h) fun x100 h101 =>
    fX8_expandPrimitive_b256 N rE rN h101
  else
  if p1 = (18 : Int32) then
    (k_ok 7 h this).bind fun _ =>
    t_B (fX8_decide N rE rN this p1 h) fun x104 h105 =>
    fX8_expandPrimitive_b256 N rE rN h105
  else
  if p1 = (19 : Int32) then
    (k_ok 7 h this).bind fun _ =>
    t_B (fX8_turn N this p0 p1 h) fun x108 h109 =>
    fX8_expandPrimitive_b256 N rE rN h109
  else
  if p1 = (20 : Int32) then
    (k_ok 7 h this).bind fun _ =>
    t_B (fX8_turn N this p0 p1 h) fun x112 h113 =>
    fX8_expandPrimitive_b256 N rE rN h113
  else
  if p1 = (21 : Int32) then
    (k_ok 7 h this).bind fun _ =>
    t_B (fX8_turn N this p0 p1 h) fun x116 h117 =>
    fX8_expandPrimitive_b256 N rE rN h117
  else
  (k_ok 7 h this).bind fun _ =>
  t_B (fX8_decide N rE rN this p1 h) fun x119 h120 =>
  fX8_expandPrimitive_b256 N rE rN h120
theorem pX8_expandPrimitive {w : eW} {d : Nat} {dr : Nat} (hd : dr + 21 ≤ d) (hdr : 12 ≤ dr) {N : Nat} {rE : Nat → Int32 → eH → Option ((Unit ⊕ Nat) × eH)} {rN : Nat → eH → Option ((Int32 ⊕ Nat) × eH)} (hrE : ∀ a t0 h q, rE a t0 h = some q → wm w dr YX8_expand [.ref a, .int t0] h (e_is (e_rt c_V q))) (hrN : ∀ a h q, rN a h = some q → wm w dr YX8_number [.ref a] h (e_is (e_rt c_I q))) {this : Nat} {p0 : Int32} {p1 : Int32} {h : eH} {q} (hf : fX8_expandPrimitive N rE rN this p0 p1 h = some q) : wm w d YX8_expandPrimitive [.ref this, .int p0, .int p1] h (e_is (e_rt c_V q)) := by
  obtain ⟨d, rfl⟩ : ∃ e, d = e + 1 := ⟨d - 1, by omega⟩
  show wp w (d + 1) YX8_expandPrimitive 0 [some (.ref this), some (.int p0), some (.int p1), none, none, none] [] h _
  unfold fX8_expandPrimitive at hf
  refine w_iload_n dX8_expandPrimitive_0 rfl rfl ?_
  by_cases c1 : p1 = (0 : Int32)
  · replace hf := (if_pos c1).symm.trans hf
    refine w_tableIn 104 dX8_expandPrimitive_1 (by rw [c1]; decide) (by rw [c1]; decide) (by rw [c1]; rfl) (by decide) ?_
    refine w_aload_n dX8_expandPrimitive_104 rfl rfl ?_
    obtain ⟨_, b2, hf⟩ := Option.bind_eq_some_iff.mp hf
    refine x_ctI hf (e_stV (Yc := YX8_need) (ci := 7) (av := []) (st := []) dX8_expandPrimitive_105 q2506 mX8_need rfl (k_ok_some b2).1 (k_ok_some b2).2) mX8_need.2.2.1 mX8_need.2.2.2.2.1 (Nat.le_of_ble_eq_true rfl) (Nat.le_of_ble_eq_true rfl) rfl (fun q hq => pX8_need (by omega) hq) (fun x3 h4 hf => ?_)
    refine w_istore_n dX8_expandPrimitive_108 rfl (by decide) (ls' := [some (.ref this), some (.int p0), some (.int p1), some (.int x3), none, none]) rfl ?_
    refine w_aload_n dX8_expandPrimitive_109 rfl rfl ?_
    obtain ⟨_, b5, hf⟩ := Option.bind_eq_some_iff.mp hf
    refine x_ctI hf (e_stV (Yc := YX8_need) (ci := 7) (av := []) (st := []) dX8_expandPrimitive_110 q2506 mX8_need rfl (k_ok_some b5).1 (k_ok_some b5).2) mX8_need.2.2.1 mX8_need.2.2.2.2.1 (Nat.le_of_ble_eq_true rfl) (Nat.le_of_ble_eq_true rfl) rfl (fun q hq => pX8_need (by omega) hq) (fun x6 h7 hf => ?_)
    refine w_istore dX8_expandPrimitive_113 (by decide) (ls' := [some (.ref this), some (.int p0), some (.int p1), some (.int x3), some (.int x6), none]) rfl ?_
    refine w_aload_n dX8_expandPrimitive_115 rfl rfl ?_
    refine w_iload dX8_expandPrimitive_116 rfl ?_
    obtain ⟨_, b8, hf⟩ := Option.bind_eq_some_iff.mp hf
    refine x_cnI hf (e_stV (Yc := YX8_isExpandable) (ci := 7) (av := [.int x6]) (st := []) dX8_expandPrimitive_118 q2473 mX8_isExpandable rfl (k_ok_some b8).1 (k_ok_some b8).2) mX8_isExpandable.2.2.1 mX8_isExpandable.2.2.2.2.1 (Nat.le_of_ble_eq_true rfl) (Nat.le_of_ble_eq_true rfl) (fun q hq => pX8_isExpandable (by omega) hq) (fun q9 hf => ?_)
    refine w_if_eq 133 dX8_expandPrimitive_121 (by decide) (fun c10 => ?_) (fun c10 => ?_)
    · replace hf := (if_pos (show q9.1 = 0 from c10)).symm.trans hf
      refine w_aload_n dX8_expandPrimitive_133 rfl rfl ?_
      obtain ⟨a11, b12, hf⟩ := Option.bind_eq_some_iff.mp hf
      refine GX8_93 b12 dX8_expandPrimitive_134 rfl ?_
      refine w_iload dX8_expandPrimitive_137 rfl ?_
      obtain ⟨_, b13, hf⟩ := Option.bind_eq_some_iff.mp hf
      refine x_cnV hf (e_stV (Yc := YX13_put) (ci := 12) (av := [.int x6]) (st := []) dX8_expandPrimitive_139 q2558 mX13_put rfl (k_ok_some b13).1 (k_ok_some b13).2) mX13_put.2.2.1 mX13_put.2.2.2.2.1 (Nat.le_of_ble_eq_true rfl) (Nat.le_of_ble_eq_true rfl) (fun q hq => pX13_put (by omega) hq) (fun q14 hf => ?_)
      exact (pX8_expandPrimitive_b142 hd hdr hrE hrN hf).to ⟨rfl, rfl, trivial⟩
    · replace hf := (if_neg (show ¬ (q9.1 = 0) from c10)).symm.trans hf
      refine w_aload_n dX8_expandPrimitive_124 rfl rfl ?_
      refine w_iload dX8_expandPrimitive_125 rfl ?_
      obtain ⟨_, b15, hf⟩ := Option.bind_eq_some_iff.mp hf
      refine x_ctV hf (e_stV (Yc := YX8_expand) (ci := 7) (av := [.int x6]) (st := []) dX8_expandPrimitive_127 q2492 mX8_expand rfl (k_ok_some b15).1 (k_ok_some b15).2) mX8_expand.2.2.1 mX8_expand.2.2.2.2.1 (Nat.le_of_ble_eq_true rfl) (Nat.le_of_ble_eq_true rfl) rfl (fun q hq => (hrE _ _ _ _ hq).up (by omega)) (fun x16 h17 hf => ?_)
      refine w_goto 142 dX8_expandPrimitive_130 (by decide) ?_
      exact (pX8_expandPrimitive_b142 hd hdr hrE hrN hf).to ⟨rfl, rfl, trivial⟩
  replace hf := (if_neg c1).symm.trans hf
  by_cases c18 : p1 = (1 : Int32)
  · replace hf := (if_pos c18).symm.trans hf
    refine w_tableIn 153 dX8_expandPrimitive_1 (by rw [c18]; decide) (by rw [c18]; decide) (by rw [c18]; rfl) (by decide) ?_
    refine w_aload_n dX8_expandPrimitive_153 rfl rfl ?_
    obtain ⟨_, b19, hf⟩ := Option.bind_eq_some_iff.mp hf
    refine x_ctI hf (e_stV (Yc := YX8_need) (ci := 7) (av := []) (st := []) dX8_expandPrimitive_154 q2506 mX8_need rfl (k_ok_some b19).1 (k_ok_some b19).2) mX8_need.2.2.1 mX8_need.2.2.2.2.1 (Nat.le_of_ble_eq_true rfl) (Nat.le_of_ble_eq_true rfl) rfl (fun q hq => pX8_need (by omega) hq) (fun x20 h21 hf => ?_)
    refine w_istore dX8_expandPrimitive_157 (by decide) (ls' := [some (.ref this), some (.int p0), some (.int p1), none, none, some (.int x20)]) rfl ?_
    refine w_aload_n dX8_expandPrimitive_159 rfl rfl ?_
    obtain ⟨a22, b23, hf⟩ := Option.bind_eq_some_iff.mp hf
    refine GX8_93 b23 dX8_expandPrimitive_160 rfl ?_
    refine w_aload_n dX8_expandPrimitive_163 rfl rfl ?_
    refine w_iload dX8_expandPrimitive_164 rfl ?_
    obtain ⟨_, b24, hf⟩ := Option.bind_eq_some_iff.mp hf
    refine x_cnI hf (e_stV (Yc := YX8_isExpandable) (ci := 7) (av := [.int x20]) (st := [.ref a22]) dX8_expandPrimitive_166 q2473 mX8_isExpandable rfl (k_ok_some b24).1 (k_ok_some b24).2) mX8_isExpandable.2.2.1 mX8_isExpandable.2.2.2.2.1 (Nat.le_of_ble_eq_true rfl) (Nat.le_of_ble_eq_true rfl) (fun q hq => pX8_isExpandable (by omega) hq) (fun q25 hf => ?_)
    refine w_if_eq 180 dX8_expandPrimitive_169 (by decide) (fun c26 => ?_) (fun c26 => ?_)
    · replace hf := (if_pos (show q25.1 = 0 from c26)).symm.trans hf
      refine w_iload dX8_expandPrimitive_180 rfl ?_
      exact (pX8_expandPrimitive_b182 hd hdr hrE hrN hf).to trivial
    · replace hf := (if_neg (show ¬ (q25.1 = 0) from c26)).symm.trans hf
      refine w_iload dX8_expandPrimitive_172 rfl ?_
      refine w_ldc dX8_expandPrimitive_174 q2484 ?_
      refine w_ior dX8_expandPrimitive_176 ?_
      refine w_goto 182 dX8_expandPrimitive_177 (by decide) ?_
      exact (pX8_expandPrimitive_b182 hd hdr hrE hrN hf).to trivial
  replace hf := (if_neg c18).symm.trans hf
  by_cases c27 : p1 = (2 : Int32)
  · replace hf := (if_pos c27).symm.trans hf
    refine w_tableIn 188 dX8_expandPrimitive_1 (by rw [c27]; decide) (by rw [c27]; decide) (by rw [c27]; rfl) (by decide) ?_
    refine w_aload_n dX8_expandPrimitive_188 rfl rfl ?_
    obtain ⟨_, b28, hf⟩ := Option.bind_eq_some_iff.mp hf
    refine x_ctV hf (e_stV (Yc := YX8_makeName) (ci := 7) (av := []) (st := []) dX8_expandPrimitive_189 q2559 mX8_makeName rfl (k_ok_some b28).1 (k_ok_some b28).2) mX8_makeName.2.2.1 mX8_makeName.2.2.2.2.1 (Nat.le_of_ble_eq_true rfl) (Nat.le_of_ble_eq_true rfl) rfl (fun q hq => pX8_makeName (by omega) hdr hrE hq) (fun x29 h30 hf => ?_)
    refine w_goto 256 dX8_expandPrimitive_192 (by decide) ?_
    exact (pX8_expandPrimitive_b256 hd hdr hrE hrN hf).to trivial
  replace hf := (if_neg c27).symm.trans hf
  by_cases c31 : p1 = (3 : Int32)
  · replace hf := (if_pos c31).symm.trans hf
    refine w_tableIn 195 dX8_expandPrimitive_1 (by rw [c31]; decide) (by rw [c31]; decide) (by rw [c31]; rfl) (by decide) ?_
    refine w_aload_n dX8_expandPrimitive_195 rfl rfl ?_
    refine w_aload_n dX8_expandPrimitive_196 rfl rfl ?_
    obtain ⟨_, b32, hf⟩ := Option.bind_eq_some_iff.mp hf
    refine x_ctI hf (e_stV (Yc := YX8_need) (ci := 7) (av := []) (st := [.ref this]) dX8_expandPrimitive_197 q2506 mX8_need rfl (k_ok_some b32).1 (k_ok_some b32).2) mX8_need.2.2.1 mX8_need.2.2.2.2.1 (Nat.le_of_ble_eq_true rfl) (Nat.le_of_ble_eq_true rfl) rfl (fun q hq => pX8_need (by omega) hq) (fun x33 h34 hf => ?_)
    refine x_cnI hf (e_stS (Yc := YX8_bare) (av := [.int x33]) (st := [.ref this]) dX8_expandPrimitive_200 q2510 mX8_bare) mX8_bare.2.2.1 mX8_bare.2.2.2.2.1 (Nat.le_of_ble_eq_true rfl) (Nat.le_of_ble_eq_true rfl) (fun q hq => pX8_bare (by omega) hq) (fun q35 hf => ?_)
    obtain ⟨_, b36, hf⟩ := Option.bind_eq_some_iff.mp hf
    refine x_cnV hf (e_stV (Yc := YX8_spell) (ci := 7) (av := [.int q35.1]) (st := []) dX8_expandPrimitive_203 q2575 mX8_spell rfl (k_ok_some b36).1 (k_ok_some b36).2) mX8_spell.2.2.1 mX8_spell.2.2.2.2.1 (Nat.le_of_ble_eq_true rfl) (Nat.le_of_ble_eq_true rfl) (fun q hq => pX8_spell (by omega) hq) (fun q37 hf => ?_)
    refine w_goto 256 dX8_expandPrimitive_206 (by decide) ?_
    exact (pX8_expandPrimitive_b256 hd hdr hrE hrN hf).to trivial
  replace hf := (if_neg c31).symm.trans hf
  by_cases c38 : p1 = (4 : Int32)
  · replace hf := (if_pos c38).symm.trans hf
    refine w_tableIn 209 dX8_expandPrimitive_1 (by rw [c38]; decide) (by rw [c38]; decide) (by rw [c38]; rfl) (by decide) ?_
    refine w_aload_n dX8_expandPrimitive_209 rfl rfl ?_
    refine w_aload_n dX8_expandPrimitive_210 rfl rfl ?_
    obtain ⟨_, b39, hf⟩ := Option.bind_eq_some_iff.mp hf
    refine x_ctI hf (e_stV (Yc := YX8_number) (ci := 7) (av := []) (st := [.ref this]) dX8_expandPrimitive_211 q2590 mX8_number rfl (k_ok_some b39).1 (k_ok_some b39).2) mX8_number.2.2.1 mX8_number.2.2.2.2.1 (Nat.le_of_ble_eq_true rfl) (Nat.le_of_ble_eq_true rfl) rfl (fun q hq => (hrN _ _ _ hq).up (by omega)) (fun x40 h41 hf => ?_)
    obtain ⟨_, b42, hf⟩ := Option.bind_eq_some_iff.mp hf
    refine x_cnV hf (e_stV (Yc := YX8_tellNumber) (ci := 7) (av := [.int x40]) (st := []) dX8_expandPrimitive_214 q2650 mX8_tellNumber rfl (k_ok_some b42).1 (k_ok_some b42).2) mX8_tellNumber.2.2.1 mX8_tellNumber.2.2.2.2.1 (Nat.le_of_ble_eq_true rfl) (Nat.le_of_ble_eq_true rfl) (fun q hq => pX8_tellNumber (by omega) hq) (fun q43 hf => ?_)
    refine w_goto 256 dX8_expandPrimitive_217 (by decide) ?_
    exact (pX8_expandPrimitive_b256 hd hdr hrE hrN hf).to trivial
  replace hf := (if_neg c38).symm.trans hf
  by_cases c44 : p1 = (5 : Int32)
  · replace hf := (if_pos c44).symm.trans hf
    refine w_tableIn 220 dX8_expandPrimitive_1 (by rw [c44]; decide) (by rw [c44]; decide) (by rw [c44]; rfl) (by decide) ?_
    refine w_aload_n dX8_expandPrimitive_220 rfl rfl ?_
    refine w_aload_n dX8_expandPrimitive_221 rfl rfl ?_
    obtain ⟨_, b45, hf⟩ := Option.bind_eq_some_iff.mp hf
    refine x_ctI hf (e_stV (Yc := YX8_number) (ci := 7) (av := []) (st := [.ref this]) dX8_expandPrimitive_222 q2590 mX8_number rfl (k_ok_some b45).1 (k_ok_some b45).2) mX8_number.2.2.1 mX8_number.2.2.2.2.1 (Nat.le_of_ble_eq_true rfl) (Nat.le_of_ble_eq_true rfl) rfl (fun q hq => (hrN _ _ _ hq).up (by omega)) (fun x46 h47 hf => ?_)
    obtain ⟨_, b48, hf⟩ := Option.bind_eq_some_iff.mp hf
    refine x_ctV hf (e_stV (Yc := YX8_tellRoman) (ci := 7) (av := [.int x46]) (st := []) dX8_expandPrimitive_225 q2654 mX8_tellRoman rfl (k_ok_some b48).1 (k_ok_some b48).2) mX8_tellRoman.2.2.1 mX8_tellRoman.2.2.2.2.1 (Nat.le_of_ble_eq_true rfl) (Nat.le_of_ble_eq_true rfl) rfl (fun q hq => pX8_tellRoman (by omega) hq) (fun x49 h50 hf => ?_)
    refine w_goto 256 dX8_expandPrimitive_228 (by decide) ?_
    exact (pX8_expandPrimitive_b256 hd hdr hrE hrN hf).to trivial
  replace hf := (if_neg c44).symm.trans hf
  by_cases c51 : p1 = (6 : Int32)
  · replace hf := (if_pos c51).symm.trans hf
    refine w_tableIn 231 dX8_expandPrimitive_1 (by rw [c51]; decide) (by rw [c51]; decide) (by rw [c51]; rfl) (by decide) ?_
    refine w_aload_n dX8_expandPrimitive_231 rfl rfl ?_
    refine w_aload_n dX8_expandPrimitive_232 rfl rfl ?_
    obtain ⟨_, b52, hf⟩ := Option.bind_eq_some_iff.mp hf
    refine x_ctI hf (e_stV (Yc := YX8_needExpanded) (ci := 7) (av := []) (st := [.ref this]) dX8_expandPrimitive_233 q2563 mX8_needExpanded rfl (k_ok_some b52).1 (k_ok_some b52).2) mX8_needExpanded.2.2.1 mX8_needExpanded.2.2.2.2.1 (Nat.le_of_ble_eq_true rfl) (Nat.le_of_ble_eq_true rfl) rfl (fun q hq => pX8_needExpanded (by omega) hdr hrE hq) (fun x53 h54 hf => ?_)
    obtain ⟨_, b55, hf⟩ := Option.bind_eq_some_iff.mp hf
    refine x_ctV hf (e_stV (Yc := YX8_tellValue) (ci := 7) (av := [.int x53]) (st := []) dX8_expandPrimitive_236 q2660 mX8_tellValue rfl (k_ok_some b55).1 (k_ok_some b55).2) mX8_tellValue.2.2.1 mX8_tellValue.2.2.2.2.1 (Nat.le_of_ble_eq_true rfl) (Nat.le_of_ble_eq_true rfl) rfl (fun q hq => pX8_tellValue (by omega) hdr hrN hq) (fun x56 h57 hf => ?_)
    refine w_goto 256 dX8_expandPrimitive_239 (by decide) ?_
    exact (pX8_expandPrimitive_b256 hd hdr hrE hrN hf).to trivial
  replace hf := (if_neg c51).symm.trans hf
  by_cases c58 : p1 = (7 : Int32)
  · replace hf := (if_pos c58).symm.trans hf
    refine w_tableIn 251 dX8_expandPrimitive_1 (by rw [c58]; decide) (by rw [c58]; decide) (by rw [c58]; rfl) (by decide) ?_
    refine w_aload_n dX8_expandPrimitive_251 rfl rfl ?_
    refine w_iload_n dX8_expandPrimitive_252 rfl rfl ?_
    obtain ⟨_, b59, hf⟩ := Option.bind_eq_some_iff.mp hf
    refine x_ctV hf (e_stV (Yc := YX8_decide) (ci := 7) (av := [.int p1]) (st := []) dX8_expandPrimitive_253 q2673 mX8_decide rfl (k_ok_some b59).1 (k_ok_some b59).2) mX8_decide.2.2.1 mX8_decide.2.2.2.2.1 (Nat.le_of_ble_eq_true rfl) (Nat.le_of_ble_eq_true rfl) rfl (fun q hq => pX8_decide (by omega) hdr hrE hrN hq) (fun x60 h61 hf => ?_)
    exact (pX8_expandPrimitive_b256 hd hdr hrE hrN hf).to trivial
  replace hf := (if_neg c58).symm.trans hf
  by_cases c62 : p1 = (8 : Int32)
  · replace hf := (if_pos c62).symm.trans hf
    refine w_tableIn 251 dX8_expandPrimitive_1 (by rw [c62]; decide) (by rw [c62]; decide) (by rw [c62]; rfl) (by decide) ?_
    refine w_aload_n dX8_expandPrimitive_251 rfl rfl ?_
    refine w_iload_n dX8_expandPrimitive_252 rfl rfl ?_
    obtain ⟨_, b63, hf⟩ := Option.bind_eq_some_iff.mp hf
    refine x_ctV hf (e_stV (Yc := YX8_decide) (ci := 7) (av := [.int p1]) (st := []) dX8_expandPrimitive_253 q2673 mX8_decide rfl (k_ok_some b63).1 (k_ok_some b63).2) mX8_decide.2.2.1 mX8_decide.2.2.2.2.1 (Nat.le_of_ble_eq_true rfl) (Nat.le_of_ble_eq_true rfl) rfl (fun q hq => pX8_decide (by omega) hdr hrE hrN hq) (fun x64 h65 hf => ?_)
    exact (pX8_expandPrimitive_b256 hd hdr hrE hrN hf).to trivial
  replace hf := (if_neg c62).symm.trans hf
  by_cases c66 : p1 = (9 : Int32)
  · replace hf := (if_pos c66).symm.trans hf
    refine w_tableIn 251 dX8_expandPrimitive_1 (by rw [c66]; decide) (by rw [c66]; decide) (by rw [c66]; rfl) (by decide) ?_
    refine w_aload_n dX8_expandPrimitive_251 rfl rfl ?_
    refine w_iload_n dX8_expandPrimitive_252 rfl rfl ?_
    obtain ⟨_, b67, hf⟩ := Option.bind_eq_some_iff.mp hf
    refine x_ctV hf (e_stV (Yc := YX8_decide) (ci := 7) (av := [.int p1]) (st := []) dX8_expandPrimitive_253 q2673 mX8_decide rfl (k_ok_some b67).1 (k_ok_some b67).2) mX8_decide.2.2.1 mX8_decide.2.2.2.2.1 (Nat.le_of_ble_eq_true rfl) (Nat.le_of_ble_eq_true rfl) rfl (fun q hq => pX8_decide (by omega) hdr hrE hrN hq) (fun x68 h69 hf => ?_)
    exact (pX8_expandPrimitive_b256 hd hdr hrE hrN hf).to trivial
  replace hf := (if_neg c66).symm.trans hf
  by_cases c70 : p1 = (10 : Int32)
  · replace hf := (if_pos c70).symm.trans hf
    refine w_tableIn 251 dX8_expandPrimitive_1 (by rw [c70]; decide) (by rw [c70]; decide) (by rw [c70]; rfl) (by decide) ?_
    refine w_aload_n dX8_expandPrimitive_251 rfl rfl ?_
    refine w_iload_n dX8_expandPrimitive_252 rfl rfl ?_
    obtain ⟨_, b71, hf⟩ := Option.bind_eq_some_iff.mp hf
    refine x_ctV hf (e_stV (Yc := YX8_decide) (ci := 7) (av := [.int p1]) (st := []) dX8_expandPrimitive_253 q2673 mX8_decide rfl (k_ok_some b71).1 (k_ok_some b71).2) mX8_decide.2.2.1 mX8_decide.2.2.2.2.1 (Nat.le_of_ble_eq_true rfl) (Nat.le_of_ble_eq_true rfl) rfl (fun q hq => pX8_decide (by omega) hdr hrE hrN hq) (fun x72 h73 hf => ?_)
    exact (pX8_expandPrimitive_b256 hd hdr hrE hrN hf).to trivial
  replace hf := (if_neg c70).symm.trans hf
  by_cases c74 : p1 = (11 : Int32)
  · replace hf := (if_pos c74).symm.trans hf
    refine w_tableIn 251 dX8_expandPrimitive_1 (by rw [c74]; decide) (by rw [c74]; decide) (by rw [c74]; rfl) (by decide) ?_
    refine w_aload_n dX8_expandPrimitive_251 rfl rfl ?_
    refine w_iload_n dX8_expandPrimitive_252 rfl rfl ?_
    obtain ⟨_, b75, hf⟩ := Option.bind_eq_some_iff.mp hf
    refine x_ctV hf (e_stV (Yc := YX8_decide) (ci := 7) (av := [.int p1]) (st := []) dX8_expandPrimitive_253 q2673 mX8_decide rfl (k_ok_some b75).1 (k_ok_some b75).2) mX8_decide.2.2.1 mX8_decide.2.2.2.2.1 (Nat.le_of_ble_eq_true rfl) (Nat.le_of_ble_eq_true rfl) rfl (fun q hq => pX8_decide (by omega) hdr hrE hrN hq) (fun x76 h77 hf => ?_)
    exact (pX8_expandPrimitive_b256 hd hdr hrE hrN hf).to trivial
  replace hf := (if_neg c74).symm.trans hf
  by_cases c78 : p1 = (12 : Int32)
  · replace hf := (if_pos c78).symm.trans hf
    refine w_tableIn 251 dX8_expandPrimitive_1 (by rw [c78]; decide) (by rw [c78]; decide) (by rw [c78]; rfl) (by decide) ?_
    refine w_aload_n dX8_expandPrimitive_251 rfl rfl ?_
    refine w_iload_n dX8_expandPrimitive_252 rfl rfl ?_
    obtain ⟨_, b79, hf⟩ := Option.bind_eq_some_iff.mp hf
    refine x_ctV hf (e_stV (Yc := YX8_decide) (ci := 7) (av := [.int p1]) (st := []) dX8_expandPrimitive_253 q2673 mX8_decide rfl (k_ok_some b79).1 (k_ok_some b79).2) mX8_decide.2.2.1 mX8_decide.2.2.2.2.1 (Nat.le_of_ble_eq_true rfl) (Nat.le_of_ble_eq_true rfl) rfl (fun q hq => pX8_decide (by omega) hdr hrE hrN hq) (fun x80 h81 hf => ?_)
    exact (pX8_expandPrimitive_b256 hd hdr hrE hrN hf).to trivial
  replace hf := (if_neg c78).symm.trans hf
  by_cases c82 : p1 = (13 : Int32)
  · replace hf := (if_pos c82).symm.trans hf
    refine w_tableIn 251 dX8_expandPrimitive_1 (by rw [c82]; decide) (by rw [c82]; decide) (by rw [c82]; rfl) (by decide) ?_
    refine w_aload_n dX8_expandPrimitive_251 rfl rfl ?_
    refine w_iload_n dX8_expandPrimitive_252 rfl rfl ?_
    obtain ⟨_, b83, hf⟩ := Option.bind_eq_some_iff.mp hf
    refine x_ctV hf (e_stV (Yc := YX8_decide) (ci := 7) (av := [.int p1]) (st := []) dX8_expandPrimitive_253 q2673 mX8_decide rfl (k_ok_some b83).1 (k_ok_some b83).2) mX8_decide.2.2.1 mX8_decide.2.2.2.2.1 (Nat.le_of_ble_eq_true rfl) (Nat.le_of_ble_eq_true rfl) rfl (fun q hq => pX8_decide (by omega) hdr hrE hrN hq) (fun x84 h85 hf => ?_)
    exact (pX8_expandPrimitive_b256 hd hdr hrE hrN hf).to trivial
  replace hf := (if_neg c82).symm.trans hf
  by_cases c86 : p1 = (14 : Int32)
  · replace hf := (if_pos c86).symm.trans hf
    refine w_tableIn 251 dX8_expandPrimitive_1 (by rw [c86]; decide) (by rw [c86]; decide) (by rw [c86]; rfl) (by decide) ?_
    refine w_aload_n dX8_expandPrimitive_251 rfl rfl ?_
    refine w_iload_n dX8_expandPrimitive_252 rfl rfl ?_
    obtain ⟨_, b87, hf⟩ := Option.bind_eq_some_iff.mp hf
    refine x_ctV hf (e_stV (Yc := YX8_decide) (ci := 7) (av := [.int p1]) (st := []) dX8_expandPrimitive_253 q2673 mX8_decide rfl (k_ok_some b87).1 (k_ok_some b87).2) mX8_decide.2.2.1 mX8_decide.2.2.2.2.1 (Nat.le_of_ble_eq_true rfl) (Nat.le_of_ble_eq_true rfl) rfl (fun q hq => pX8_decide (by omega) hdr hrE hrN hq) (fun x88 h89 hf => ?_)
    exact (pX8_expandPrimitive_b256 hd hdr hrE hrN hf).to trivial
  replace hf := (if_neg c86).symm.trans hf
  by_cases c90 : p1 = (15 : Int32)
  · replace hf := (if_pos c90).symm.trans hf
    refine w_tableIn 251 dX8_expandPrimitive_1 (by rw [c90]; decide) (by rw [c90]; decide) (by rw [c90]; rfl) (by decide) ?_
    refine w_aload_n dX8_expandPrimitive_251 rfl rfl ?_
    refine w_iload_n dX8_expandPrimitive_252 rfl rfl ?_
    obtain ⟨_, b91, hf⟩ := Option.bind_eq_some_iff.mp hf
    refine x_ctV hf (e_stV (Yc := YX8_decide) (ci := 7) (av := [.int p1]) (st := []) dX8_expandPrimitive_253 q2673 mX8_decide rfl (k_ok_some b91).1 (k_ok_some b91).2) mX8_decide.2.2.1 mX8_decide.2.2.2.2.1 (Nat.le_of_ble_eq_true rfl) (Nat.le_of_ble_eq_true rfl) rfl (fun q hq => pX8_decide (by omega) hdr hrE hrN hq) (fun x92 h93 hf => ?_)
    exact (pX8_expandPrimitive_b256 hd hdr hrE hrN hf).to trivial
  replace hf := (if_neg c90).symm.trans hf
  by_cases c94 : p1 = (16 : Int32)
  · replace hf := (if_pos c94).symm.trans hf
    refine w_tableIn 251 dX8_expandPrimitive_1 (by rw [c94]; decide) (by rw [c94]; decide) (by rw [c94]; rfl) (by decide) ?_
    refine w_aload_n dX8_expandPrimitive_251 rfl rfl ?_
    refine w_iload_n dX8_expandPrimitive_252 rfl rfl ?_
    obtain ⟨_, b95, hf⟩ := Option.bind_eq_some_iff.mp hf
    refine x_ctV hf (e_stV (Yc := YX8_decide) (ci := 7) (av := [.int p1]) (st := []) dX8_expandPrimitive_253 q2673 mX8_decide rfl (k_ok_some b95).1 (k_ok_some b95).2) mX8_decide.2.2.1 mX8_decide.2.2.2.2.1 (Nat.le_of_ble_eq_true rfl) (Nat.le_of_ble_eq_true rfl) rfl (fun q hq => pX8_decide (by omega) hdr hrE hrN hq) (fun x96 h97 hf => ?_)
    exact (pX8_expandPrimitive_b256 hd hdr hrE hrN hf).to trivial
  replace hf := (if_neg c94).symm.trans hf
  by_cases c98 : p1 = (17 : Int32)
  · replace hf := (if_pos c98).symm.trans hf
    refine w_tableIn 251 dX8_expandPrimitive_1 (by rw [c98]; decide) (by rw [c98]; decide) (by rw [c98]; rfl) (by decide) ?_
    refine w_aload_n dX8_expandPrimitive_251 rfl rfl ?_
    refine w_iload_n dX8_expandPrimitive_252 rfl rfl ?_
    obtain ⟨_, b99, hf⟩ := Option.bind_eq_some_iff.mp hf
    refine x_ctV hf (e_stV (Yc := YX8_decide) (ci := 7) (av := [.int p1]) (st := []) dX8_expandPrimitive_253 q2673 mX8_decide rfl (k_ok_some b99).1 (k_ok_some b99).2) mX8_decide.2.2.1 mX8_decide.2.2.2.2.1 (Nat.le_of_ble_eq_true rfl) (Nat.le_of_ble_eq_true rfl) rfl (fun q hq => pX8_decide (by omega) hdr hrE hrN hq) (fun x100 h101 hf => ?_)
    exact (pX8_expandPrimitive_b256 hd hdr hrE hrN hf).to trivial
  replace hf := (if_neg c98).symm.trans hf
  by_cases c102 : p1 = (18 : Int32)
  · replace hf := (if_pos c102).symm.trans hf
    refine w_tableIn 251 dX8_expandPrimitive_1 (by rw [c102]; decide) (by rw [c102]; decide) (by rw [c102]; rfl) (by decide) ?_
    refine w_aload_n dX8_expandPrimitive_251 rfl rfl ?_
    refine w_iload_n dX8_expandPrimitive_252 rfl rfl ?_
    obtain ⟨_, b103, hf⟩ := Option.bind_eq_some_iff.mp hf
    refine x_ctV hf (e_stV (Yc := YX8_decide) (ci := 7) (av := [.int p1]) (st := []) dX8_expandPrimitive_253 q2673 mX8_decide rfl (k_ok_some b103).1 (k_ok_some b103).2) mX8_decide.2.2.1 mX8_decide.2.2.2.2.1 (Nat.le_of_ble_eq_true rfl) (Nat.le_of_ble_eq_true rfl) rfl (fun q hq => pX8_decide (by omega) hdr hrE hrN hq) (fun x104 h105 hf => ?_)
    exact (pX8_expandPrimitive_b256 hd hdr hrE hrN hf).to trivial
  replace hf := (if_neg c102).symm.trans hf
  by_cases c106 : p1 = (19 : Int32)
  · replace hf := (if_pos c106).symm.trans hf
    refine w_tableIn 242 dX8_expandPrimitive_1 (by rw [c106]; decide) (by rw [c106]; decide) (by rw [c106]; rfl) (by decide) ?_
    refine w_aload_n dX8_expandPrimitive_242 rfl rfl ?_
    refine w_iload_n dX8_expandPrimitive_243 rfl rfl ?_
    refine w_iload_n dX8_expandPrimitive_244 rfl rfl ?_
    obtain ⟨_, b107, hf⟩ := Option.bind_eq_some_iff.mp hf
    refine x_ctV hf (e_stV (Yc := YX8_turn) (ci := 7) (av := [.int p0, .int p1]) (st := []) dX8_expandPrimitive_245 q2664 mX8_turn rfl (k_ok_some b107).1 (k_ok_some b107).2) mX8_turn.2.2.1 mX8_turn.2.2.2.2.1 (Nat.le_of_ble_eq_true rfl) (Nat.le_of_ble_eq_true rfl) rfl (fun q hq => pX8_turn (by omega) hq) (fun x108 h109 hf => ?_)
    refine w_goto 256 dX8_expandPrimitive_248 (by decide) ?_
    exact (pX8_expandPrimitive_b256 hd hdr hrE hrN hf).to trivial
  replace hf := (if_neg c106).symm.trans hf
  by_cases c110 : p1 = (20 : Int32)
  · replace hf := (if_pos c110).symm.trans hf
    refine w_tableIn 242 dX8_expandPrimitive_1 (by rw [c110]; decide) (by rw [c110]; decide) (by rw [c110]; rfl) (by decide) ?_
    refine w_aload_n dX8_expandPrimitive_242 rfl rfl ?_
    refine w_iload_n dX8_expandPrimitive_243 rfl rfl ?_
    refine w_iload_n dX8_expandPrimitive_244 rfl rfl ?_
    obtain ⟨_, b111, hf⟩ := Option.bind_eq_some_iff.mp hf
    refine x_ctV hf (e_stV (Yc := YX8_turn) (ci := 7) (av := [.int p0, .int p1]) (st := []) dX8_expandPrimitive_245 q2664 mX8_turn rfl (k_ok_some b111).1 (k_ok_some b111).2) mX8_turn.2.2.1 mX8_turn.2.2.2.2.1 (Nat.le_of_ble_eq_true rfl) (Nat.le_of_ble_eq_true rfl) rfl (fun q hq => pX8_turn (by omega) hq) (fun x112 h113 hf => ?_)
    refine w_goto 256 dX8_expandPrimitive_248 (by decide) ?_
    exact (pX8_expandPrimitive_b256 hd hdr hrE hrN hf).to trivial
  replace hf := (if_neg c110).symm.trans hf
  by_cases c114 : p1 = (21 : Int32)
  · replace hf := (if_pos c114).symm.trans hf
    refine w_tableIn 242 dX8_expandPrimitive_1 (by rw [c114]; decide) (by rw [c114]; decide) (by rw [c114]; rfl) (by decide) ?_
    refine w_aload_n dX8_expandPrimitive_242 rfl rfl ?_
    refine w_iload_n dX8_expandPrimitive_243 rfl rfl ?_
    refine w_iload_n dX8_expandPrimitive_244 rfl rfl ?_
    obtain ⟨_, b115, hf⟩ := Option.bind_eq_some_iff.mp hf
    refine x_ctV hf (e_stV (Yc := YX8_turn) (ci := 7) (av := [.int p0, .int p1]) (st := []) dX8_expandPrimitive_245 q2664 mX8_turn rfl (k_ok_some b115).1 (k_ok_some b115).2) mX8_turn.2.2.1 mX8_turn.2.2.2.2.1 (Nat.le_of_ble_eq_true rfl) (Nat.le_of_ble_eq_true rfl) rfl (fun q hq => pX8_turn (by omega) hq) (fun x116 h117 hf => ?_)
    refine w_goto 256 dX8_expandPrimitive_248 (by decide) ?_
    exact (pX8_expandPrimitive_b256 hd hdr hrE hrN hf).to trivial
  replace hf := (if_neg c114).symm.trans hf
  refine w_tableOut 251 dX8_expandPrimitive_1 (by have n0 := sw_ne c1 (by decide : (0 : Int32).toInt = 0); have n1 := sw_ne c18 (by decide : (1 : Int32).toInt = 1); have n2 := sw_ne c27 (by decide : (2 : Int32).toInt = 2); have n3 := sw_ne c31 (by decide : (3 : Int32).toInt = 3); have n4 := sw_ne c38 (by decide : (4 : Int32).toInt = 4); have n5 := sw_ne c44 (by decide : (5 : Int32).toInt = 5); have n6 := sw_ne c51 (by decide : (6 : Int32).toInt = 6); have n7 := sw_ne c58 (by decide : (7 : Int32).toInt = 7); have n8 := sw_ne c62 (by decide : (8 : Int32).toInt = 8); have n9 := sw_ne c66 (by decide : (9 : Int32).toInt = 9); have n10 := sw_ne c70 (by decide : (10 : Int32).toInt = 10); have n11 := sw_ne c74 (by decide : (11 : Int32).toInt = 11); have n12 := sw_ne c78 (by decide : (12 : Int32).toInt = 12); have n13 := sw_ne c82 (by decide : (13 : Int32).toInt = 13); have n14 := sw_ne c86 (by decide : (14 : Int32).toInt = 14); have n15 := sw_ne c90 (by decide : (15 : Int32).toInt = 15); have n16 := sw_ne c94 (by decide : (16 : Int32).toInt = 16); have n17 := sw_ne c98 (by decide : (17 : Int32).toInt = 17); have n18 := sw_ne c102 (by decide : (18 : Int32).toInt = 18); have n19 := sw_ne c106 (by decide : (19 : Int32).toInt = 19); have n20 := sw_ne c110 (by decide : (20 : Int32).toInt = 20); have n21 := sw_ne c114 (by decide : (21 : Int32).toInt = 21); omega) (by decide) ?_
  refine w_aload_n dX8_expandPrimitive_251 rfl rfl ?_
  refine w_iload_n dX8_expandPrimitive_252 rfl rfl ?_
  obtain ⟨_, b118, hf⟩ := Option.bind_eq_some_iff.mp hf
  refine x_ctV hf (e_stV (Yc := YX8_decide) (ci := 7) (av := [.int p1]) (st := []) dX8_expandPrimitive_253 q2673 mX8_decide rfl (k_ok_some b118).1 (k_ok_some b118).2) mX8_decide.2.2.1 mX8_decide.2.2.2.2.1 (Nat.le_of_ble_eq_true rfl) (Nat.le_of_ble_eq_true rfl) rfl (fun q hq => pX8_decide (by omega) hdr hrE hrN hq) (fun x119 h120 hf => ?_)
  exact (pX8_expandPrimitive_b256 hd hdr hrE hrN hf).to trivial
theorem GX8_125 {w : eW} {d : Nat} {Y : eY} {pc : Nat} {ls : eL} {st : List Value} {h : eH} {Q : eO → eH → Prop} {a : Nat} {x : Int32} (hf : g_I 7 h a 10 = some x) (hd : decode Y.2.1 pc = .ok (.getfield 125, 3)) (hY : Y.1.cls = RX8) (kk : wp w d Y (pc + 3) ls (.int x :: st) h Q) : wp w d Y pc ls (.ref a :: st) h Q := x_gI (ci := 7) (k := 10) hf hd rfl (by decide) (by rw [hY]; exact q846) kk
def fX8_expand_b99 (N : Nat) (rE : Nat → Int32 → eH → Option ((Unit ⊕ Nat) × eH)) (rN : Nat → eH → Option ((Int32 ⊕ Nat) × eH)) (s0 : Nat) (s1 : Int32) (h : eH) : Option ((Unit ⊕ Nat) × eH) :=
  (k_ok 3 h s0).bind fun _ =>
  t_B (fX4_want s0 s1 (2 : Int32) h) fun x2 h3 =>
  some (.inl (), h3)
theorem pX8_expand_b99 {w : eW} {d : Nat} {dr : Nat} (hd : dr + 22 ≤ d + 1) (hdr : 12 ≤ dr) {N : Nat} {rE : Nat → Int32 → eH → Option ((Unit ⊕ Nat) × eH)} {rN : Nat → eH → Option ((Int32 ⊕ Nat) × eH)} (hrE : ∀ a t0 h q, rE a t0 h = some q → wm w dr YX8_expand [.ref a, .int t0] h (e_is (e_rt c_V q))) (hrN : ∀ a h q, rN a h = some q → wm w dr YX8_number [.ref a] h (e_is (e_rt c_I q))) {s0 : Nat} {s1 : Int32} {h : eH} {q} (hf : fX8_expand_b99 N rE rN s0 s1 h = some q) : wp w (d + 1) YX8_expand 99 [none, none] [.int s1, .ref s0] h (e_is (e_rt c_V q)) := by
  unfold fX8_expand_b99 at hf
  refine w_iconst dX8_expand_99 (v := 2) (by decide) ?_
  obtain ⟨_, b1, hf⟩ := Option.bind_eq_some_iff.mp hf
  refine x_ctV hf (e_stV (Yc := YX4_want) (ci := 3) (av := [.int s1, .int (2 : Int32)]) (st := []) dX8_expand_100 q2500 mX4_want rfl (k_ok_some b1).1 (k_ok_some b1).2) mX4_want.2.2.1 mX4_want.2.2.2.2.1 (Nat.le_of_ble_eq_true rfl) (Nat.le_of_ble_eq_true rfl) rfl (fun q hq => pX4_want (by omega) hq) (fun x2 h3 hf => ?_)
  cases hf
  exact w_vret dX8_expand_103 rfl rfl
def fX8_expand_b67 (N : Nat) (rE : Nat → Int32 → eH → Option ((Unit ⊕ Nat) × eH)) (rN : Nat → eH → Option ((Int32 ⊕ Nat) × eH)) (l0 : Nat) (h : eH) : Option ((Unit ⊕ Nat) × eH) :=
  (g_I 7 h l0 10).bind fun x1 =>
  (p_V 7 h l0 10 (.int (x1 - (1 : Int32)))).bind fun h3 =>
  (g_A 7 h3 l0 0).bind fun a5 =>
  (g_A 7 h3 l0 7).bind fun a7 =>
  (g_I 12 h3 a7 3).bind fun x9 =>
  if (10000 : Int32) < x9 then
    fX8_expand_b99 N rE rN a5 (0 : Int32) h3
  else
    fX8_expand_b99 N rE rN a5 (1 : Int32) h3
theorem pX8_expand_b67 {w : eW} {d : Nat} {dr : Nat} (hd : dr + 22 ≤ d + 1) (hdr : 12 ≤ dr) {N : Nat} {rE : Nat → Int32 → eH → Option ((Unit ⊕ Nat) × eH)} {rN : Nat → eH → Option ((Int32 ⊕ Nat) × eH)} (hrE : ∀ a t0 h q, rE a t0 h = some q → wm w dr YX8_expand [.ref a, .int t0] h (e_is (e_rt c_V q))) (hrN : ∀ a h q, rN a h = some q → wm w dr YX8_number [.ref a] h (e_is (e_rt c_I q))) {l0 : Nat} {h : eH} {q} (hf : fX8_expand_b67 N rE rN l0 h = some q) : wp w (d + 1) YX8_expand 67 [some (.ref l0), none] [] h (e_is (e_rt c_V q)) := by
  unfold fX8_expand_b67 at hf
  refine w_aload_n dX8_expand_67 rfl rfl ?_
  refine w_dup dX8_expand_68 rfl ?_
  obtain ⟨x1, b2, hf⟩ := Option.bind_eq_some_iff.mp hf
  refine GX8_125 b2 dX8_expand_69 rfl ?_
  refine w_iconst dX8_expand_72 (v := 1) (by decide) ?_
  refine w_isub dX8_expand_73 ?_
  obtain ⟨h3, b4, hf⟩ := Option.bind_eq_some_iff.mp hf
  refine SX8_125 b4 dX8_expand_74 rfl ?_
  refine w_aload_n dX8_expand_77 rfl rfl ?_
  obtain ⟨a5, b6, hf⟩ := Option.bind_eq_some_iff.mp hf
  refine GX8_51 b6 dX8_expand_78 rfl ?_
  refine w_aload_n dX8_expand_81 rfl rfl ?_
  obtain ⟨a7, b8, hf⟩ := Option.bind_eq_some_iff.mp hf
  refine GX8_93 b8 dX8_expand_82 rfl ?_
  obtain ⟨x9, b10, hf⟩ := Option.bind_eq_some_iff.mp hf
  refine GX8_210 b10 dX8_expand_85 rfl ?_
  refine w_sipush dX8_expand_88 (v := 10000) (by decide) ?_
  refine w_icmp_gt 98 dX8_expand_91 (by decide) (fun c11 => ?_) (fun c11 => ?_)
  · replace hf := (if_pos (show (10000 : Int32) < x9 from c11)).symm.trans hf
    refine w_iconst dX8_expand_98 (v := 0) (by decide) ?_
    exact (pX8_expand_b99 hd hdr hrE hrN hf).to trivial
  · replace hf := (if_neg (show ¬ ((10000 : Int32) < x9) from c11)).symm.trans hf
    refine w_iconst dX8_expand_94 (v := 1) (by decide) ?_
    refine w_goto 99 dX8_expand_95 (by decide) ?_
    exact (pX8_expand_b99 hd hdr hrE hrN hf).to trivial
def fX8_expand_b22 (N : Nat) (rE : Nat → Int32 → eH → Option ((Unit ⊕ Nat) × eH)) (rN : Nat → eH → Option ((Int32 ⊕ Nat) × eH)) (l0 : Nat) (l1 : Int32) (s0 : Nat) (s1 : Int32) (h : eH) : Option ((Unit ⊕ Nat) × eH) :=
  (k_ok 3 h s0).bind fun _ =>
  t_B (fX4_want s0 s1 (3 : Int32) h) fun x2 h3 =>
  (g_I 7 h3 l0 10).bind fun x4 =>
  (p_V 7 h3 l0 10 (.int (x4 + (1 : Int32)))).bind fun h6 =>
  (k_ok 7 h6 l0).bind fun _ =>
  (fX8_kind l0 l1 h6).bind fun q9 =>
  if ¬ q9.1 = (2 : Int32) then
    (k_ok 7 q9.2 l0).bind fun _ =>
    (fX8_value l0 l1 q9.2).bind fun q12 =>
    (k_ok 7 q12.2 l0).bind fun _ =>
    t_B (fX8_expandPrimitive N rE rN l0 l1 q12.1 q12.2) fun x14 h15 =>
    fX8_expand_b67 N rE rN l0 h15
  else
    (k_ok 7 q9.2 l0).bind fun _ =>
    (fX8_value l0 l1 q9.2).bind fun q17 =>
    (k_ok 7 q17.2 l0).bind fun _ =>
    t_B (fX8_call N l0 q17.1 q17.2) fun x19 h20 =>
    fX8_expand_b67 N rE rN l0 h20
theorem pX8_expand_b22 {w : eW} {d : Nat} {dr : Nat} (hd : dr + 22 ≤ d + 1) (hdr : 12 ≤ dr) {N : Nat} {rE : Nat → Int32 → eH → Option ((Unit ⊕ Nat) × eH)} {rN : Nat → eH → Option ((Int32 ⊕ Nat) × eH)} (hrE : ∀ a t0 h q, rE a t0 h = some q → wm w dr YX8_expand [.ref a, .int t0] h (e_is (e_rt c_V q))) (hrN : ∀ a h q, rN a h = some q → wm w dr YX8_number [.ref a] h (e_is (e_rt c_I q))) {l0 : Nat} {l1 : Int32} {s0 : Nat} {s1 : Int32} {h : eH} {q} (hf : fX8_expand_b22 N rE rN l0 l1 s0 s1 h = some q) : wp w (d + 1) YX8_expand 22 [some (.ref l0), some (.int l1)] [.int s1, .ref s0] h (e_is (e_rt c_V q)) := by
  unfold fX8_expand_b22 at hf
  refine w_iconst dX8_expand_22 (v := 3) (by decide) ?_
  obtain ⟨_, b1, hf⟩ := Option.bind_eq_some_iff.mp hf
  refine x_ctV hf (e_stV (Yc := YX4_want) (ci := 3) (av := [.int s1, .int (3 : Int32)]) (st := []) dX8_expand_23 q2500 mX4_want rfl (k_ok_some b1).1 (k_ok_some b1).2) mX4_want.2.2.1 mX4_want.2.2.2.2.1 (Nat.le_of_ble_eq_true rfl) (Nat.le_of_ble_eq_true rfl) rfl (fun q hq => pX4_want (by omega) hq) (fun x2 h3 hf => ?_)
  refine w_aload_n dX8_expand_26 rfl rfl ?_
  refine w_dup dX8_expand_27 rfl ?_
  obtain ⟨x4, b5, hf⟩ := Option.bind_eq_some_iff.mp hf
  refine GX8_125 b5 dX8_expand_28 rfl ?_
  refine w_iconst dX8_expand_31 (v := 1) (by decide) ?_
  refine w_iadd dX8_expand_32 ?_
  obtain ⟨h6, b7, hf⟩ := Option.bind_eq_some_iff.mp hf
  refine SX8_125 b7 dX8_expand_33 rfl ?_
  refine w_aload_n dX8_expand_36 rfl rfl ?_
  refine w_iload_n dX8_expand_37 rfl rfl ?_
  obtain ⟨_, b8, hf⟩ := Option.bind_eq_some_iff.mp hf
  refine x_cnI hf (e_stV (Yc := YX8_kind) (ci := 7) (av := [.int l1]) (st := []) dX8_expand_38 q2477 mX8_kind rfl (k_ok_some b8).1 (k_ok_some b8).2) mX8_kind.2.2.1 mX8_kind.2.2.2.2.1 (Nat.le_of_ble_eq_true rfl) (Nat.le_of_ble_eq_true rfl) (fun q hq => pX8_kind (by omega) hq) (fun q9 hf => ?_)
  refine w_iconst dX8_expand_41 (v := 2) (by decide) ?_
  refine w_icmp_ne 57 dX8_expand_42 (by decide) (fun c10 => ?_) (fun c10 => ?_)
  · replace hf := (if_pos (show ¬ q9.1 = (2 : Int32) from c10)).symm.trans hf
    refine w_aload_n dX8_expand_57 rfl rfl ?_
    refine w_iload_n dX8_expand_58 rfl rfl ?_
    refine w_aload_n dX8_expand_59 rfl rfl ?_
    refine w_iload_n dX8_expand_60 rfl rfl ?_
    obtain ⟨_, b11, hf⟩ := Option.bind_eq_some_iff.mp hf
    refine x_cnI hf (e_stV (Yc := YX8_value) (ci := 7) (av := [.int l1]) (st := [.int l1, .ref l0]) dX8_expand_61 q2488 mX8_value rfl (k_ok_some b11).1 (k_ok_some b11).2) mX8_value.2.2.1 mX8_value.2.2.2.2.1 (Nat.le_of_ble_eq_true rfl) (Nat.le_of_ble_eq_true rfl) (fun q hq => pX8_value (by omega) hq) (fun q12 hf => ?_)
    obtain ⟨_, b13, hf⟩ := Option.bind_eq_some_iff.mp hf
    refine x_ctV hf (e_stV (Yc := YX8_expandPrimitive) (ci := 7) (av := [.int l1, .int q12.1]) (st := []) dX8_expand_64 q2554 mX8_expandPrimitive rfl (k_ok_some b13).1 (k_ok_some b13).2) mX8_expandPrimitive.2.2.1 mX8_expandPrimitive.2.2.2.2.1 (Nat.le_of_ble_eq_true rfl) (Nat.le_of_ble_eq_true rfl) rfl (fun q hq => pX8_expandPrimitive (by omega) hdr hrE hrN hq) (fun x14 h15 hf => ?_)
    exact (pX8_expand_b67 hd hdr hrE hrN hf).to ⟨rfl, trivial⟩
  · replace hf := (if_neg (show ¬ (¬ q9.1 = (2 : Int32)) from (fun z => z c10))).symm.trans hf
    refine w_aload_n dX8_expand_45 rfl rfl ?_
    refine w_aload_n dX8_expand_46 rfl rfl ?_
    refine w_iload_n dX8_expand_47 rfl rfl ?_
    obtain ⟨_, b16, hf⟩ := Option.bind_eq_some_iff.mp hf
    refine x_cnI hf (e_stV (Yc := YX8_value) (ci := 7) (av := [.int l1]) (st := [.ref l0]) dX8_expand_48 q2488 mX8_value rfl (k_ok_some b16).1 (k_ok_some b16).2) mX8_value.2.2.1 mX8_value.2.2.2.2.1 (Nat.le_of_ble_eq_true rfl) (Nat.le_of_ble_eq_true rfl) (fun q hq => pX8_value (by omega) hq) (fun q17 hf => ?_)
    obtain ⟨_, b18, hf⟩ := Option.bind_eq_some_iff.mp hf
    refine x_ctV hf (e_stV (Yc := YX8_call) (ci := 7) (av := [.int q17.1]) (st := []) dX8_expand_51 q2501 mX8_call rfl (k_ok_some b18).1 (k_ok_some b18).2) mX8_call.2.2.1 mX8_call.2.2.2.2.1 (Nat.le_of_ble_eq_true rfl) (Nat.le_of_ble_eq_true rfl) rfl (fun q hq => pX8_call (by omega) hq) (fun x19 h20 hf => ?_)
    refine w_goto 67 dX8_expand_54 (by decide) ?_
    exact (pX8_expand_b67 hd hdr hrE hrN hf).to ⟨rfl, trivial⟩
def fX8_expand (N : Nat) (rE : Nat → Int32 → eH → Option ((Unit ⊕ Nat) × eH)) (rN : Nat → eH → Option ((Int32 ⊕ Nat) × eH)) (this : Nat) (p0 : Int32) (h : eH) : Option ((Unit ⊕ Nat) × eH) :=
  (k_ok 7 h this).bind fun _ =>
  t_B (fX8_tick this h) fun x2 h3 =>
  (g_A 7 h3 this 0).bind fun a4 =>
  (g_I 7 h3 this 10).bind fun x6 =>
  if (40 : Int32) ≤ x6 then
    fX8_expand_b22 N rE rN this p0 a4 (0 : Int32) h3
  else
    fX8_expand_b22 N rE rN this p0 a4 (1 : Int32) h3
theorem pX8_expand {w : eW} {d : Nat} {dr : Nat} (hd : dr + 22 ≤ d) (hdr : 12 ≤ dr) {N : Nat} {rE : Nat → Int32 → eH → Option ((Unit ⊕ Nat) × eH)} {rN : Nat → eH → Option ((Int32 ⊕ Nat) × eH)} (hrE : ∀ a t0 h q, rE a t0 h = some q → wm w dr YX8_expand [.ref a, .int t0] h (e_is (e_rt c_V q))) (hrN : ∀ a h q, rN a h = some q → wm w dr YX8_number [.ref a] h (e_is (e_rt c_I q))) {this : Nat} {p0 : Int32} {h : eH} {q} (hf : fX8_expand N rE rN this p0 h = some q) : wm w d YX8_expand [.ref this, .int p0] h (e_is (e_rt c_V q)) := by
  obtain ⟨d, rfl⟩ : ∃ e, d = e + 1 := ⟨d - 1, by omega⟩
  show wp w (d + 1) YX8_expand 0 [some (.ref this), some (.int p0)] [] h _
  unfold fX8_expand at hf
  refine w_aload_n dX8_expand_0 rfl rfl ?_
  obtain ⟨_, b1, hf⟩ := Option.bind_eq_some_iff.mp hf
  refine x_ctV hf (e_stV (Yc := YX8_tick) (ci := 7) (av := []) (st := []) dX8_expand_1 q2496 mX8_tick rfl (k_ok_some b1).1 (k_ok_some b1).2) mX8_tick.2.2.1 mX8_tick.2.2.2.2.1 (Nat.le_of_ble_eq_true rfl) (Nat.le_of_ble_eq_true rfl) rfl (fun q hq => pX8_tick (by omega) hq) (fun x2 h3 hf => ?_)
  refine w_aload_n dX8_expand_4 rfl rfl ?_
  obtain ⟨a4, b5, hf⟩ := Option.bind_eq_some_iff.mp hf
  refine GX8_51 b5 dX8_expand_5 rfl ?_
  refine w_aload_n dX8_expand_8 rfl rfl ?_
  obtain ⟨x6, b7, hf⟩ := Option.bind_eq_some_iff.mp hf
  refine GX8_125 b7 dX8_expand_9 rfl ?_
  refine w_bipush dX8_expand_12 (v := 40) (by decide) ?_
  refine w_icmp_ge 21 dX8_expand_14 (by decide) (fun c8 => ?_) (fun c8 => ?_)
  · replace hf := (if_pos (show (40 : Int32) ≤ x6 from c8)).symm.trans hf
    refine w_iconst dX8_expand_21 (v := 0) (by decide) ?_
    exact (pX8_expand_b22 hd hdr hrE hrN hf).to ⟨rfl, rfl, trivial⟩
  · replace hf := (if_neg (show ¬ ((40 : Int32) ≤ x6) from c8)).symm.trans hf
    refine w_iconst dX8_expand_17 (v := 1) (by decide) ?_
    refine w_goto 22 dX8_expand_18 (by decide) ?_
    exact (pX8_expand_b22 hd hdr hrE hrN hf).to ⟨rfl, rfl, trivial⟩
def fX8_number_b72 (N : Nat) (rE : Nat → Int32 → eH → Option ((Unit ⊕ Nat) × eH)) (rN : Nat → eH → Option ((Int32 ⊕ Nat) × eH)) (k39 : Nat → Int32 → Int32 → eH → Option ((Int32 ⊕ Nat) × eH)) (l0 : Nat) (s0 : Int32) (s1 : Int32) (h : eH) : Option ((Int32 ⊕ Nat) × eH) :=
  (k_ok 7 h l0).bind fun _ =>
  t_B (fX8_needSolid N rE l0 h) fun x2 h3 =>
  k39 l0 (s0 ^^^ s1) x2 h3
theorem pX8_number_b72 {w : eW} {d : Nat} {dr : Nat} (hd : dr + 16 ≤ d + 1) (hdr : 12 ≤ dr) {N : Nat} {rE : Nat → Int32 → eH → Option ((Unit ⊕ Nat) × eH)} {rN : Nat → eH → Option ((Int32 ⊕ Nat) × eH)} (hrE : ∀ a t0 h q, rE a t0 h = some q → wm w dr YX8_expand [.ref a, .int t0] h (e_is (e_rt c_V q))) (hrN : ∀ a h q, rN a h = some q → wm w dr YX8_number [.ref a] h (e_is (e_rt c_I q))) {k39 : Nat → Int32 → Int32 → eH → Option ((Int32 ⊕ Nat) × eH)} (hk39 : ∀ l0 l1 l2 h q, k39 l0 l1 l2 h = some q → wp w (d + 1) YX8_number 39 [some (.ref l0), some (.int l1), some (.int l2), none] [] h (e_is (e_rt c_I q))) {l0 : Nat} {s0 : Int32} {s1 : Int32} {h : eH} {q} (hf : fX8_number_b72 N rE rN k39 l0 s0 s1 h = some q) : wp w (d + 1) YX8_number 72 [some (.ref l0), none, none, none] [.int s1, .int s0] h (e_is (e_rt c_I q)) := by
  unfold fX8_number_b72 at hf
  refine w_ixor dX8_number_72 ?_
  refine w_istore_n dX8_number_73 rfl (by decide) (ls' := [some (.ref l0), some (.int (s0 ^^^ s1)), none, none]) rfl ?_
  refine w_aload_n dX8_number_74 rfl rfl ?_
  obtain ⟨_, b1, hf⟩ := Option.bind_eq_some_iff.mp hf
  refine x_ctI hf (e_stV (Yc := YX8_needSolid) (ci := 7) (av := []) (st := []) dX8_number_75 q2594 mX8_needSolid rfl (k_ok_some b1).1 (k_ok_some b1).2) mX8_needSolid.2.2.1 mX8_needSolid.2.2.2.2.1 (Nat.le_of_ble_eq_true rfl) (Nat.le_of_ble_eq_true rfl) rfl (fun q hq => pX8_needSolid (by omega) hdr hrE hq) (fun x2 h3 hf => ?_)
  refine w_istore_n dX8_number_78 rfl (by decide) (ls' := [some (.ref l0), some (.int (s0 ^^^ s1)), some (.int x2), none]) rfl ?_
  refine w_goto 39 dX8_number_79 (by decide) ?_
  exact (hk39 _ _ _ _ _ hf).to ⟨rfl, rfl, rfl, trivial⟩
def fX8_number_b57 (N : Nat) (rE : Nat → Int32 → eH → Option ((Unit ⊕ Nat) × eH)) (rN : Nat → eH → Option ((Int32 ⊕ Nat) × eH)) (k39 : Nat → Int32 → Int32 → eH → Option ((Int32 ⊕ Nat) × eH)) (l0 : Nat) (l1 : Int32) (l2 : Int32) (h : eH) : Option ((Int32 ⊕ Nat) × eH) :=
  (fX1_other (45 : Int32) h).bind fun q1 =>
  if ¬ l2 = q1.1 then
    fX8_number_b72 N rE rN k39 l0 l1 (0 : Int32) q1.2
  else
    fX8_number_b72 N rE rN k39 l0 l1 (1 : Int32) q1.2
theorem pX8_number_b57 {w : eW} {d : Nat} {dr : Nat} (hd : dr + 16 ≤ d + 1) (hdr : 12 ≤ dr) {N : Nat} {rE : Nat → Int32 → eH → Option ((Unit ⊕ Nat) × eH)} {rN : Nat → eH → Option ((Int32 ⊕ Nat) × eH)} (hrE : ∀ a t0 h q, rE a t0 h = some q → wm w dr YX8_expand [.ref a, .int t0] h (e_is (e_rt c_V q))) (hrN : ∀ a h q, rN a h = some q → wm w dr YX8_number [.ref a] h (e_is (e_rt c_I q))) {k39 : Nat → Int32 → Int32 → eH → Option ((Int32 ⊕ Nat) × eH)} (hk39 : ∀ l0 l1 l2 h q, k39 l0 l1 l2 h = some q → wp w (d + 1) YX8_number 39 [some (.ref l0), some (.int l1), some (.int l2), none] [] h (e_is (e_rt c_I q))) {l0 : Nat} {l1 : Int32} {l2 : Int32} {h : eH} {q} (hf : fX8_number_b57 N rE rN k39 l0 l1 l2 h = some q) : wp w (d + 1) YX8_number 57 [some (.ref l0), some (.int l1), some (.int l2), none] [] h (e_is (e_rt c_I q)) := by
  unfold fX8_number_b57 at hf
  refine w_iload_n dX8_number_57 rfl rfl ?_
  refine w_iload_n dX8_number_58 rfl rfl ?_
  refine w_bipush dX8_number_59 (v := 45) (by decide) ?_
  refine x_cnI hf (e_stSN (Yc := YX1_other) (av := [.int (45 : Int32)]) (st := [.int l2, .int l1]) dX8_number_61 q2579 mX1_other) mX1_other.2.2.1 mX1_other.2.2.2.2.1 (Nat.le_of_ble_eq_true rfl) (Nat.le_of_ble_eq_true rfl) (fun q hq => pX1_other (by omega) hq) (fun q1 hf => ?_)
  refine w_icmp_ne 71 dX8_number_64 (by decide) (fun c2 => ?_) (fun c2 => ?_)
  · replace hf := (if_pos (show ¬ l2 = q1.1 from c2)).symm.trans hf
    refine w_iconst dX8_number_71 (v := 0) (by decide) ?_
    exact (pX8_number_b72 hd hdr hrE hrN hk39 hf).to ⟨rfl, trivial⟩
  · replace hf := (if_neg (show ¬ (¬ l2 = q1.1) from (fun z => z c2))).symm.trans hf
    refine w_iconst dX8_number_67 (v := 1) (by decide) ?_
    refine w_goto 72 dX8_number_68 (by decide) ?_
    exact (pX8_number_b72 hd hdr hrE hrN hk39 hf).to ⟨rfl, trivial⟩
def fX8_number_b155 (N : Nat) (rE : Nat → Int32 → eH → Option ((Unit ⊕ Nat) × eH)) (rN : Nat → eH → Option ((Int32 ⊕ Nat) × eH)) (s0 : Int32) (h : eH) : Option ((Int32 ⊕ Nat) × eH) :=
  some (.inl s0, h)
theorem pX8_number_b155 {w : eW} {d : Nat} {dr : Nat} (hd : dr + 16 ≤ d + 1) (hdr : 12 ≤ dr) {N : Nat} {rE : Nat → Int32 → eH → Option ((Unit ⊕ Nat) × eH)} {rN : Nat → eH → Option ((Int32 ⊕ Nat) × eH)} (hrE : ∀ a t0 h q, rE a t0 h = some q → wm w dr YX8_expand [.ref a, .int t0] h (e_is (e_rt c_V q))) (hrN : ∀ a h q, rN a h = some q → wm w dr YX8_number [.ref a] h (e_is (e_rt c_I q))) {s0 : Int32} {h : eH} {q} (hf : fX8_number_b155 N rE rN s0 h = some q) : wp w (d + 1) YX8_number 155 [none, none, none, none] [.int s0] h (e_is (e_rt c_I q)) := by
  unfold fX8_number_b155 at hf
  cases hf
  exact w_iret dX8_number_155 rfl rfl rfl
def fX8_number_b134 (N : Nat) (rE : Nat → Int32 → eH → Option ((Unit ⊕ Nat) × eH)) (rN : Nat → eH → Option ((Int32 ⊕ Nat) × eH)) (l0 : Nat) (l1 : Int32) (s0 : Int32) (h : eH) : Option ((Int32 ⊕ Nat) × eH) :=
  (g_I 7 h l0 10).bind fun x1 =>
  (p_V 7 h l0 10 (.int (x1 - (1 : Int32)))).bind fun h3 =>
  if l1 = 0 then
    fX8_number_b155 N rE rN s0 h3
  else
    fX8_number_b155 N rE rN (-s0) h3
theorem pX8_number_b134 {w : eW} {d : Nat} {dr : Nat} (hd : dr + 16 ≤ d + 1) (hdr : 12 ≤ dr) {N : Nat} {rE : Nat → Int32 → eH → Option ((Unit ⊕ Nat) × eH)} {rN : Nat → eH → Option ((Int32 ⊕ Nat) × eH)} (hrE : ∀ a t0 h q, rE a t0 h = some q → wm w dr YX8_expand [.ref a, .int t0] h (e_is (e_rt c_V q))) (hrN : ∀ a h q, rN a h = some q → wm w dr YX8_number [.ref a] h (e_is (e_rt c_I q))) {l0 : Nat} {l1 : Int32} {s0 : Int32} {h : eH} {q} (hf : fX8_number_b134 N rE rN l0 l1 s0 h = some q) : wp w (d + 1) YX8_number 134 [some (.ref l0), some (.int l1), none, none] [.int s0] h (e_is (e_rt c_I q)) := by
  unfold fX8_number_b134 at hf
  refine w_istore_n dX8_number_134 rfl (by decide) (ls' := [some (.ref l0), some (.int l1), none, some (.int s0)]) rfl ?_
  refine w_aload_n dX8_number_135 rfl rfl ?_
  refine w_dup dX8_number_136 rfl ?_
  obtain ⟨x1, b2, hf⟩ := Option.bind_eq_some_iff.mp hf
  refine GX8_125 b2 dX8_number_137 rfl ?_
  refine w_iconst dX8_number_140 (v := 1) (by decide) ?_
  refine w_isub dX8_number_141 ?_
  obtain ⟨h3, b4, hf⟩ := Option.bind_eq_some_iff.mp hf
  refine SX8_125 b4 dX8_number_142 rfl ?_
  refine w_iload_n dX8_number_145 rfl rfl ?_
  refine w_if_eq 154 dX8_number_146 (by decide) (fun c5 => ?_) (fun c5 => ?_)
  · replace hf := (if_pos (show l1 = 0 from c5)).symm.trans hf
    refine w_iload_n dX8_number_154 rfl rfl ?_
    exact (pX8_number_b155 hd hdr hrE hrN hf).to trivial
  · replace hf := (if_neg (show ¬ (l1 = 0) from c5)).symm.trans hf
    refine w_iload_n dX8_number_149 rfl rfl ?_
    refine w_ineg dX8_number_150 ?_
    refine w_goto 155 dX8_number_151 (by decide) ?_
    exact (pX8_number_b155 hd hdr hrE hrN hf).to trivial
def fX8_number_b39 (N : Nat) (rE : Nat → Int32 → eH → Option ((Unit ⊕ Nat) × eH)) (rN : Nat → eH → Option ((Int32 ⊕ Nat) × eH)) : Nat → Nat → Int32 → Int32 → eH → Option ((Int32 ⊕ Nat) × eH)
  | 0, _, _, _, _ => none
  | n + 1, l0, l1, l2, h =>
    (fX1_other (43 : Int32) h).bind fun q1 =>
    if l2 = q1.1 then
      fX8_number_b57 N rE rN (fX8_number_b39 N rE rN n) l0 l1 l2 q1.2
    else
      (fX1_other (45 : Int32) q1.2).bind fun q3 =>
      if ¬ l2 = q3.1 then
        (fX1_isDigit l2 q3.2).bind fun q5 =>
        if q5.1 = 0 then
          (fX1_other (96 : Int32) q5.2).bind fun q7 =>
          if ¬ l2 = q7.1 then
            (k_ok 7 q7.2 l0).bind fun _ =>
            (fX8_isSized l0 l2 q7.2).bind fun q10 =>
            if q10.1 = 0 then
              (k_ok 7 q10.2 l0).bind fun _ =>
              t_B (fX8_valued rN l0 l2 q10.2) fun x13 h14 =>
              fX8_number_b134 N rE rN l0 l1 x13 h14
            else
              (k_ok 7 q10.2 l0).bind fun _ =>
              t_B (fX8_sized rN l0 l2 q10.2) fun x16 h17 =>
              fX8_number_b134 N rE rN l0 l1 x16 h17
          else
            (k_ok 7 q7.2 l0).bind fun _ =>
            t_B (fX8_quoted N rE l0 q7.2) fun x19 h20 =>
            fX8_number_b134 N rE rN l0 l1 x19 h20
        else
          (k_ok 7 q5.2 l0).bind fun _ =>
          t_B (fX8_decimal N rE l0 l2 q5.2) fun x22 h23 =>
          fX8_number_b134 N rE rN l0 l1 x22 h23
      else
        fX8_number_b57 N rE rN (fX8_number_b39 N rE rN n) l0 l1 l2 q3.2
theorem pX8_number_b39 {w : eW} {d : Nat} {dr : Nat} (hd : dr + 16 ≤ d + 1) (hdr : 12 ≤ dr) {N : Nat} {rE : Nat → Int32 → eH → Option ((Unit ⊕ Nat) × eH)} {rN : Nat → eH → Option ((Int32 ⊕ Nat) × eH)} (hrE : ∀ a t0 h q, rE a t0 h = some q → wm w dr YX8_expand [.ref a, .int t0] h (e_is (e_rt c_V q))) (hrN : ∀ a h q, rN a h = some q → wm w dr YX8_number [.ref a] h (e_is (e_rt c_I q))) : ∀ (n : Nat) l0 l1 l2 h q, fX8_number_b39 N rE rN n l0 l1 l2 h = some q → wp w (d + 1) YX8_number 39 [some (.ref l0), some (.int l1), some (.int l2), none] [] h (e_is (e_rt c_I q)) := by
  intro n
  induction n with
  | zero => intro l0 l1 l2 h q hf; simp [fX8_number_b39] at hf
  | succ n ih =>
    intro l0 l1 l2 h q hf
    rw [fX8_number_b39] at hf
    refine w_iload_n dX8_number_39 rfl rfl ?_
    refine w_bipush dX8_number_40 (v := 43) (by decide) ?_
    refine x_cnI hf (e_stSN (Yc := YX1_other) (av := [.int (43 : Int32)]) (st := [.int l2]) dX8_number_42 q2579 mX1_other) mX1_other.2.2.1 mX1_other.2.2.2.2.1 (Nat.le_of_ble_eq_true rfl) (Nat.le_of_ble_eq_true rfl) (fun q hq => pX1_other (by omega) hq) (fun q1 hf => ?_)
    refine w_icmp_eq 57 dX8_number_45 (by decide) (fun c2 => ?_) (fun c2 => ?_)
    · replace hf := (if_pos (show l2 = q1.1 from c2)).symm.trans hf
      exact (pX8_number_b57 hd hdr hrE hrN ih hf).to ⟨rfl, rfl, rfl, trivial⟩
    · replace hf := (if_neg (show ¬ (l2 = q1.1) from c2)).symm.trans hf
      refine w_iload_n dX8_number_48 rfl rfl ?_
      refine w_bipush dX8_number_49 (v := 45) (by decide) ?_
      refine x_cnI hf (e_stSN (Yc := YX1_other) (av := [.int (45 : Int32)]) (st := [.int l2]) dX8_number_51 q2579 mX1_other) mX1_other.2.2.1 mX1_other.2.2.2.2.1 (Nat.le_of_ble_eq_true rfl) (Nat.le_of_ble_eq_true rfl) (fun q hq => pX1_other (by omega) hq) (fun q3 hf => ?_)
      refine w_icmp_ne 82 dX8_number_54 (by decide) (fun c4 => ?_) (fun c4 => ?_)
      · replace hf := (if_pos (show ¬ l2 = q3.1 from c4)).symm.trans hf
        refine w_iload_n dX8_number_82 rfl rfl ?_
        refine x_cnI hf (e_stSN (Yc := YX1_isDigit) (av := [.int l2]) (st := []) dX8_number_83 q2598 mX1_isDigit) mX1_isDigit.2.2.1 mX1_isDigit.2.2.2.2.1 (Nat.le_of_ble_eq_true rfl) (Nat.le_of_ble_eq_true rfl) (fun q hq => pX1_isDigit (by omega) hq) (fun q5 hf => ?_)
        refine w_if_eq 97 dX8_number_86 (by decide) (fun c6 => ?_) (fun c6 => ?_)
        · replace hf := (if_pos (show q5.1 = 0 from c6)).symm.trans hf
          refine w_iload_n dX8_number_97 rfl rfl ?_
          refine w_bipush dX8_number_98 (v := 96) (by decide) ?_
          refine x_cnI hf (e_stSN (Yc := YX1_other) (av := [.int (96 : Int32)]) (st := [.int l2]) dX8_number_100 q2579 mX1_other) mX1_other.2.2.1 mX1_other.2.2.2.2.1 (Nat.le_of_ble_eq_true rfl) (Nat.le_of_ble_eq_true rfl) (fun q hq => pX1_other (by omega) hq) (fun q7 hf => ?_)
          refine w_icmp_ne 113 dX8_number_103 (by decide) (fun c8 => ?_) (fun c8 => ?_)
          · replace hf := (if_pos (show ¬ l2 = q7.1 from c8)).symm.trans hf
            refine w_aload_n dX8_number_113 rfl rfl ?_
            refine w_iload_n dX8_number_114 rfl rfl ?_
            obtain ⟨_, b9, hf⟩ := Option.bind_eq_some_iff.mp hf
            refine x_cnI hf (e_stV (Yc := YX8_isSized) (ci := 7) (av := [.int l2]) (st := []) dX8_number_115 q2615 mX8_isSized rfl (k_ok_some b9).1 (k_ok_some b9).2) mX8_isSized.2.2.1 mX8_isSized.2.2.2.2.1 (Nat.le_of_ble_eq_true rfl) (Nat.le_of_ble_eq_true rfl) (fun q hq => pX8_isSized (by omega) hq) (fun q10 hf => ?_)
            refine w_if_eq 129 dX8_number_118 (by decide) (fun c11 => ?_) (fun c11 => ?_)
            · replace hf := (if_pos (show q10.1 = 0 from c11)).symm.trans hf
              refine w_aload_n dX8_number_129 rfl rfl ?_
              refine w_iload_n dX8_number_130 rfl rfl ?_
              obtain ⟨_, b12, hf⟩ := Option.bind_eq_some_iff.mp hf
              refine x_ctI hf (e_stV (Yc := YX8_valued) (ci := 7) (av := [.int l2]) (st := []) dX8_number_131 q2642 mX8_valued rfl (k_ok_some b12).1 (k_ok_some b12).2) mX8_valued.2.2.1 mX8_valued.2.2.2.2.1 (Nat.le_of_ble_eq_true rfl) (Nat.le_of_ble_eq_true rfl) rfl (fun q hq => pX8_valued (by omega) hdr hrN hq) (fun x13 h14 hf => ?_)
              exact (pX8_number_b134 hd hdr hrE hrN hf).to ⟨rfl, rfl, trivial⟩
            · replace hf := (if_neg (show ¬ (q10.1 = 0) from c11)).symm.trans hf
              refine w_aload_n dX8_number_121 rfl rfl ?_
              refine w_iload_n dX8_number_122 rfl rfl ?_
              obtain ⟨_, b15, hf⟩ := Option.bind_eq_some_iff.mp hf
              refine x_ctI hf (e_stV (Yc := YX8_sized) (ci := 7) (av := [.int l2]) (st := []) dX8_number_123 q2625 mX8_sized rfl (k_ok_some b15).1 (k_ok_some b15).2) mX8_sized.2.2.1 mX8_sized.2.2.2.2.1 (Nat.le_of_ble_eq_true rfl) (Nat.le_of_ble_eq_true rfl) rfl (fun q hq => pX8_sized (by omega) hdr hrN hq) (fun x16 h17 hf => ?_)
              refine w_goto 134 dX8_number_126 (by decide) ?_
              exact (pX8_number_b134 hd hdr hrE hrN hf).to ⟨rfl, rfl, trivial⟩
          · replace hf := (if_neg (show ¬ (¬ l2 = q7.1) from (fun z => z c8))).symm.trans hf
            refine w_aload_n dX8_number_106 rfl rfl ?_
            obtain ⟨_, b18, hf⟩ := Option.bind_eq_some_iff.mp hf
            refine x_ctI hf (e_stV (Yc := YX8_quoted) (ci := 7) (av := []) (st := []) dX8_number_107 q2611 mX8_quoted rfl (k_ok_some b18).1 (k_ok_some b18).2) mX8_quoted.2.2.1 mX8_quoted.2.2.2.2.1 (Nat.le_of_ble_eq_true rfl) (Nat.le_of_ble_eq_true rfl) rfl (fun q hq => pX8_quoted (by omega) hdr hrE hq) (fun x19 h20 hf => ?_)
            refine w_goto 134 dX8_number_110 (by decide) ?_
            exact (pX8_number_b134 hd hdr hrE hrN hf).to ⟨rfl, rfl, trivial⟩
        · replace hf := (if_neg (show ¬ (q5.1 = 0) from c6)).symm.trans hf
          refine w_aload_n dX8_number_89 rfl rfl ?_
          refine w_iload_n dX8_number_90 rfl rfl ?_
          obtain ⟨_, b21, hf⟩ := Option.bind_eq_some_iff.mp hf
          refine x_ctI hf (e_stV (Yc := YX8_decimal) (ci := 7) (av := [.int l2]) (st := []) dX8_number_91 q2601 mX8_decimal rfl (k_ok_some b21).1 (k_ok_some b21).2) mX8_decimal.2.2.1 mX8_decimal.2.2.2.2.1 (Nat.le_of_ble_eq_true rfl) (Nat.le_of_ble_eq_true rfl) rfl (fun q hq => pX8_decimal (by omega) hdr hrE hq) (fun x22 h23 hf => ?_)
          refine w_goto 134 dX8_number_94 (by decide) ?_
          exact (pX8_number_b134 hd hdr hrE hrN hf).to ⟨rfl, rfl, trivial⟩
      · replace hf := (if_neg (show ¬ (¬ l2 = q3.1) from (fun z => z c4))).symm.trans hf
        exact (pX8_number_b57 hd hdr hrE hrN ih hf).to ⟨rfl, rfl, rfl, trivial⟩
def fX8_number_b18 (N : Nat) (rE : Nat → Int32 → eH → Option ((Unit ⊕ Nat) × eH)) (rN : Nat → eH → Option ((Int32 ⊕ Nat) × eH)) (l0 : Nat) (s0 : Nat) (s1 : Int32) (h : eH) : Option ((Int32 ⊕ Nat) × eH) :=
  (k_ok 3 h s0).bind fun _ =>
  t_B (fX4_want s0 s1 (3 : Int32) h) fun x2 h3 =>
  (g_I 7 h3 l0 10).bind fun x4 =>
  (p_V 7 h3 l0 10 (.int (x4 + (1 : Int32)))).bind fun h6 =>
  (k_ok 7 h6 l0).bind fun _ =>
  t_B (fX8_needSolid N rE l0 h6) fun x9 h10 =>
  fX8_number_b39 N rE rN N l0 (0 : Int32) x9 h10
theorem pX8_number_b18 {w : eW} {d : Nat} {dr : Nat} (hd : dr + 16 ≤ d + 1) (hdr : 12 ≤ dr) {N : Nat} {rE : Nat → Int32 → eH → Option ((Unit ⊕ Nat) × eH)} {rN : Nat → eH → Option ((Int32 ⊕ Nat) × eH)} (hrE : ∀ a t0 h q, rE a t0 h = some q → wm w dr YX8_expand [.ref a, .int t0] h (e_is (e_rt c_V q))) (hrN : ∀ a h q, rN a h = some q → wm w dr YX8_number [.ref a] h (e_is (e_rt c_I q))) {l0 : Nat} {s0 : Nat} {s1 : Int32} {h : eH} {q} (hf : fX8_number_b18 N rE rN l0 s0 s1 h = some q) : wp w (d + 1) YX8_number 18 [some (.ref l0), none, none, none] [.int s1, .ref s0] h (e_is (e_rt c_I q)) := by
  unfold fX8_number_b18 at hf
  refine w_iconst dX8_number_18 (v := 3) (by decide) ?_
  obtain ⟨_, b1, hf⟩ := Option.bind_eq_some_iff.mp hf
  refine x_ctV hf (e_stV (Yc := YX4_want) (ci := 3) (av := [.int s1, .int (3 : Int32)]) (st := []) dX8_number_19 q2500 mX4_want rfl (k_ok_some b1).1 (k_ok_some b1).2) mX4_want.2.2.1 mX4_want.2.2.2.2.1 (Nat.le_of_ble_eq_true rfl) (Nat.le_of_ble_eq_true rfl) rfl (fun q hq => pX4_want (by omega) hq) (fun x2 h3 hf => ?_)
  refine w_aload_n dX8_number_22 rfl rfl ?_
  refine w_dup dX8_number_23 rfl ?_
  obtain ⟨x4, b5, hf⟩ := Option.bind_eq_some_iff.mp hf
  refine GX8_125 b5 dX8_number_24 rfl ?_
  refine w_iconst dX8_number_27 (v := 1) (by decide) ?_
  refine w_iadd dX8_number_28 ?_
  obtain ⟨h6, b7, hf⟩ := Option.bind_eq_some_iff.mp hf
  refine SX8_125 b7 dX8_number_29 rfl ?_
  refine w_iconst dX8_number_32 (v := 0) (by decide) ?_
  refine w_istore_n dX8_number_33 rfl (by decide) (ls' := [some (.ref l0), some (.int (0 : Int32)), none, none]) rfl ?_
  refine w_aload_n dX8_number_34 rfl rfl ?_
  obtain ⟨_, b8, hf⟩ := Option.bind_eq_some_iff.mp hf
  refine x_ctI hf (e_stV (Yc := YX8_needSolid) (ci := 7) (av := []) (st := []) dX8_number_35 q2594 mX8_needSolid rfl (k_ok_some b8).1 (k_ok_some b8).2) mX8_needSolid.2.2.1 mX8_needSolid.2.2.2.2.1 (Nat.le_of_ble_eq_true rfl) (Nat.le_of_ble_eq_true rfl) rfl (fun q hq => pX8_needSolid (by omega) hdr hrE hq) (fun x9 h10 hf => ?_)
  refine w_istore_n dX8_number_38 rfl (by decide) (ls' := [some (.ref l0), some (.int (0 : Int32)), some (.int x9), none]) rfl ?_
  exact (pX8_number_b39 hd hdr hrE hrN N _ _ _ _ _ hf).to ⟨rfl, rfl, rfl, trivial⟩
def fX8_number (N : Nat) (rE : Nat → Int32 → eH → Option ((Unit ⊕ Nat) × eH)) (rN : Nat → eH → Option ((Int32 ⊕ Nat) × eH)) (this : Nat) (h : eH) : Option ((Int32 ⊕ Nat) × eH) :=
  (g_A 7 h this 0).bind fun a1 =>
  (g_I 7 h this 10).bind fun x3 =>
  if (40 : Int32) ≤ x3 then
    fX8_number_b18 N rE rN this a1 (0 : Int32) h
  else
    fX8_number_b18 N rE rN this a1 (1 : Int32) h
theorem pX8_number {w : eW} {d : Nat} {dr : Nat} (hd : dr + 16 ≤ d) (hdr : 12 ≤ dr) {N : Nat} {rE : Nat → Int32 → eH → Option ((Unit ⊕ Nat) × eH)} {rN : Nat → eH → Option ((Int32 ⊕ Nat) × eH)} (hrE : ∀ a t0 h q, rE a t0 h = some q → wm w dr YX8_expand [.ref a, .int t0] h (e_is (e_rt c_V q))) (hrN : ∀ a h q, rN a h = some q → wm w dr YX8_number [.ref a] h (e_is (e_rt c_I q))) {this : Nat} {h : eH} {q} (hf : fX8_number N rE rN this h = some q) : wm w d YX8_number [.ref this] h (e_is (e_rt c_I q)) := by
  obtain ⟨d, rfl⟩ : ∃ e, d = e + 1 := ⟨d - 1, by omega⟩
  show wp w (d + 1) YX8_number 0 [some (.ref this), none, none, none] [] h _
  unfold fX8_number at hf
  refine w_aload_n dX8_number_0 rfl rfl ?_
  obtain ⟨a1, b2, hf⟩ := Option.bind_eq_some_iff.mp hf
  refine GX8_51 b2 dX8_number_1 rfl ?_
  refine w_aload_n dX8_number_4 rfl rfl ?_
  obtain ⟨x3, b4, hf⟩ := Option.bind_eq_some_iff.mp hf
  refine GX8_125 b4 dX8_number_5 rfl ?_
  refine w_bipush dX8_number_8 (v := 40) (by decide) ?_
  refine w_icmp_ge 17 dX8_number_10 (by decide) (fun c5 => ?_) (fun c5 => ?_)
  · replace hf := (if_pos (show (40 : Int32) ≤ x3 from c5)).symm.trans hf
    refine w_iconst dX8_number_17 (v := 0) (by decide) ?_
    exact (pX8_number_b18 hd hdr hrE hrN hf).to ⟨rfl, trivial⟩
  · replace hf := (if_neg (show ¬ ((40 : Int32) ≤ x3) from c5)).symm.trans hf
    refine w_iconst dX8_number_13 (v := 1) (by decide) ?_
    refine w_goto 18 dX8_number_14 (by decide) ?_
    exact (pX8_number_b18 hd hdr hrE hrN hf).to ⟨rfl, trivial⟩
