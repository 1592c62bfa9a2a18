set_option maxRecDepth 100000
set_option maxHeartbeats 4000000
theorem q4240 : (Jvm.Cond.fieldLink "TypeHouseModel$Breaker" (159 : Nat) "TypeHouseModel$Breaker" "wide" "I") ∈ lw_all := lw_g (lw_at lw_m16 215 rfl) rfl
theorem q4250 : (Jvm.Cond.fieldLink "TypeHouseModel$Breaker" (122 : Nat) "TypeHouseModel$Breaker" "pass" "I") ∈ lw_all := lw_g (lw_at lw_m16 225 rfl) rfl
theorem q4251 : (Jvm.Cond.fieldLink "TypeHouseModel$Breaker" (119 : Nat) "TypeHouseModel$Breaker" "last" "I") ∈ lw_all := lw_g (lw_at lw_m16 226 rfl) rfl
theorem q4252 : (Jvm.Cond.fieldLink "TypeHouseModel$Breaker" (204 : Nat) "TypeHouseModel$Breaker" "tolerance" "I") ∈ lw_all := lw_g (lw_at lw_m16 227 rfl) rfl
theorem q4253 : (Jvm.Cond.fieldLink "TypeHouseModel$Breaker" (144 : Nat) "TypeHouseModel$Breaker" "more" "I") ∈ lw_all := lw_g (lw_at lw_m16 228 rfl) rfl
theorem q4254 : (Jvm.Cond.fieldLink "TypeHouseModel$Breaker" (185 : Nat) "TypeHouseModel$Breaker" "nodes" "I") ∈ lw_all := lw_g (lw_at lw_m16 229 rfl) rfl
theorem q4256 : (Jvm.Cond.fieldLink "TypeHouseModel$Breaker" (211 : Nat) "TypeHouseModel$Breaker" "looks" "I") ∈ lw_all := lw_g (lw_at lw_m16 231 rfl) rfl
theorem q4257 : (Jvm.Cond.fieldLink "TypeHouseModel$Breaker" (214 : Nat) "TypeHouseModel$Breaker" "allLooks" "I") ∈ lw_all := lw_g (lw_at lw_m16 232 rfl) rfl
theorem q4264 : (Jvm.Cond.fieldLink "TypeHouseModel$Breaker" (135 : Nat) "TypeHouseModel$Breaker" "first" "I") ∈ lw_all := lw_g (lw_at lw_m16 239 rfl) rfl
theorem q4265 : (Jvm.Cond.fieldLink "TypeHouseModel$Breaker" (138 : Nat) "TypeHouseModel$Breaker" "width" "I") ∈ lw_all := lw_g (lw_at lw_m17 0 rfl) rfl
theorem q4267 : (Jvm.Cond.fieldLink "TypeHouseModel$Breaker" (141 : Nat) "TypeHouseModel$Breaker" "shrink" "I") ∈ lw_all := lw_g (lw_at lw_m17 2 rfl) rfl
theorem q4268 : (Jvm.Cond.fieldLink "TypeHouseModel$Breaker" (162 : Nat) "TypeHouseModel$Breaker" "shortfall" "I") ∈ lw_all := lw_g (lw_at lw_m17 3 rfl) rfl
theorem q4269 : (Jvm.Cond.fieldLink "TypeHouseModel$Breaker" (169 : Nat) "TypeHouseModel$Breaker" "badness" "I") ∈ lw_all := lw_g (lw_at lw_m17 4 rfl) rfl
theorem q4270 : (Jvm.Cond.fieldLink "TypeHouseModel$Breaker" (172 : Nat) "TypeHouseModel$Breaker" "fit" "I") ∈ lw_all := lw_g (lw_at lw_m17 5 rfl) rfl
theorem q5770 : (Jvm.Cond.instanceMethod ({ cls := "TypeHouseModel$Breaker", name := "fitsInSizes", desc := "()Z" } : Jvm.MethodName)) ∈ lw_all := lw_g (lw_at lw_m23 65 rfl) rfl
theorem q5771 : (Jvm.Cond.code ({ cls := "TypeHouseModel$Breaker", name := "fitsInSizes", desc := "()Z" } : Jvm.MethodName) prog_38_method_26_code (8 : Nat) (Option.some Jvm.ClassFile.FieldType.boolean)) ∈ lw_all := lw_g (lw_at lw_m23 66 rfl) rfl
theorem q5772 : (Jvm.Cond.methodLink "TypeHouseModel$Breaker" (238 : Nat) ({ cls := "TypeHouseModel$Breaker", name := "without", desc := "(I)J" } : Jvm.MethodName)) ∈ lw_all := lw_g (lw_at lw_m23 67 rfl) rfl
theorem q5776 : (Jvm.Cond.methodLink "TypeHouseModel$Breaker" (242 : Nat) ({ cls := "TypeHouseModel$Breaker", name := "isSize", desc := "(J)Z" } : Jvm.MethodName)) ∈ lw_all := lw_g (lw_at lw_m23 71 rfl) rfl
theorem q5777 : (Jvm.Cond.static ({ cls := "TypeHouseModel$Breaker", name := "isSize", desc := "(J)Z" } : Jvm.MethodName)) ∈ lw_all := lw_g (lw_at lw_m23 72 rfl) rfl
theorem q5778 : (Jvm.Cond.code ({ cls := "TypeHouseModel$Breaker", name := "isSize", desc := "(J)Z" } : Jvm.MethodName) prog_38_method_2_code (2 : Nat) (Option.some Jvm.ClassFile.FieldType.boolean)) ∈ lw_all := lw_g (lw_at lw_m23 73 rfl) rfl
theorem q5779 : (Jvm.Cond.constantLong "TypeHouseModel$Breaker" (99 : Nat) (-1073741823 : Int64)) ∈ lw_all := lw_g (lw_at lw_m23 74 rfl) rfl
theorem q5780 : (Jvm.Cond.constantLong "TypeHouseModel$Breaker" (101 : Nat) (1073741823 : Int64)) ∈ lw_all := lw_g (lw_at lw_m23 75 rfl) rfl
theorem q5784 : (Jvm.Cond.instanceMethod ({ cls := "TypeHouseModel$Breaker", name := "sumUp", desc := "()V" } : Jvm.MethodName)) ∈ lw_all := lw_g (lw_at lw_m23 79 rfl) rfl
theorem q5785 : (Jvm.Cond.code ({ cls := "TypeHouseModel$Breaker", name := "sumUp", desc := "()V" } : Jvm.MethodName) prog_38_method_11_code (4 : Nat) (Option.none : Option Jvm.ClassFile.FieldType)) ∈ lw_all := lw_g (lw_at lw_m23 80 rfl) rfl
theorem q5788 : (Jvm.Cond.instanceMethod ({ cls := "TypeHouseModel$Breaker", name := "make", desc := "()Z" } : Jvm.MethodName)) ∈ lw_all := lw_g (lw_at lw_m23 83 rfl) rfl
theorem q5789 : (Jvm.Cond.code ({ cls := "TypeHouseModel$Breaker", name := "make", desc := "()Z" } : Jvm.MethodName) prog_38_method_20_code (3 : Nat) (Option.some Jvm.ClassFile.FieldType.boolean)) ∈ lw_all := lw_g (lw_at lw_m23 84 rfl) rfl
theorem q5790 : (Jvm.Cond.methodLink "TypeHouseModel$Breaker" (219 : Nat) ({ cls := "TypeHouseModel$Breaker", name := "isPlace", desc := "(I)Z" } : Jvm.MethodName)) ∈ lw_all := lw_g (lw_at lw_m23 85 rfl) rfl
theorem q5792 : (Jvm.Cond.instanceMethod ({ cls := "TypeHouseModel$Breaker", name := "isPlace", desc := "(I)Z" } : Jvm.MethodName)) ∈ lw_all := lw_g (lw_at lw_m23 87 rfl) rfl
theorem q5793 : (Jvm.Cond.code ({ cls := "TypeHouseModel$Breaker", name := "isPlace", desc := "(I)Z" } : Jvm.MethodName) prog_38_method_8_code (3 : Nat) (Option.some Jvm.ClassFile.FieldType.boolean)) ∈ lw_all := lw_g (lw_at lw_m23 88 rfl) rfl
theorem q5794 : (Jvm.Cond.methodLink "TypeHouseModel$Breaker" (112 : Nat) ({ cls := "TypeHouseModel$Breaker", name := "replacer", desc := "(I)I" } : Jvm.MethodName)) ∈ lw_all := lw_g (lw_at lw_m23 89 rfl) rfl
theorem q5796 : (Jvm.Cond.instanceMethod ({ cls := "TypeHouseModel$Breaker", name := "replacer", desc := "(I)I" } : Jvm.MethodName)) ∈ lw_all := lw_g (lw_at lw_m23 91 rfl) rfl
theorem q5797 : (Jvm.Cond.code ({ cls := "TypeHouseModel$Breaker", name := "replacer", desc := "(I)I" } : Jvm.MethodName) prog_38_method_4_code (3 : Nat) (Option.some Jvm.ClassFile.FieldType.int)) ∈ lw_all := lw_g (lw_at lw_m23 92 rfl) rfl
theorem q5798 : (Jvm.Cond.methodLink "TypeHouseModel$Breaker" (116 : Nat) ({ cls := "TypeHouseModel$Breaker", name := "fine", desc := "(I)I" } : Jvm.MethodName)) ∈ lw_all := lw_g (lw_at lw_m23 93 rfl) rfl
theorem q5800 : (Jvm.Cond.instanceMethod ({ cls := "TypeHouseModel$Breaker", name := "fine", desc := "(I)I" } : Jvm.MethodName)) ∈ lw_all := lw_g (lw_at lw_m23 95 rfl) rfl
theorem q5801 : (Jvm.Cond.code ({ cls := "TypeHouseModel$Breaker", name := "fine", desc := "(I)I" } : Jvm.MethodName) prog_38_method_7_code (2 : Nat) (Option.some Jvm.ClassFile.FieldType.int)) ∈ lw_all := lw_g (lw_at lw_m23 96 rfl) rfl
theorem q5802 : (Jvm.Cond.methodLink "TypeHouseModel$Breaker" (222 : Nat) ({ cls := "TypeHouseModel$Breaker", name := "ask", desc := "(I)Z" } : Jvm.MethodName)) ∈ lw_all := lw_g (lw_at lw_m23 97 rfl) rfl
theorem q5804 : (Jvm.Cond.instanceMethod ({ cls := "TypeHouseModel$Breaker", name := "ask", desc := "(I)Z" } : Jvm.MethodName)) ∈ lw_all := lw_g (lw_at lw_m23 99 rfl) rfl
theorem q5805 : (Jvm.Cond.code ({ cls := "TypeHouseModel$Breaker", name := "ask", desc := "(I)Z" } : Jvm.MethodName) prog_38_method_19_code (10 : Nat) (Option.some Jvm.ClassFile.FieldType.boolean)) ∈ lw_all := lw_g (lw_at lw_m23 100 rfl) rfl
theorem q5806 : (Jvm.Cond.methodLink "TypeHouseModel$Breaker" (196 : Nat) ({ cls := "TypeHouseModel$Breaker", name := "measure", desc := "(II)V" } : Jvm.MethodName)) ∈ lw_all := lw_g (lw_at lw_m23 101 rfl) rfl
theorem q5808 : (Jvm.Cond.instanceMethod ({ cls := "TypeHouseModel$Breaker", name := "measure", desc := "(II)V" } : Jvm.MethodName)) ∈ lw_all := lw_g (lw_at lw_m23 103 rfl) rfl
theorem q5809 : (Jvm.Cond.code ({ cls := "TypeHouseModel$Breaker", name := "measure", desc := "(II)V" } : Jvm.MethodName) prog_38_method_12_code (5 : Nat) (Option.none : Option Jvm.ClassFile.FieldType)) ∈ lw_all := lw_g (lw_at lw_m23 104 rfl) rfl
theorem q5810 : (Jvm.Cond.methodLink "TypeHouseModel$Breaker" (132 : Nat) ({ cls := "TypeHouseModel$Breaker", name := "firstOf", desc := "(I)I" } : Jvm.MethodName)) ∈ lw_all := lw_g (lw_at lw_m23 105 rfl) rfl
theorem q5812 : (Jvm.Cond.instanceMethod ({ cls := "TypeHouseModel$Breaker", name := "firstOf", desc := "(I)I" } : Jvm.MethodName)) ∈ lw_all := lw_g (lw_at lw_m23 107 rfl) rfl
theorem q5813 : (Jvm.Cond.code ({ cls := "TypeHouseModel$Breaker", name := "firstOf", desc := "(I)I" } : Jvm.MethodName) prog_38_method_10_code (4 : Nat) (Option.some Jvm.ClassFile.FieldType.int)) ∈ lw_all := lw_g (lw_at lw_m23 108 rfl) rfl
theorem q5814 : (Jvm.Cond.methodLink "TypeHouseModel$Breaker" (125 : Nat) ({ cls := "TypeHouseModel$Breaker", name := "isHyphen", desc := "(I)Z" } : Jvm.MethodName)) ∈ lw_all := lw_g (lw_at lw_m23 109 rfl) rfl
theorem q5816 : (Jvm.Cond.instanceMethod ({ cls := "TypeHouseModel$Breaker", name := "isHyphen", desc := "(I)Z" } : Jvm.MethodName)) ∈ lw_all := lw_g (lw_at lw_m23 111 rfl) rfl
theorem q5817 : (Jvm.Cond.code ({ cls := "TypeHouseModel$Breaker", name := "isHyphen", desc := "(I)Z" } : Jvm.MethodName) prog_38_method_6_code (2 : Nat) (Option.some Jvm.ClassFile.FieldType.boolean)) ∈ lw_all := lw_g (lw_at lw_m23 112 rfl) rfl
theorem q5818 : (Jvm.Cond.methodLink "TypeHouseModel$Breaker" (129 : Nat) ({ cls := "TypeHouseModel$Breaker", name := "isDropped", desc := "(I)Z" } : Jvm.MethodName)) ∈ lw_all := lw_g (lw_at lw_m23 113 rfl) rfl
theorem q5820 : (Jvm.Cond.instanceMethod ({ cls := "TypeHouseModel$Breaker", name := "isDropped", desc := "(I)Z" } : Jvm.MethodName)) ∈ lw_all := lw_g (lw_at lw_m23 115 rfl) rfl
theorem q5821 : (Jvm.Cond.code ({ cls := "TypeHouseModel$Breaker", name := "isDropped", desc := "(I)Z" } : Jvm.MethodName) prog_38_method_9_code (2 : Nat) (Option.some Jvm.ClassFile.FieldType.boolean)) ∈ lw_all := lw_g (lw_at lw_m23 116 rfl) rfl
theorem q5822 : (Jvm.Cond.methodLink "TypeHouseModel$Breaker" (200 : Nat) ({ cls := "TypeHouseModel$Breaker", name := "judge", desc := "(I)V" } : Jvm.MethodName)) ∈ lw_all := lw_g (lw_at lw_m23 117 rfl) rfl
theorem q5824 : (Jvm.Cond.instanceMethod ({ cls := "TypeHouseModel$Breaker", name := "judge", desc := "(I)V" } : Jvm.MethodName)) ∈ lw_all := lw_g (lw_at lw_m23 119 rfl) rfl
theorem q5825 : (Jvm.Cond.code ({ cls := "TypeHouseModel$Breaker", name := "judge", desc := "(I)V" } : Jvm.MethodName) prog_38_method_14_code (5 : Nat) (Option.none : Option Jvm.ClassFile.FieldType)) ∈ lw_all := lw_g (lw_at lw_m23 120 rfl) rfl
theorem q5826 : (Jvm.Cond.methodLink "TypeHouseModel$Breaker" (165 : Nat) ({ cls := "TypeHouseModel$Breaker", name := "bad", desc := "(JJ)I" } : Jvm.MethodName)) ∈ lw_all := lw_g (lw_at lw_m23 121 rfl) rfl
theorem q5827 : (Jvm.Cond.static ({ cls := "TypeHouseModel$Breaker", name := "bad", desc := "(JJ)I" } : Jvm.MethodName)) ∈ lw_all := lw_g (lw_at lw_m23 122 rfl) rfl
theorem q5828 : (Jvm.Cond.code ({ cls := "TypeHouseModel$Breaker", name := "bad", desc := "(JJ)I" } : Jvm.MethodName) prog_38_method_13_code (6 : Nat) (Option.some Jvm.ClassFile.FieldType.int)) ∈ lw_all := lw_g (lw_at lw_m23 123 rfl) rfl
theorem q5829 : (Jvm.Cond.constantLong "TypeHouseModel$Breaker" (147 : Nat) (7230584 : Int64)) ∈ lw_all := lw_g (lw_at lw_m23 124 rfl) rfl
theorem q5830 : (Jvm.Cond.constantLong "TypeHouseModel$Breaker" (149 : Nat) (297 : Int64)) ∈ lw_all := lw_g (lw_at lw_m23 125 rfl) rfl
theorem q5831 : (Jvm.Cond.constantLong "TypeHouseModel$Breaker" (151 : Nat) (1663497 : Int64)) ∈ lw_all := lw_g (lw_at lw_m23 126 rfl) rfl
theorem q5832 : (Jvm.Cond.constantLong "TypeHouseModel$Breaker" (153 : Nat) (1290 : Int64)) ∈ lw_all := lw_g (lw_at lw_m23 127 rfl) rfl
theorem q5833 : (Jvm.Cond.constantLong "TypeHouseModel$Breaker" (155 : Nat) (131072 : Int64)) ∈ lw_all := lw_g (lw_at lw_m23 128 rfl) rfl
theorem q5834 : (Jvm.Cond.constantLong "TypeHouseModel$Breaker" (157 : Nat) (262144 : Int64)) ∈ lw_all := lw_g (lw_at lw_m23 129 rfl) rfl
theorem q5835 : (Jvm.Cond.methodLink "TypeHouseModel$Breaker" (207 : Nat) ({ cls := "TypeHouseModel$Breaker", name := "reach", desc := "(III)Z" } : Jvm.MethodName)) ∈ lw_all := lw_g (lw_at lw_m23 130 rfl) rfl
theorem q5837 : (Jvm.Cond.instanceMethod ({ cls := "TypeHouseModel$Breaker", name := "reach", desc := "(III)Z" } : Jvm.MethodName)) ∈ lw_all := lw_g (lw_at lw_m23 132 rfl) rfl
theorem q5838 : (Jvm.Cond.code ({ cls := "TypeHouseModel$Breaker", name := "reach", desc := "(III)Z" } : Jvm.MethodName) prog_38_method_18_code (7 : Nat) (Option.some Jvm.ClassFile.FieldType.boolean)) ∈ lw_all := lw_g (lw_at lw_m23 133 rfl) rfl
theorem q5839 : (Jvm.Cond.methodLink "TypeHouseModel$Breaker" (181 : Nat) ({ cls := "TypeHouseModel$Breaker", name := "demerits", desc := "(II)J" } : Jvm.MethodName)) ∈ lw_all := lw_g (lw_at lw_m23 134 rfl) rfl
theorem q5841 : (Jvm.Cond.instanceMethod ({ cls := "TypeHouseModel$Breaker", name := "demerits", desc := "(II)J" } : Jvm.MethodName)) ∈ lw_all := lw_g (lw_at lw_m23 136 rfl) rfl
theorem q5842 : (Jvm.Cond.code ({ cls := "TypeHouseModel$Breaker", name := "demerits", desc := "(II)J" } : Jvm.MethodName) prog_38_method_15_code (11 : Nat) (Option.some Jvm.ClassFile.FieldType.long)) ∈ lw_all := lw_g (lw_at lw_m23 137 rfl) rfl
theorem q5843 : (Jvm.Cond.constantLong "TypeHouseModel$Breaker" (175 : Nat) (10000 : Int64)) ∈ lw_all := lw_g (lw_at lw_m23 138 rfl) rfl
theorem q5844 : (Jvm.Cond.constantLong "TypeHouseModel$Breaker" (177 : Nat) (100000000 : Int64)) ∈ lw_all := lw_g (lw_at lw_m23 139 rfl) rfl
theorem q5845 : (Jvm.Cond.constantLong "TypeHouseModel$Breaker" (179 : Nat) (-10000 : Int64)) ∈ lw_all := lw_g (lw_at lw_m23 140 rfl) rfl
theorem q5846 : (Jvm.Cond.methodLink "TypeHouseModel$Breaker" (188 : Nat) ({ cls := "TypeHouseModel$Breaker", name := "write", desc := "(IIIJ)V" } : Jvm.MethodName)) ∈ lw_all := lw_g (lw_at lw_m23 141 rfl) rfl
theorem q5848 : (Jvm.Cond.instanceMethod ({ cls := "TypeHouseModel$Breaker", name := "write", desc := "(IIIJ)V" } : Jvm.MethodName)) ∈ lw_all := lw_g (lw_at lw_m23 143 rfl) rfl
theorem q5849 : (Jvm.Cond.code ({ cls := "TypeHouseModel$Breaker", name := "write", desc := "(IIIJ)V" } : Jvm.MethodName) prog_38_method_16_code (6 : Nat) (Option.none : Option Jvm.ClassFile.FieldType)) ∈ lw_all := lw_g (lw_at lw_m23 144 rfl) rfl
theorem q5850 : (Jvm.Cond.methodLink "TypeHouseModel$Breaker" (192 : Nat) ({ cls := "TypeHouseModel$Breaker", name := "isBefore", desc := "(II)Z" } : Jvm.MethodName)) ∈ lw_all := lw_g (lw_at lw_m23 145 rfl) rfl
theorem q5852 : (Jvm.Cond.instanceMethod ({ cls := "TypeHouseModel$Breaker", name := "isBefore", desc := "(II)Z" } : Jvm.MethodName)) ∈ lw_all := lw_g (lw_at lw_m23 147 rfl) rfl
theorem q5853 : (Jvm.Cond.code ({ cls := "TypeHouseModel$Breaker", name := "isBefore", desc := "(II)Z" } : Jvm.MethodName) prog_38_method_17_code (3 : Nat) (Option.some Jvm.ClassFile.FieldType.boolean)) ∈ lw_all := lw_g (lw_at lw_m23 148 rfl) rfl
theorem q5854 : (Jvm.Cond.constant "TypeHouseModel$Breaker" (217 : Nat) (3000000 : Int32)) ∈ lw_all := lw_g (lw_at lw_m23 149 rfl) rfl
theorem q5855 : (Jvm.Cond.constant "TypeHouseModel$Breaker" (218 : Nat) (30000000 : Int32)) ∈ lw_all := lw_g (lw_at lw_m23 150 rfl) rfl
theorem q5862 : (Jvm.Cond.instanceMethod ({ cls := "TypeHouseModel$Breaker", name := "isLess", desc := "(II)Z" } : Jvm.MethodName)) ∈ lw_all := lw_g (lw_at lw_m23 157 rfl) rfl
theorem q5863 : (Jvm.Cond.code ({ cls := "TypeHouseModel$Breaker", name := "isLess", desc := "(II)Z" } : Jvm.MethodName) prog_38_method_21_code (3 : Nat) (Option.some Jvm.ClassFile.FieldType.boolean)) ∈ lw_all := lw_g (lw_at lw_m23 158 rfl) rfl
theorem q5865 : (Jvm.Cond.static ({ cls := "TypeHouseModel$Breaker", name := "apart", desc := "(II)I" } : Jvm.MethodName)) ∈ lw_all := lw_g (lw_at lw_m23 160 rfl) rfl
theorem q5866 : (Jvm.Cond.code ({ cls := "TypeHouseModel$Breaker", name := "apart", desc := "(II)I" } : Jvm.MethodName) prog_38_method_22_code (2 : Nat) (Option.some Jvm.ClassFile.FieldType.int)) ∈ lw_all := lw_g (lw_at lw_m23 161 rfl) rfl
abbrev cX37_isSize : ByteArray := prog_38_method_2_code
def yX37_isSize : MethodName := ⟨RX37, "isSize", "(J)Z"⟩
def YX37_isSize : eY := (yX37_isSize, cX37_isSize, 2, (Option.some FieldType.boolean), [])
theorem mX37_isSize : e_ms YX37_isSize 1 := ⟨q5777, q468, q5778, by decide, by decide +kernel, (e_sig (by decide +kernel))⟩
theorem dX37_isSize_0 : decode cX37_isSize 0 = .ok (.lload_n 0, 1) := dc_30 (by decide +kernel)
theorem dX37_isSize_1 : decode cX37_isSize 1 = .ok (.ldc2_w 99, 3) := dc_20 (a := 0) (b := 99) (n := 99) (by decide +kernel)
theorem dX37_isSize_4 : decode cX37_isSize 4 = .ok (.lcmp, 1) := dc_148 (by decide +kernel)
theorem dX37_isSize_5 : decode cX37_isSize 5 = .ok (.ifCond .lt 15, 3) := dc_155 (a := 0) (b := 15) (v := 15) (by decide +kernel)
theorem dX37_isSize_8 : decode cX37_isSize 8 = .ok (.lload_n 0, 1) := dc_30 (by decide +kernel)
theorem dX37_isSize_9 : decode cX37_isSize 9 = .ok (.ldc2_w 101, 3) := dc_20 (a := 0) (b := 101) (n := 101) (by decide +kernel)
theorem dX37_isSize_12 : decode cX37_isSize 12 = .ok (.lcmp, 1) := dc_148 (by decide +kernel)
theorem dX37_isSize_13 : decode cX37_isSize 13 = .ok (.ifCond .gt 7, 3) := dc_157 (a := 0) (b := 7) (v := 7) (by decide +kernel)
theorem dX37_isSize_16 : decode cX37_isSize 16 = .ok (.iconst 1, 1) := dc_4 (by decide +kernel)
theorem dX37_isSize_17 : decode cX37_isSize 17 = .ok (.goto 4, 3) := dc_167 (a := 0) (b := 4) (v := 4) (by decide +kernel)
theorem dX37_isSize_20 : decode cX37_isSize 20 = .ok (.iconst 0, 1) := dc_3 (by decide +kernel)
theorem dX37_isSize_21 : decode cX37_isSize 21 = .ok (.ireturn, 1) := dc_172 (by decide +kernel)
def fX37_isSize_b21 (s0 : Int32) (h : eH) : Option (Int32 × eH) :=
  z_r s0 (s0, h)
theorem pX37_isSize_b21 {w : eW} {d : Nat} (hd : 0 ≤ d) {s0 : Int32} {h : eH} {q} (hf : fX37_isSize_b21 s0 h = some q) : wp w d YX37_isSize 21 [none, none] [.int s0] h (e_is (e_rn c_I q)) := by
  unfold fX37_isSize_b21 at hf
  obtain ⟨b1, rfl⟩ := z_r_some hf
  exact w_iret dX37_isSize_21 rfl b1 rfl
def fX37_isSize_b20  (h : eH) : Option (Int32 × eH) :=
  fX37_isSize_b21 (0 : Int32) h
theorem pX37_isSize_b20 {w : eW} {d : Nat} (hd : 0 ≤ d)  {h : eH} {q} (hf : fX37_isSize_b20  h = some q) : wp w d YX37_isSize 20 [none, none] [] h (e_is (e_rn c_I q)) := by
  unfold fX37_isSize_b20 at hf
  refine w_iconst dX37_isSize_20 (v := 0) (by decide) ?_
  exact (pX37_isSize_b21 hd hf).to trivial
def fX37_isSize (p0 : Int64) (h : eH) : Option (Int32 × eH) :=
  if (lg_cmp p0 (-1073741823 : Int64)) < 0 then
    fX37_isSize_b20 h
  else
    if 0 < (lg_cmp p0 (1073741823 : Int64)) then
      fX37_isSize_b20 h
    else
      fX37_isSize_b21 (1 : Int32) h
theorem pX37_isSize {w : eW} {d : Nat} (hd : 0 ≤ d) {p0 : Int64} {h : eH} {q} (hf : fX37_isSize p0 h = some q) : wm w d YX37_isSize [.long p0] h (e_is (e_rn c_I q)) := by
  show wp w d YX37_isSize 0 [some (.long p0), none] [] h _
  unfold fX37_isSize at hf
  refine w_lload_n dX37_isSize_0 rfl rfl ?_
  refine w_ldc2 dX37_isSize_1 q5779 ?_
  refine w_lcmp dX37_isSize_4 ?_
  refine w_if_lt 20 dX37_isSize_5 (by decide) (fun c1 => ?_) (fun c1 => ?_)
  · replace hf := (if_pos (show (lg_cmp p0 (-1073741823 : Int64)) < 0 from c1)).symm.trans hf
    exact (pX37_isSize_b20 hd hf).to trivial
  · replace hf := (if_neg (show ¬ ((lg_cmp p0 (-1073741823 : Int64)) < 0) from c1)).symm.trans hf
    refine w_lload_n dX37_isSize_8 rfl rfl ?_
    refine w_ldc2 dX37_isSize_9 q5780 ?_
    refine w_lcmp dX37_isSize_12 ?_
    refine w_if_gt 20 dX37_isSize_13 (by decide) (fun c2 => ?_) (fun c2 => ?_)
    · replace hf := (if_pos (show 0 < (lg_cmp p0 (1073741823 : Int64)) from c2)).symm.trans hf
      exact (pX37_isSize_b20 hd hf).to trivial
    · replace hf := (if_neg (show ¬ (0 < (lg_cmp p0 (1073741823 : Int64))) from c2)).symm.trans hf
      refine w_iconst dX37_isSize_16 (v := 1) (by decide) ?_
      refine w_goto 21 dX37_isSize_17 (by decide) ?_
      exact (pX37_isSize_b21 hd hf).to trivial
abbrev cX37_fitsInSizes : ByteArray := prog_38_method_26_code
def yX37_fitsInSizes : MethodName := ⟨RX37, "fitsInSizes", "()Z"⟩
def YX37_fitsInSizes : eY := (yX37_fitsInSizes, cX37_fitsInSizes, 8, (Option.some FieldType.boolean), [])
theorem mX37_fitsInSizes : e_mv YX37_fitsInSizes RX37 0 := ⟨q5770, qs370, q5771, by decide, by decide +kernel, (e_sig (by decide +kernel))⟩
theorem dX37_fitsInSizes_0 : decode cX37_fitsInSizes 0 = .ok (.lconst 0, 1) := dc_9 (by decide +kernel)
theorem dX37_fitsInSizes_1 : decode cX37_fitsInSizes 1 = .ok (.lstore_n 1, 1) := dc_64 (by decide +kernel)
theorem dX37_fitsInSizes_2 : decode cX37_fitsInSizes 2 = .ok (.aload_n 0, 1) := dc_42 (by decide +kernel)
theorem dX37_fitsInSizes_3 : decode cX37_fitsInSizes 3 = .ok (.getfield 34, 3) := dc_180 (a := 0) (b := 34) (n := 34) (by decide +kernel)
theorem dX37_fitsInSizes_6 : decode cX37_fitsInSizes 6 = .ok (.bipush 8, 2) := dc_16 (a := 8) (v := 8) (by decide +kernel)
theorem dX37_fitsInSizes_8 : decode cX37_fitsInSizes 8 = .ok (.iaload, 1) := dc_46 (by decide +kernel)
theorem dX37_fitsInSizes_9 : decode cX37_fitsInSizes 9 = .ok (.i2l, 1) := dc_133 (by decide +kernel)
theorem dX37_fitsInSizes_10 : decode cX37_fitsInSizes 10 = .ok (.lstore_n 3, 1) := dc_66 (by decide +kernel)
theorem dX37_fitsInSizes_11 : decode cX37_fitsInSizes 11 = .ok (.lconst 0, 1) := dc_9 (by decide +kernel)
theorem dX37_fitsInSizes_12 : decode cX37_fitsInSizes 12 = .ok (.lstore 5, 2) := dc_55 (a := 5) (by decide +kernel)
theorem dX37_fitsInSizes_14 : decode cX37_fitsInSizes 14 = .ok (.iconst 0, 1) := dc_3 (by decide +kernel)
theorem dX37_fitsInSizes_15 : decode cX37_fitsInSizes 15 = .ok (.istore 7, 2) := dc_54 (a := 7) (by decide +kernel)
theorem dX37_fitsInSizes_17 : decode cX37_fitsInSizes 17 = .ok (.iload 7, 2) := dc_21 (a := 7) (by decide +kernel)
theorem dX37_fitsInSizes_19 : decode cX37_fitsInSizes 19 = .ok (.aload_n 0, 1) := dc_42 (by decide +kernel)
theorem dX37_fitsInSizes_20 : decode cX37_fitsInSizes 20 = .ok (.getfield 104, 3) := dc_180 (a := 0) (b := 104) (n := 104) (by decide +kernel)
theorem dX37_fitsInSizes_23 : decode cX37_fitsInSizes 23 = .ok (.if_icmp .ge 89, 3) := dc_162 (a := 0) (b := 89) (v := 89) (by decide +kernel)
theorem dX37_fitsInSizes_26 : decode cX37_fitsInSizes 26 = .ok (.aload_n 0, 1) := dc_42 (by decide +kernel)
theorem dX37_fitsInSizes_27 : decode cX37_fitsInSizes 27 = .ok (.getfield 7, 3) := dc_180 (a := 0) (b := 7) (n := 7) (by decide +kernel)
theorem dX37_fitsInSizes_30 : decode cX37_fitsInSizes 30 = .ok (.iload 7, 2) := dc_21 (a := 7) (by decide +kernel)
theorem dX37_fitsInSizes_32 : decode cX37_fitsInSizes 32 = .ok (.iaload, 1) := dc_46 (by decide +kernel)
theorem dX37_fitsInSizes_33 : decode cX37_fitsInSizes 33 = .ok (.iconst 4, 1) := dc_7 (by decide +kernel)
theorem dX37_fitsInSizes_34 : decode cX37_fitsInSizes 34 = .ok (.if_icmp .ne 7, 3) := dc_160 (a := 0) (b := 7) (v := 7) (by decide +kernel)
theorem dX37_fitsInSizes_37 : decode cX37_fitsInSizes 37 = .ok (.lload_n 1, 1) := dc_31 (by decide +kernel)
theorem dX37_fitsInSizes_38 : decode cX37_fitsInSizes 38 = .ok (.goto 15, 3) := dc_167 (a := 0) (b := 15) (v := 15) (by decide +kernel)
theorem dX37_fitsInSizes_41 : decode cX37_fitsInSizes 41 = .ok (.lload_n 1, 1) := dc_31 (by decide +kernel)
theorem dX37_fitsInSizes_42 : decode cX37_fitsInSizes 42 = .ok (.aload_n 0, 1) := dc_42 (by decide +kernel)
theorem dX37_fitsInSizes_43 : decode cX37_fitsInSizes 43 = .ok (.getfield 13, 3) := dc_180 (a := 0) (b := 13) (n := 13) (by decide +kernel)
theorem dX37_fitsInSizes_46 : decode cX37_fitsInSizes 46 = .ok (.iload 7, 2) := dc_21 (a := 7) (by decide +kernel)
theorem dX37_fitsInSizes_48 : decode cX37_fitsInSizes 48 = .ok (.iaload, 1) := dc_46 (by decide +kernel)
theorem dX37_fitsInSizes_49 : decode cX37_fitsInSizes 49 = .ok (.invokestatic 238, 3) := dc_184 (a := 0) (b := 238) (n := 238) (by decide +kernel)
theorem dX37_fitsInSizes_52 : decode cX37_fitsInSizes 52 = .ok (.ladd, 1) := dc_97 (by decide +kernel)
theorem dX37_fitsInSizes_53 : decode cX37_fitsInSizes 53 = .ok (.lstore_n 1, 1) := dc_64 (by decide +kernel)
theorem dX37_fitsInSizes_54 : decode cX37_fitsInSizes 54 = .ok (.aload_n 0, 1) := dc_42 (by decide +kernel)
theorem dX37_fitsInSizes_55 : decode cX37_fitsInSizes 55 = .ok (.getfield 7, 3) := dc_180 (a := 0) (b := 7) (n := 7) (by decide +kernel)
theorem dX37_fitsInSizes_58 : decode cX37_fitsInSizes 58 = .ok (.iload 7, 2) := dc_21 (a := 7) (by decide +kernel)
theorem dX37_fitsInSizes_60 : decode cX37_fitsInSizes 60 = .ok (.iaload, 1) := dc_46 (by decide +kernel)
theorem dX37_fitsInSizes_61 : decode cX37_fitsInSizes 61 = .ok (.iconst 5, 1) := dc_8 (by decide +kernel)
theorem dX37_fitsInSizes_62 : decode cX37_fitsInSizes 62 = .ok (.if_icmp .ne 18, 3) := dc_160 (a := 0) (b := 18) (v := 18) (by decide +kernel)
theorem dX37_fitsInSizes_65 : decode cX37_fitsInSizes 65 = .ok (.lload_n 1, 1) := dc_31 (by decide +kernel)
theorem dX37_fitsInSizes_66 : decode cX37_fitsInSizes 66 = .ok (.aload_n 0, 1) := dc_42 (by decide +kernel)
theorem dX37_fitsInSizes_67 : decode cX37_fitsInSizes 67 = .ok (.getfield 28, 3) := dc_180 (a := 0) (b := 28) (n := 28) (by decide +kernel)
theorem dX37_fitsInSizes_70 : decode cX37_fitsInSizes 70 = .ok (.iload 7, 2) := dc_21 (a := 7) (by decide +kernel)
theorem dX37_fitsInSizes_72 : decode cX37_fitsInSizes 72 = .ok (.iaload, 1) := dc_46 (by decide +kernel)
theorem dX37_fitsInSizes_73 : decode cX37_fitsInSizes 73 = .ok (.invokestatic 238, 3) := dc_184 (a := 0) (b := 238) (n := 238) (by decide +kernel)
theorem dX37_fitsInSizes_76 : decode cX37_fitsInSizes 76 = .ok (.ladd, 1) := dc_97 (by decide +kernel)
theorem dX37_fitsInSizes_77 : decode cX37_fitsInSizes 77 = .ok (.goto 4, 3) := dc_167 (a := 0) (b := 4) (v := 4) (by decide +kernel)
theorem dX37_fitsInSizes_80 : decode cX37_fitsInSizes 80 = .ok (.lload_n 1, 1) := dc_31 (by decide +kernel)
theorem dX37_fitsInSizes_81 : decode cX37_fitsInSizes 81 = .ok (.lstore_n 1, 1) := dc_64 (by decide +kernel)
theorem dX37_fitsInSizes_82 : decode cX37_fitsInSizes 82 = .ok (.lload_n 3, 1) := dc_33 (by decide +kernel)
theorem dX37_fitsInSizes_83 : decode cX37_fitsInSizes 83 = .ok (.aload_n 0, 1) := dc_42 (by decide +kernel)
theorem dX37_fitsInSizes_84 : decode cX37_fitsInSizes 84 = .ok (.getfield 16, 3) := dc_180 (a := 0) (b := 16) (n := 16) (by decide +kernel)
theorem dX37_fitsInSizes_87 : decode cX37_fitsInSizes 87 = .ok (.iload 7, 2) := dc_21 (a := 7) (by decide +kernel)
theorem dX37_fitsInSizes_89 : decode cX37_fitsInSizes 89 = .ok (.iaload, 1) := dc_46 (by decide +kernel)
theorem dX37_fitsInSizes_90 : decode cX37_fitsInSizes 90 = .ok (.i2l, 1) := dc_133 (by decide +kernel)
theorem dX37_fitsInSizes_91 : decode cX37_fitsInSizes 91 = .ok (.ladd, 1) := dc_97 (by decide +kernel)
theorem dX37_fitsInSizes_92 : decode cX37_fitsInSizes 92 = .ok (.lstore_n 3, 1) := dc_66 (by decide +kernel)
theorem dX37_fitsInSizes_93 : decode cX37_fitsInSizes 93 = .ok (.lload 5, 2) := dc_22 (a := 5) (by decide +kernel)
theorem dX37_fitsInSizes_95 : decode cX37_fitsInSizes 95 = .ok (.aload_n 0, 1) := dc_42 (by decide +kernel)
theorem dX37_fitsInSizes_96 : decode cX37_fitsInSizes 96 = .ok (.getfield 22, 3) := dc_180 (a := 0) (b := 22) (n := 22) (by decide +kernel)
theorem dX37_fitsInSizes_99 : decode cX37_fitsInSizes 99 = .ok (.iload 7, 2) := dc_21 (a := 7) (by decide +kernel)
theorem dX37_fitsInSizes_101 : decode cX37_fitsInSizes 101 = .ok (.iaload, 1) := dc_46 (by decide +kernel)
theorem dX37_fitsInSizes_102 : decode cX37_fitsInSizes 102 = .ok (.i2l, 1) := dc_133 (by decide +kernel)
theorem dX37_fitsInSizes_103 : decode cX37_fitsInSizes 103 = .ok (.ladd, 1) := dc_97 (by decide +kernel)
theorem dX37_fitsInSizes_104 : decode cX37_fitsInSizes 104 = .ok (.lstore 5, 2) := dc_55 (a := 5) (by decide +kernel)
theorem dX37_fitsInSizes_106 : decode cX37_fitsInSizes 106 = .ok (.iinc 7 1, 3) := dc_132 (a := 7) (b := 1) (v := 1) (by decide +kernel)
theorem dX37_fitsInSizes_109 : decode cX37_fitsInSizes 109 = .ok (.goto (-92), 3) := dc_167 (a := 255) (b := 164) (v := -92) (by decide +kernel)
theorem dX37_fitsInSizes_112 : decode cX37_fitsInSizes 112 = .ok (.iconst 0, 1) := dc_3 (by decide +kernel)
theorem dX37_fitsInSizes_113 : decode cX37_fitsInSizes 113 = .ok (.istore 7, 2) := dc_54 (a := 7) (by decide +kernel)
theorem dX37_fitsInSizes_115 : decode cX37_fitsInSizes 115 = .ok (.iload 7, 2) := dc_21 (a := 7) (by decide +kernel)
theorem dX37_fitsInSizes_117 : decode cX37_fitsInSizes 117 = .ok (.iconst 3, 1) := dc_6 (by decide +kernel)
theorem dX37_fitsInSizes_118 : decode cX37_fitsInSizes 118 = .ok (.if_icmp .ge 46, 3) := dc_162 (a := 0) (b := 46) (v := 46) (by decide +kernel)
theorem dX37_fitsInSizes_121 : decode cX37_fitsInSizes 121 = .ok (.lload_n 1, 1) := dc_31 (by decide +kernel)
theorem dX37_fitsInSizes_122 : decode cX37_fitsInSizes 122 = .ok (.aload_n 0, 1) := dc_42 (by decide +kernel)
theorem dX37_fitsInSizes_123 : decode cX37_fitsInSizes 123 = .ok (.getfield 37, 3) := dc_180 (a := 0) (b := 37) (n := 37) (by decide +kernel)
theorem dX37_fitsInSizes_126 : decode cX37_fitsInSizes 126 = .ok (.iload 7, 2) := dc_21 (a := 7) (by decide +kernel)
theorem dX37_fitsInSizes_128 : decode cX37_fitsInSizes 128 = .ok (.iaload, 1) := dc_46 (by decide +kernel)
theorem dX37_fitsInSizes_129 : decode cX37_fitsInSizes 129 = .ok (.invokestatic 238, 3) := dc_184 (a := 0) (b := 238) (n := 238) (by decide +kernel)
theorem dX37_fitsInSizes_132 : decode cX37_fitsInSizes 132 = .ok (.ladd, 1) := dc_97 (by decide +kernel)
theorem dX37_fitsInSizes_133 : decode cX37_fitsInSizes 133 = .ok (.lstore_n 1, 1) := dc_64 (by decide +kernel)
theorem dX37_fitsInSizes_134 : decode cX37_fitsInSizes 134 = .ok (.lload_n 3, 1) := dc_33 (by decide +kernel)
theorem dX37_fitsInSizes_135 : decode cX37_fitsInSizes 135 = .ok (.aload_n 0, 1) := dc_42 (by decide +kernel)
theorem dX37_fitsInSizes_136 : decode cX37_fitsInSizes 136 = .ok (.getfield 40, 3) := dc_180 (a := 0) (b := 40) (n := 40) (by decide +kernel)
theorem dX37_fitsInSizes_139 : decode cX37_fitsInSizes 139 = .ok (.iload 7, 2) := dc_21 (a := 7) (by decide +kernel)
theorem dX37_fitsInSizes_141 : decode cX37_fitsInSizes 141 = .ok (.iaload, 1) := dc_46 (by decide +kernel)
theorem dX37_fitsInSizes_142 : decode cX37_fitsInSizes 142 = .ok (.i2l, 1) := dc_133 (by decide +kernel)
theorem dX37_fitsInSizes_143 : decode cX37_fitsInSizes 143 = .ok (.ladd, 1) := dc_97 (by decide +kernel)
theorem dX37_fitsInSizes_144 : decode cX37_fitsInSizes 144 = .ok (.lstore_n 3, 1) := dc_66 (by decide +kernel)
theorem dX37_fitsInSizes_145 : decode cX37_fitsInSizes 145 = .ok (.lload 5, 2) := dc_22 (a := 5) (by decide +kernel)
theorem dX37_fitsInSizes_147 : decode cX37_fitsInSizes 147 = .ok (.aload_n 0, 1) := dc_42 (by decide +kernel)
theorem dX37_fitsInSizes_148 : decode cX37_fitsInSizes 148 = .ok (.getfield 46, 3) := dc_180 (a := 0) (b := 46) (n := 46) (by decide +kernel)
theorem dX37_fitsInSizes_151 : decode cX37_fitsInSizes 151 = .ok (.iload 7, 2) := dc_21 (a := 7) (by decide +kernel)
theorem dX37_fitsInSizes_153 : decode cX37_fitsInSizes 153 = .ok (.iaload, 1) := dc_46 (by decide +kernel)
theorem dX37_fitsInSizes_154 : decode cX37_fitsInSizes 154 = .ok (.i2l, 1) := dc_133 (by decide +kernel)
theorem dX37_fitsInSizes_155 : decode cX37_fitsInSizes 155 = .ok (.ladd, 1) := dc_97 (by decide +kernel)
theorem dX37_fitsInSizes_156 : decode cX37_fitsInSizes 156 = .ok (.lstore 5, 2) := dc_55 (a := 5) (by decide +kernel)
theorem dX37_fitsInSizes_158 : decode cX37_fitsInSizes 158 = .ok (.iinc 7 1, 3) := dc_132 (a := 7) (b := 1) (v := 1) (by decide +kernel)
theorem dX37_fitsInSizes_161 : decode cX37_fitsInSizes 161 = .ok (.goto (-46), 3) := dc_167 (a := 255) (b := 210) (v := -46) (by decide +kernel)
theorem dX37_fitsInSizes_164 : decode cX37_fitsInSizes 164 = .ok (.lload_n 1, 1) := dc_31 (by decide +kernel)
theorem dX37_fitsInSizes_165 : decode cX37_fitsInSizes 165 = .ok (.invokestatic 242, 3) := dc_184 (a := 0) (b := 242) (n := 242) (by decide +kernel)
theorem dX37_fitsInSizes_168 : decode cX37_fitsInSizes 168 = .ok (.ifCond .eq 22, 3) := dc_153 (a := 0) (b := 22) (v := 22) (by decide +kernel)
theorem dX37_fitsInSizes_171 : decode cX37_fitsInSizes 171 = .ok (.lload_n 3, 1) := dc_33 (by decide +kernel)
theorem dX37_fitsInSizes_172 : decode cX37_fitsInSizes 172 = .ok (.invokestatic 242, 3) := dc_184 (a := 0) (b := 242) (n := 242) (by decide +kernel)
theorem dX37_fitsInSizes_175 : decode cX37_fitsInSizes 175 = .ok (.ifCond .eq 15, 3) := dc_153 (a := 0) (b := 15) (v := 15) (by decide +kernel)
theorem dX37_fitsInSizes_178 : decode cX37_fitsInSizes 178 = .ok (.lload 5, 2) := dc_22 (a := 5) (by decide +kernel)
theorem dX37_fitsInSizes_180 : decode cX37_fitsInSizes 180 = .ok (.invokestatic 242, 3) := dc_184 (a := 0) (b := 242) (n := 242) (by decide +kernel)
theorem dX37_fitsInSizes_183 : decode cX37_fitsInSizes 183 = .ok (.ifCond .eq 7, 3) := dc_153 (a := 0) (b := 7) (v := 7) (by decide +kernel)
theorem dX37_fitsInSizes_186 : decode cX37_fitsInSizes 186 = .ok (.iconst 1, 1) := dc_4 (by decide +kernel)
theorem dX37_fitsInSizes_187 : decode cX37_fitsInSizes 187 = .ok (.goto 4, 3) := dc_167 (a := 0) (b := 4) (v := 4) (by decide +kernel)
theorem dX37_fitsInSizes_190 : decode cX37_fitsInSizes 190 = .ok (.iconst 0, 1) := dc_3 (by decide +kernel)
theorem dX37_fitsInSizes_191 : decode cX37_fitsInSizes 191 = .ok (.ireturn, 1) := dc_172 (by decide +kernel)
theorem GX37_34 {w : eW} {d : Nat} {Y : eY} {pc : Nat} {ls : eL} {st : List Value} {h : eH} {Q : eO → eH → Prop} {a : Nat} {x : Nat} (hf : g_A 36 h a 10 = some x) (hd : decode Y.2.1 pc = .ok (.getfield 34, 3)) (hY : Y.1.cls = RX37) (kk : wp w d Y (pc + 3) ls (.ref x :: st) h Q) : wp w d Y pc ls (.ref a :: st) h Q := x_gA (ci := 36) (k := 10) hf hd rfl (by decide) (by rw [hY]; exact q4238) kk
theorem GX37_37 {w : eW} {d : Nat} {Y : eY} {pc : Nat} {ls : eL} {st : List Value} {h : eH} {Q : eO → eH → Prop} {a : Nat} {x : Nat} (hf : g_A 36 h a 12 = some x) (hd : decode Y.2.1 pc = .ok (.getfield 37, 3)) (hY : Y.1.cls = RX37) (kk : wp w d Y (pc + 3) ls (.ref x :: st) h Q) : wp w d Y pc ls (.ref a :: st) h Q := x_gA (ci := 36) (k := 12) hf hd rfl (by decide) (by rw [hY]; exact q4242) kk
theorem GX37_40 {w : eW} {d : Nat} {Y : eY} {pc : Nat} {ls : eL} {st : List Value} {h : eH} {Q : eO → eH → Prop} {a : Nat} {x : Nat} (hf : g_A 36 h a 13 = some x) (hd : decode Y.2.1 pc = .ok (.getfield 40, 3)) (hY : Y.1.cls = RX37) (kk : wp w d Y (pc + 3) ls (.ref x :: st) h Q) : wp w d Y pc ls (.ref a :: st) h Q := x_gA (ci := 36) (k := 13) hf hd rfl (by decide) (by rw [hY]; exact q4244) kk
theorem GX37_46 {w : eW} {d : Nat} {Y : eY} {pc : Nat} {ls : eL} {st : List Value} {h : eH} {Q : eO → eH → Prop} {a : Nat} {x : Nat} (hf : g_A 36 h a 15 = some x) (hd : decode Y.2.1 pc = .ok (.getfield 46, 3)) (hY : Y.1.cls = RX37) (kk : wp w d Y (pc + 3) ls (.ref x :: st) h Q) : wp w d Y pc ls (.ref a :: st) h Q := x_gA (ci := 36) (k := 15) hf hd rfl (by decide) (by rw [hY]; exact q4248) kk
def fX37_fitsInSizes_b81 (N : Nat) (k17 : Nat → Int64 → Int64 → Int64 → Int32 → eH → Option (Int32 × eH)) (l0 : Nat) (l3 : Int64) (l5 : Int64) (l7 : Int32) (s0 : Int64) (h : eH) : Option (Int32 × eH) :=
  (g_A 36 h l0 4).bind fun a1 =>
  (r_I 100 h a1 l7).bind fun x3 =>
  (g_A 36 h l0 6).bind fun a5 =>
  (r_I 100 h a5 l7).bind fun x7 =>
  k17 l0 s0 (l3 + (x3).toInt64) (l5 + (x7).toInt64) (l7 + (1 : Int32)) h
theorem pX37_fitsInSizes_b81 {w : eW} {d : Nat} (hd : 1 ≤ d + 1) {N : Nat} {k17 : Nat → Int64 → Int64 → Int64 → Int32 → eH → Option (Int32 × eH)} (hk17 : ∀ l0 l1 l3 l5 l7 h q, k17 l0 l1 l3 l5 l7 h = some q → wp w (d + 1) YX37_fitsInSizes 17 [some (.ref l0), some (.long l1), none, some (.long l3), none, some (.long l5), none, some (.int l7)] [] h (e_is (e_rn c_I q))) {l0 : Nat} {l3 : Int64} {l5 : Int64} {l7 : Int32} {s0 : Int64} {h : eH} {q} (hf : fX37_fitsInSizes_b81 N k17 l0 l3 l5 l7 s0 h = some q) : wp w (d + 1) YX37_fitsInSizes 81 [some (.ref l0), none, none, some (.long l3), none, some (.long l5), none, some (.int l7)] [.long s0] h (e_is (e_rn c_I q)) := by
  unfold fX37_fitsInSizes_b81 at hf
  refine w_lstore_n dX37_fitsInSizes_81 rfl (by decide) (ls' := [some (.ref l0), some (.long s0), none, some (.long l3), none, some (.long l5), none, some (.int l7)]) rfl ?_
  refine w_lload_n dX37_fitsInSizes_82 rfl rfl ?_
  refine w_aload_n dX37_fitsInSizes_83 rfl rfl ?_
  obtain ⟨a1, b2, hf⟩ := Option.bind_eq_some_iff.mp hf
  refine GX37_16 b2 dX37_fitsInSizes_84 rfl ?_
  refine w_iload dX37_fitsInSizes_87 rfl ?_
  obtain ⟨x3, b4, hf⟩ := Option.bind_eq_some_iff.mp hf
  refine x_rI b4 dX37_fitsInSizes_89 ?_
  refine w_i2l dX37_fitsInSizes_90 ?_
  refine w_ladd dX37_fitsInSizes_91 ?_
  refine w_lstore_n dX37_fitsInSizes_92 rfl (by decide) (ls' := [some (.ref l0), some (.long s0), none, some (.long (l3 + (x3).toInt64)), none, some (.long l5), none, some (.int l7)]) rfl ?_
  refine w_lload dX37_fitsInSizes_93 rfl ?_
  refine w_aload_n dX37_fitsInSizes_95 rfl rfl ?_
  obtain ⟨a5, b6, hf⟩ := Option.bind_eq_some_iff.mp hf
  refine GX37_22 b6 dX37_fitsInSizes_96 rfl ?_
  refine w_iload dX37_fitsInSizes_99 rfl ?_
  obtain ⟨x7, b8, hf⟩ := Option.bind_eq_some_iff.mp hf
  refine x_rI b8 dX37_fitsInSizes_101 ?_
  refine w_i2l dX37_fitsInSizes_102 ?_
  refine w_ladd dX37_fitsInSizes_103 ?_
  refine w_lstore dX37_fitsInSizes_104 (by decide) (ls' := [some (.ref l0), some (.long s0), none, some (.long (l3 + (x3).toInt64)), none, some (.long (l5 + (x7).toInt64)), none, some (.int l7)]) rfl ?_
  refine w_iinc dX37_fitsInSizes_106 (v := (l7 + (1 : Int32))) rfl rfl (by decide) (ls' := [some (.ref l0), some (.long s0), none, some (.long (l3 + (x3).toInt64)), none, some (.long (l5 + (x7).toInt64)), none, some (.int (l7 + (1 : Int32)))]) rfl ?_
  refine w_goto 17 dX37_fitsInSizes_109 (by decide) ?_
  exact (hk17 _ _ _ _ _ _ _ hf).to ⟨rfl, rfl, rfl, rfl, rfl, trivial⟩
def fX37_fitsInSizes_b53 (N : Nat) (k17 : Nat → Int64 → Int64 → Int64 → Int32 → eH → Option (Int32 × eH)) (l0 : Nat) (l3 : Int64) (l5 : Int64) (l7 : Int32) (s0 : Int64) (h : eH) : Option (Int32 × eH) :=
  (g_A 36 h l0 2).bind fun a1 =>
  (r_I 100 h a1 l7).bind fun x3 =>
  if ¬ x3 = (5 : Int32) then
    fX37_fitsInSizes_b81 N k17 l0 l3 l5 l7 s0 h
  else
    (g_A 36 h l0 8).bind fun a6 =>
    (r_I 100 h a6 l7).bind fun x8 =>
    (fX37_without x8 h).bind fun q10 =>
    fX37_fitsInSizes_b81 N k17 l0 l3 l5 l7 (s0 + q10.1) q10.2
theorem pX37_fitsInSizes_b53 {w : eW} {d : Nat} (hd : 1 ≤ d + 1) {N : Nat} {k17 : Nat → Int64 → Int64 → Int64 → Int32 → eH → Option (Int32 × eH)} (hk17 : ∀ l0 l1 l3 l5 l7 h q, k17 l0 l1 l3 l5 l7 h = some q → wp w (d + 1) YX37_fitsInSizes 17 [some (.ref l0), some (.long l1), none, some (.long l3), none, some (.long l5), none, some (.int l7)] [] h (e_is (e_rn c_I q))) {l0 : Nat} {l3 : Int64} {l5 : Int64} {l7 : Int32} {s0 : Int64} {h : eH} {q} (hf : fX37_fitsInSizes_b53 N k17 l0 l3 l5 l7 s0 h = some q) : wp w (d + 1) YX37_fitsInSizes 53 [some (.ref l0), none, none, some (.long l3), none, some (.long l5), none, some (.int l7)] [.long s0] h (e_is (e_rn c_I q)) := by
  unfold fX37_fitsInSizes_b53 at hf
  refine w_lstore_n dX37_fitsInSizes_53 rfl (by decide) (ls' := [some (.ref l0), some (.long s0), none, some (.long l3), none, some (.long l5), none, some (.int l7)]) rfl ?_
  refine w_aload_n dX37_fitsInSizes_54 rfl rfl ?_
  obtain ⟨a1, b2, hf⟩ := Option.bind_eq_some_iff.mp hf
  refine GX37_7 b2 dX37_fitsInSizes_55 rfl ?_
  refine w_iload dX37_fitsInSizes_58 rfl ?_
  obtain ⟨x3, b4, hf⟩ := Option.bind_eq_some_iff.mp hf
  refine x_rI b4 dX37_fitsInSizes_60 ?_
  refine w_iconst dX37_fitsInSizes_61 (v := 5) (by decide) ?_
  refine w_icmp_ne 80 dX37_fitsInSizes_62 (by decide) (fun c5 => ?_) (fun c5 => ?_)
  · replace hf := (if_pos (show ¬ x3 = (5 : Int32) from c5)).symm.trans hf
    refine w_lload_n dX37_fitsInSizes_80 rfl rfl ?_
    exact (pX37_fitsInSizes_b81 hd hk17 hf).to ⟨rfl, rfl, rfl, rfl, trivial⟩
  · replace hf := (if_neg (show ¬ (¬ x3 = (5 : Int32)) from (fun z => z c5))).symm.trans hf
    refine w_lload_n dX37_fitsInSizes_65 rfl rfl ?_
    refine w_aload_n dX37_fitsInSizes_66 rfl rfl ?_
    obtain ⟨a6, b7, hf⟩ := Option.bind_eq_some_iff.mp hf
    refine GX37_28 b7 dX37_fitsInSizes_67 rfl ?_
    refine w_iload dX37_fitsInSizes_70 rfl ?_
    obtain ⟨x8, b9, hf⟩ := Option.bind_eq_some_iff.mp hf
    refine x_rI b9 dX37_fitsInSizes_72 ?_
    refine x_cnJ hf (e_stS (Yc := YX37_without) (av := [.int x8]) (st := [.long s0]) dX37_fitsInSizes_73 q5772 mX37_without) mX37_without.2.2.1 mX37_without.2.2.2.2.1 (Nat.le_of_ble_eq_true rfl) (Nat.le_of_ble_eq_true rfl) (fun q hq => pX37_without (by omega) hq) (fun q10 hf => ?_)
    refine w_ladd dX37_fitsInSizes_76 ?_
    refine w_goto 81 dX37_fitsInSizes_77 (by decide) ?_
    exact (pX37_fitsInSizes_b81 hd hk17 hf).to ⟨rfl, rfl, rfl, rfl, trivial⟩
def fX37_fitsInSizes_b191 (N : Nat) (s0 : Int32) (h : eH) : Option (Int32 × eH) :=
  z_r s0 (s0, h)
theorem pX37_fitsInSizes_b191 {w : eW} {d : Nat} (hd : 1 ≤ d + 1) {N : Nat} {s0 : Int32} {h : eH} {q} (hf : fX37_fitsInSizes_b191 N s0 h = some q) : wp w (d + 1) YX37_fitsInSizes 191 [none, none, none, none, none, none, none, none] [.int s0] h (e_is (e_rn c_I q)) := by
  unfold fX37_fitsInSizes_b191 at hf
  obtain ⟨b1, rfl⟩ := z_r_some hf
  exact w_iret dX37_fitsInSizes_191 rfl b1 rfl
def fX37_fitsInSizes_b190 (N : Nat)  (h : eH) : Option (Int32 × eH) :=
  fX37_fitsInSizes_b191 N (0 : Int32) h
theorem pX37_fitsInSizes_b190 {w : eW} {d : Nat} (hd : 1 ≤ d + 1) {N : Nat}  {h : eH} {q} (hf : fX37_fitsInSizes_b190 N h = some q) : wp w (d + 1) YX37_fitsInSizes 190 [none, none, none, none, none, none, none, none] [] h (e_is (e_rn c_I q)) := by
  unfold fX37_fitsInSizes_b190 at hf
  refine w_iconst dX37_fitsInSizes_190 (v := 0) (by decide) ?_
  exact (pX37_fitsInSizes_b191 hd hf).to trivial
def fX37_fitsInSizes_b115 (N : Nat) : Nat → Nat → Int64 → Int64 → Int64 → Int32 → eH → Option (Int32 × eH)
  | 0, _, _, _, _, _, _ => none
  | n + 1, l0, l1, l3, l5, l7, h =>
    if (3 : Int32) ≤ l7 then
      (fX37_isSize l1 h).bind fun q2 =>
      if q2.1 = 0 then
        fX37_fitsInSizes_b190 N q2.2
      else
        (fX37_isSize l3 q2.2).bind fun q4 =>
        if q4.1 = 0 then
          fX37_fitsInSizes_b190 N q4.2
        else
          (fX37_isSize l5 q4.2).bind fun q6 =>
          if q6.1 = 0 then
            fX37_fitsInSizes_b190 N q6.2
          else
            fX37_fitsInSizes_b191 N (1 : Int32) q6.2
    else
      (g_A 36 h l0 12).bind fun a8 =>
      (r_I 100 h a8 l7).bind fun x10 =>
      (fX37_without x10 h).bind fun q12 =>
      (g_A 36 q12.2 l0 13).bind fun a13 =>
      (r_I 100 q12.2 a13 l7).bind fun x15 =>
      (g_A 36 q12.2 l0 15).bind fun a17 =>
      (r_I 100 q12.2 a17 l7).bind fun x19 =>
      fX37_fitsInSizes_b115 N n l0 (l1 + q12.1) (l3 + (x15).toInt64) (l5 + (x19).toInt64) (l7 + (1 : Int32)) q12.2
theorem pX37_fitsInSizes_b115 {w : eW} {d : Nat} (hd : 1 ≤ d + 1) {N : Nat} : ∀ (n : Nat) l0 l1 l3 l5 l7 h q, fX37_fitsInSizes_b115 N n l0 l1 l3 l5 l7 h = some q → wp w (d + 1) YX37_fitsInSizes 115 [some (.ref l0), some (.long l1), none, some (.long l3), none, some (.long l5), none, some (.int l7)] [] h (e_is (e_rn c_I q)) := by
  intro n
  induction n with
  | zero => intro l0 l1 l3 l5 l7 h q hf; simp [fX37_fitsInSizes_b115] at hf
  | succ n ih =>
    intro l0 l1 l3 l5 l7 h q hf
    rw [fX37_fitsInSizes_b115] at hf
    refine w_iload dX37_fitsInSizes_115 rfl ?_
    refine w_iconst dX37_fitsInSizes_117 (v := 3) (by decide) ?_
    refine w_icmp_ge 164 dX37_fitsInSizes_118 (by decide) (fun c1 => ?_) (fun c1 => ?_)
    · replace hf := (if_pos (show (3 : Int32) ≤ l7 from c1)).symm.trans hf
      refine w_lload_n dX37_fitsInSizes_164 rfl rfl ?_
      refine x_cnI hf (e_stS (Yc := YX37_isSize) (av := [.long l1]) (st := []) dX37_fitsInSizes_165 q5776 mX37_isSize) mX37_isSize.2.2.1 mX37_isSize.2.2.2.2.1 (Nat.le_of_ble_eq_true rfl) (Nat.le_of_ble_eq_true rfl) (fun q hq => pX37_isSize (by omega) hq) (fun q2 hf => ?_)
      refine w_if_eq 190 dX37_fitsInSizes_168 (by decide) (fun c3 => ?_) (fun c3 => ?_)
      · replace hf := (if_pos (show q2.1 = 0 from c3)).symm.trans hf
        exact (pX37_fitsInSizes_b190 hd hf).to trivial
      · replace hf := (if_neg (show ¬ (q2.1 = 0) from c3)).symm.trans hf
        refine w_lload_n dX37_fitsInSizes_171 rfl rfl ?_
        refine x_cnI hf (e_stS (Yc := YX37_isSize) (av := [.long l3]) (st := []) dX37_fitsInSizes_172 q5776 mX37_isSize) mX37_isSize.2.2.1 mX37_isSize.2.2.2.2.1 (Nat.le_of_ble_eq_true rfl) (Nat.le_of_ble_eq_true rfl) (fun q hq => pX37_isSize (by omega) hq) (fun q4 hf => ?_)
        refine w_if_eq 190 dX37_fitsInSizes_175 (by decide) (fun c5 => ?_) (fun c5 => ?_)
        · replace hf := (if_pos (show q4.1 = 0 from c5)).symm.trans hf
          exact (pX37_fitsInSizes_b190 hd hf).to trivial
        · replace hf := (if_neg (show ¬ (q4.1 = 0) from c5)).symm.trans hf
          refine w_lload dX37_fitsInSizes_178 rfl ?_
          refine x_cnI hf (e_stS (Yc := YX37_isSize) (av := [.long l5]) (st := []) dX37_fitsInSizes_180 q5776 mX37_isSize) mX37_isSize.2.2.1 mX37_isSize.2.2.2.2.1 (Nat.le_of_ble_eq_true rfl) (Nat.le_of_ble_eq_true rfl) (fun q hq => pX37_isSize (by omega) hq) (fun q6 hf => ?_)
          refine w_if_eq 190 dX37_fitsInSizes_183 (by decide) (fun c7 => ?_) (fun c7 => ?_)
          · replace hf := (if_pos (show q6.1 = 0 from c7)).symm.trans hf
            exact (pX37_fitsInSizes_b190 hd hf).to trivial
          · replace hf := (if_neg (show ¬ (q6.1 = 0) from c7)).symm.trans hf
            refine w_iconst dX37_fitsInSizes_186 (v := 1) (by decide) ?_
            refine w_goto 191 dX37_fitsInSizes_187 (by decide) ?_
            exact (pX37_fitsInSizes_b191 hd hf).to trivial
    · replace hf := (if_neg (show ¬ ((3 : Int32) ≤ l7) from c1)).symm.trans hf
      refine w_lload_n dX37_fitsInSizes_121 rfl rfl ?_
      refine w_aload_n dX37_fitsInSizes_122 rfl rfl ?_
      obtain ⟨a8, b9, hf⟩ := Option.bind_eq_some_iff.mp hf
      refine GX37_37 b9 dX37_fitsInSizes_123 rfl ?_
      refine w_iload dX37_fitsInSizes_126 rfl ?_
      obtain ⟨x10, b11, hf⟩ := Option.bind_eq_some_iff.mp hf
      refine x_rI b11 dX37_fitsInSizes_128 ?_
      refine x_cnJ hf (e_stS (Yc := YX37_without) (av := [.int x10]) (st := [.long l1]) dX37_fitsInSizes_129 q5772 mX37_without) mX37_without.2.2.1 mX37_without.2.2.2.2.1 (Nat.le_of_ble_eq_true rfl) (Nat.le_of_ble_eq_true rfl) (fun q hq => pX37_without (by omega) hq) (fun q12 hf => ?_)
      refine w_ladd dX37_fitsInSizes_132 ?_
      refine w_lstore_n dX37_fitsInSizes_133 rfl (by decide) (ls' := [some (.ref l0), some (.long (l1 + q12.1)), none, some (.long l3), none, some (.long l5), none, some (.int l7)]) rfl ?_
      refine w_lload_n dX37_fitsInSizes_134 rfl rfl ?_
      refine w_aload_n dX37_fitsInSizes_135 rfl rfl ?_
      obtain ⟨a13, b14, hf⟩ := Option.bind_eq_some_iff.mp hf
      refine GX37_40 b14 dX37_fitsInSizes_136 rfl ?_
      refine w_iload dX37_fitsInSizes_139 rfl ?_
      obtain ⟨x15, b16, hf⟩ := Option.bind_eq_some_iff.mp hf
      refine x_rI b16 dX37_fitsInSizes_141 ?_
      refine w_i2l dX37_fitsInSizes_142 ?_
      refine w_ladd dX37_fitsInSizes_143 ?_
      refine w_lstore_n dX37_fitsInSizes_144 rfl (by decide) (ls' := [some (.ref l0), some (.long (l1 + q12.1)), none, some (.long (l3 + (x15).toInt64)), none, some (.long l5), none, some (.int l7)]) rfl ?_
      refine w_lload dX37_fitsInSizes_145 rfl ?_
      refine w_aload_n dX37_fitsInSizes_147 rfl rfl ?_
      obtain ⟨a17, b18, hf⟩ := Option.bind_eq_some_iff.mp hf
      refine GX37_46 b18 dX37_fitsInSizes_148 rfl ?_
      refine w_iload dX37_fitsInSizes_151 rfl ?_
      obtain ⟨x19, b20, hf⟩ := Option.bind_eq_some_iff.mp hf
      refine x_rI b20 dX37_fitsInSizes_153 ?_
      refine w_i2l dX37_fitsInSizes_154 ?_
      refine w_ladd dX37_fitsInSizes_155 ?_
      refine w_lstore dX37_fitsInSizes_156 (by decide) (ls' := [some (.ref l0), some (.long (l1 + q12.1)), none, some (.long (l3 + (x15).toInt64)), none, some (.long (l5 + (x19).toInt64)), none, some (.int l7)]) rfl ?_
      refine w_iinc dX37_fitsInSizes_158 (v := (l7 + (1 : Int32))) rfl rfl (by decide) (ls' := [some (.ref l0), some (.long (l1 + q12.1)), none, some (.long (l3 + (x15).toInt64)), none, some (.long (l5 + (x19).toInt64)), none, some (.int (l7 + (1 : Int32)))]) rfl ?_
      refine w_goto 115 dX37_fitsInSizes_161 (by decide) ?_
      exact (ih _ _ _ _ _ _ _ hf).to ⟨rfl, rfl, rfl, rfl, rfl, trivial⟩
def fX37_fitsInSizes_b17 (N : Nat) : Nat → Nat → Int64 → Int64 → Int64 → Int32 → eH → Option (Int32 × eH)
  | 0, _, _, _, _, _, _ => none
  | n + 1, l0, l1, l3, l5, l7, h =>
    (g_I 36 h l0 1).bind fun x1 =>
    if x1 ≤ l7 then
      fX37_fitsInSizes_b115 N N l0 l1 l3 l5 (0 : Int32) h
    else
      (g_A 36 h l0 2).bind fun a4 =>
      (r_I 100 h a4 l7).bind fun x6 =>
      if ¬ x6 = (4 : Int32) then
        (g_A 36 h l0 3).bind fun a9 =>
        (r_I 100 h a9 l7).bind fun x11 =>
        (fX37_without x11 h).bind fun q13 =>
        fX37_fitsInSizes_b53 N (fX37_fitsInSizes_b17 N n) l0 l3 l5 l7 (l1 + q13.1) q13.2
      else
        fX37_fitsInSizes_b53 N (fX37_fitsInSizes_b17 N n) l0 l3 l5 l7 l1 h
theorem pX37_fitsInSizes_b17 {w : eW} {d : Nat} (hd : 1 ≤ d + 1) {N : Nat} : ∀ (n : Nat) l0 l1 l3 l5 l7 h q, fX37_fitsInSizes_b17 N n l0 l1 l3 l5 l7 h = some q → wp w (d + 1) YX37_fitsInSizes 17 [some (.ref l0), some (.long l1), none, some (.long l3), none, some (.long l5), none, some (.int l7)] [] h (e_is (e_rn c_I q)) := by
  intro n
  induction n with
  | zero => intro l0 l1 l3 l5 l7 h q hf; simp [fX37_fitsInSizes_b17] at hf
  | succ n ih =>
    intro l0 l1 l3 l5 l7 h q hf
    rw [fX37_fitsInSizes_b17] at hf
    refine w_iload dX37_fitsInSizes_17 rfl ?_
    refine w_aload_n dX37_fitsInSizes_19 rfl rfl ?_
    obtain ⟨x1, b2, hf⟩ := Option.bind_eq_some_iff.mp hf
    refine GX37_104 b2 dX37_fitsInSizes_20 rfl ?_
    refine w_icmp_ge 112 dX37_fitsInSizes_23 (by decide) (fun c3 => ?_) (fun c3 => ?_)
    · replace hf := (if_pos (show x1 ≤ l7 from c3)).symm.trans hf
      refine w_iconst dX37_fitsInSizes_112 (v := 0) (by decide) ?_
      refine w_istore dX37_fitsInSizes_113 (by decide) (ls' := [some (.ref l0), some (.long l1), none, some (.long l3), none, some (.long l5), none, some (.int (0 : Int32))]) rfl ?_
      exact (pX37_fitsInSizes_b115 hd N _ _ _ _ _ _ _ hf).to ⟨rfl, rfl, rfl, rfl, rfl, trivial⟩
    · replace hf := (if_neg (show ¬ (x1 ≤ l7) from c3)).symm.trans hf
      refine w_aload_n dX37_fitsInSizes_26 rfl rfl ?_
      obtain ⟨a4, b5, hf⟩ := Option.bind_eq_some_iff.mp hf
      refine GX37_7 b5 dX37_fitsInSizes_27 rfl ?_
      refine w_iload dX37_fitsInSizes_30 rfl ?_
      obtain ⟨x6, b7, hf⟩ := Option.bind_eq_some_iff.mp hf
      refine x_rI b7 dX37_fitsInSizes_32 ?_
      refine w_iconst dX37_fitsInSizes_33 (v := 4) (by decide) ?_
      refine w_icmp_ne 41 dX37_fitsInSizes_34 (by decide) (fun c8 => ?_) (fun c8 => ?_)
      · replace hf := (if_pos (show ¬ x6 = (4 : Int32) from c8)).symm.trans hf
        refine w_lload_n dX37_fitsInSizes_41 rfl rfl ?_
        refine w_aload_n dX37_fitsInSizes_42 rfl rfl ?_
        obtain ⟨a9, b10, hf⟩ := Option.bind_eq_some_iff.mp hf
        refine GX37_13 b10 dX37_fitsInSizes_43 rfl ?_
        refine w_iload dX37_fitsInSizes_46 rfl ?_
        obtain ⟨x11, b12, hf⟩ := Option.bind_eq_some_iff.mp hf
        refine x_rI b12 dX37_fitsInSizes_48 ?_
        refine x_cnJ hf (e_stS (Yc := YX37_without) (av := [.int x11]) (st := [.long l1]) dX37_fitsInSizes_49 q5772 mX37_without) mX37_without.2.2.1 mX37_without.2.2.2.2.1 (Nat.le_of_ble_eq_true rfl) (Nat.le_of_ble_eq_true rfl) (fun q hq => pX37_without (by omega) hq) (fun q13 hf => ?_)
        refine w_ladd dX37_fitsInSizes_52 ?_
        exact (pX37_fitsInSizes_b53 hd ih hf).to ⟨rfl, rfl, rfl, rfl, trivial⟩
      · replace hf := (if_neg (show ¬ (¬ x6 = (4 : Int32)) from (fun z => z c8))).symm.trans hf
        refine w_lload_n dX37_fitsInSizes_37 rfl rfl ?_
        refine w_goto 53 dX37_fitsInSizes_38 (by decide) ?_
        exact (pX37_fitsInSizes_b53 hd ih hf).to ⟨rfl, rfl, rfl, rfl, trivial⟩
def fX37_fitsInSizes (N : Nat) (this : Nat) (h : eH) : Option (Int32 × eH) :=
  (g_A 36 h this 10).bind fun a1 =>
  (r_I 100 h a1 (8 : Int32)).bind fun x3 =>
  fX37_fitsInSizes_b17 N N this (0 : Int64) (x3).toInt64 (0 : Int64) (0 : Int32) h
theorem pX37_fitsInSizes {w : eW} {d : Nat} (hd : 1 ≤ d) {N : Nat} {this : Nat} {h : eH} {q} (hf : fX37_fitsInSizes N this h = some q) : wm w d YX37_fitsInSizes [.ref this] h (e_is (e_rn c_I q)) := by
  obtain ⟨d, rfl⟩ : ∃ e, d = e + 1 := ⟨d - 1, by omega⟩
  show wp w (d + 1) YX37_fitsInSizes 0 [some (.ref this), none, none, none, none, none, none, none] [] h _
  unfold fX37_fitsInSizes at hf
  refine w_lconst dX37_fitsInSizes_0 (v := 0) (by decide) ?_
  refine w_lstore_n dX37_fitsInSizes_1 rfl (by decide) (ls' := [some (.ref this), some (.long (0 : Int64)), none, none, none, none, none, none]) rfl ?_
  refine w_aload_n dX37_fitsInSizes_2 rfl rfl ?_
  obtain ⟨a1, b2, hf⟩ := Option.bind_eq_some_iff.mp hf
  refine GX37_34 b2 dX37_fitsInSizes_3 rfl ?_
  refine w_bipush dX37_fitsInSizes_6 (v := 8) (by decide) ?_
  obtain ⟨x3, b4, hf⟩ := Option.bind_eq_some_iff.mp hf
  refine x_rI b4 dX37_fitsInSizes_8 ?_
  refine w_i2l dX37_fitsInSizes_9 ?_
  refine w_lstore_n dX37_fitsInSizes_10 rfl (by decide) (ls' := [some (.ref this), some (.long (0 : Int64)), none, some (.long (x3).toInt64), none, none, none, none]) rfl ?_
  refine w_lconst dX37_fitsInSizes_11 (v := 0) (by decide) ?_
  refine w_lstore dX37_fitsInSizes_12 (by decide) (ls' := [some (.ref this), some (.long (0 : Int64)), none, some (.long (x3).toInt64), none, some (.long (0 : Int64)), none, none]) rfl ?_
  refine w_iconst dX37_fitsInSizes_14 (v := 0) (by decide) ?_
  refine w_istore dX37_fitsInSizes_15 (by decide) (ls' := [some (.ref this), some (.long (0 : Int64)), none, some (.long (x3).toInt64), none, some (.long (0 : Int64)), none, some (.int (0 : Int32))]) rfl ?_
  exact (pX37_fitsInSizes_b17 hd N _ _ _ _ _ _ _ hf).to ⟨rfl, rfl, rfl, rfl, rfl, trivial⟩
abbrev cX37_sumUp : ByteArray := prog_38_method_11_code
def yX37_sumUp : MethodName := ⟨RX37, "sumUp", "()V"⟩
def YX37_sumUp : eY := (yX37_sumUp, cX37_sumUp, 4, none, [])
theorem mX37_sumUp : e_mv YX37_sumUp RX37 0 := ⟨q5784, qs371, q5785, by decide, by decide +kernel, (e_sig (by decide +kernel))⟩
theorem dX37_sumUp_0 : decode cX37_sumUp 0 = .ok (.iconst 0, 1) := dc_3 (by decide +kernel)
theorem dX37_sumUp_1 : decode cX37_sumUp 1 = .ok (.istore_n 1, 1) := dc_60 (by decide +kernel)
theorem dX37_sumUp_2 : decode cX37_sumUp 2 = .ok (.iload_n 1, 1) := dc_27 (by decide +kernel)
theorem dX37_sumUp_3 : decode cX37_sumUp 3 = .ok (.aload_n 0, 1) := dc_42 (by decide +kernel)
theorem dX37_sumUp_4 : decode cX37_sumUp 4 = .ok (.getfield 104, 3) := dc_180 (a := 0) (b := 104) (n := 104) (by decide +kernel)
theorem dX37_sumUp_7 : decode cX37_sumUp 7 = .ok (.if_icmp .ge 159, 3) := dc_162 (a := 0) (b := 159) (v := 159) (by decide +kernel)
theorem dX37_sumUp_10 : decode cX37_sumUp 10 = .ok (.aload_n 0, 1) := dc_42 (by decide +kernel)
theorem dX37_sumUp_11 : decode cX37_sumUp 11 = .ok (.getfield 7, 3) := dc_180 (a := 0) (b := 7) (n := 7) (by decide +kernel)
theorem dX37_sumUp_14 : decode cX37_sumUp 14 = .ok (.iload_n 1, 1) := dc_27 (by decide +kernel)
theorem dX37_sumUp_15 : decode cX37_sumUp 15 = .ok (.iaload, 1) := dc_46 (by decide +kernel)
theorem dX37_sumUp_16 : decode cX37_sumUp 16 = .ok (.iconst 1, 1) := dc_4 (by decide +kernel)
theorem dX37_sumUp_17 : decode cX37_sumUp 17 = .ok (.if_icmp .ne 7, 3) := dc_160 (a := 0) (b := 7) (v := 7) (by decide +kernel)
theorem dX37_sumUp_20 : decode cX37_sumUp 20 = .ok (.iconst 1, 1) := dc_4 (by decide +kernel)
theorem dX37_sumUp_21 : decode cX37_sumUp 21 = .ok (.goto 4, 3) := dc_167 (a := 0) (b := 4) (v := 4) (by decide +kernel)
theorem dX37_sumUp_24 : decode cX37_sumUp 24 = .ok (.iconst 0, 1) := dc_3 (by decide +kernel)
theorem dX37_sumUp_25 : decode cX37_sumUp 25 = .ok (.istore_n 2, 1) := dc_61 (by decide +kernel)
theorem dX37_sumUp_26 : decode cX37_sumUp 26 = .ok (.aload_n 0, 1) := dc_42 (by decide +kernel)
theorem dX37_sumUp_27 : decode cX37_sumUp 27 = .ok (.getfield 90, 3) := dc_180 (a := 0) (b := 90) (n := 90) (by decide +kernel)
theorem dX37_sumUp_30 : decode cX37_sumUp 30 = .ok (.iload_n 1, 1) := dc_27 (by decide +kernel)
theorem dX37_sumUp_31 : decode cX37_sumUp 31 = .ok (.iconst 1, 1) := dc_4 (by decide +kernel)
theorem dX37_sumUp_32 : decode cX37_sumUp 32 = .ok (.iadd, 1) := dc_96 (by decide +kernel)
theorem dX37_sumUp_33 : decode cX37_sumUp 33 = .ok (.aload_n 0, 1) := dc_42 (by decide +kernel)
theorem dX37_sumUp_34 : decode cX37_sumUp 34 = .ok (.getfield 90, 3) := dc_180 (a := 0) (b := 90) (n := 90) (by decide +kernel)
theorem dX37_sumUp_37 : decode cX37_sumUp 37 = .ok (.iload_n 1, 1) := dc_27 (by decide +kernel)
theorem dX37_sumUp_38 : decode cX37_sumUp 38 = .ok (.iaload, 1) := dc_46 (by decide +kernel)
theorem dX37_sumUp_39 : decode cX37_sumUp 39 = .ok (.aload_n 0, 1) := dc_42 (by decide +kernel)
theorem dX37_sumUp_40 : decode cX37_sumUp 40 = .ok (.getfield 7, 3) := dc_180 (a := 0) (b := 7) (n := 7) (by decide +kernel)
theorem dX37_sumUp_43 : decode cX37_sumUp 43 = .ok (.iload_n 1, 1) := dc_27 (by decide +kernel)
theorem dX37_sumUp_44 : decode cX37_sumUp 44 = .ok (.iaload, 1) := dc_46 (by decide +kernel)
theorem dX37_sumUp_45 : decode cX37_sumUp 45 = .ok (.iconst 4, 1) := dc_7 (by decide +kernel)
theorem dX37_sumUp_46 : decode cX37_sumUp 46 = .ok (.if_icmp .eq 13, 3) := dc_159 (a := 0) (b := 13) (v := 13) (by decide +kernel)
theorem dX37_sumUp_49 : decode cX37_sumUp 49 = .ok (.aload_n 0, 1) := dc_42 (by decide +kernel)
theorem dX37_sumUp_50 : decode cX37_sumUp 50 = .ok (.getfield 7, 3) := dc_180 (a := 0) (b := 7) (n := 7) (by decide +kernel)
theorem dX37_sumUp_53 : decode cX37_sumUp 53 = .ok (.iload_n 1, 1) := dc_27 (by decide +kernel)
theorem dX37_sumUp_54 : decode cX37_sumUp 54 = .ok (.iaload, 1) := dc_46 (by decide +kernel)
theorem dX37_sumUp_55 : decode cX37_sumUp 55 = .ok (.iconst 5, 1) := dc_8 (by decide +kernel)
theorem dX37_sumUp_56 : decode cX37_sumUp 56 = .ok (.if_icmp .ne 7, 3) := dc_160 (a := 0) (b := 7) (v := 7) (by decide +kernel)
theorem dX37_sumUp_59 : decode cX37_sumUp 59 = .ok (.iconst 0, 1) := dc_3 (by decide +kernel)
theorem dX37_sumUp_60 : decode cX37_sumUp 60 = .ok (.goto 9, 3) := dc_167 (a := 0) (b := 9) (v := 9) (by decide +kernel)
theorem dX37_sumUp_63 : decode cX37_sumUp 63 = .ok (.aload_n 0, 1) := dc_42 (by decide +kernel)
theorem dX37_sumUp_64 : decode cX37_sumUp 64 = .ok (.getfield 13, 3) := dc_180 (a := 0) (b := 13) (n := 13) (by decide +kernel)
theorem dX37_sumUp_67 : decode cX37_sumUp 67 = .ok (.iload_n 1, 1) := dc_27 (by decide +kernel)
theorem dX37_sumUp_68 : decode cX37_sumUp 68 = .ok (.iaload, 1) := dc_46 (by decide +kernel)
theorem dX37_sumUp_69 : decode cX37_sumUp 69 = .ok (.iadd, 1) := dc_96 (by decide +kernel)
theorem dX37_sumUp_70 : decode cX37_sumUp 70 = .ok (.iastore, 1) := dc_79 (by decide +kernel)
theorem dX37_sumUp_71 : decode cX37_sumUp 71 = .ok (.aload_n 0, 1) := dc_42 (by decide +kernel)
theorem dX37_sumUp_72 : decode cX37_sumUp 72 = .ok (.getfield 96, 3) := dc_180 (a := 0) (b := 96) (n := 96) (by decide +kernel)
theorem dX37_sumUp_75 : decode cX37_sumUp 75 = .ok (.iload_n 1, 1) := dc_27 (by decide +kernel)
theorem dX37_sumUp_76 : decode cX37_sumUp 76 = .ok (.iconst 1, 1) := dc_4 (by decide +kernel)
theorem dX37_sumUp_77 : decode cX37_sumUp 77 = .ok (.iadd, 1) := dc_96 (by decide +kernel)
theorem dX37_sumUp_78 : decode cX37_sumUp 78 = .ok (.aload_n 0, 1) := dc_42 (by decide +kernel)
theorem dX37_sumUp_79 : decode cX37_sumUp 79 = .ok (.getfield 96, 3) := dc_180 (a := 0) (b := 96) (n := 96) (by decide +kernel)
theorem dX37_sumUp_82 : decode cX37_sumUp 82 = .ok (.iload_n 1, 1) := dc_27 (by decide +kernel)
theorem dX37_sumUp_83 : decode cX37_sumUp 83 = .ok (.iaload, 1) := dc_46 (by decide +kernel)
theorem dX37_sumUp_84 : decode cX37_sumUp 84 = .ok (.iload_n 2, 1) := dc_28 (by decide +kernel)
theorem dX37_sumUp_85 : decode cX37_sumUp 85 = .ok (.ifCond .eq 12, 3) := dc_153 (a := 0) (b := 12) (v := 12) (by decide +kernel)
theorem dX37_sumUp_88 : decode cX37_sumUp 88 = .ok (.aload_n 0, 1) := dc_42 (by decide +kernel)
theorem dX37_sumUp_89 : decode cX37_sumUp 89 = .ok (.getfield 22, 3) := dc_180 (a := 0) (b := 22) (n := 22) (by decide +kernel)
theorem dX37_sumUp_92 : decode cX37_sumUp 92 = .ok (.iload_n 1, 1) := dc_27 (by decide +kernel)
theorem dX37_sumUp_93 : decode cX37_sumUp 93 = .ok (.iaload, 1) := dc_46 (by decide +kernel)
theorem dX37_sumUp_94 : decode cX37_sumUp 94 = .ok (.goto 4, 3) := dc_167 (a := 0) (b := 4) (v := 4) (by decide +kernel)
theorem dX37_sumUp_97 : decode cX37_sumUp 97 = .ok (.iconst 0, 1) := dc_3 (by decide +kernel)
theorem dX37_sumUp_98 : decode cX37_sumUp 98 = .ok (.iadd, 1) := dc_96 (by decide +kernel)
theorem dX37_sumUp_99 : decode cX37_sumUp 99 = .ok (.iastore, 1) := dc_79 (by decide +kernel)
theorem dX37_sumUp_100 : decode cX37_sumUp 100 = .ok (.iconst 0, 1) := dc_3 (by decide +kernel)
theorem dX37_sumUp_101 : decode cX37_sumUp 101 = .ok (.istore_n 3, 1) := dc_62 (by decide +kernel)
theorem dX37_sumUp_102 : decode cX37_sumUp 102 = .ok (.iload_n 3, 1) := dc_29 (by decide +kernel)
theorem dX37_sumUp_103 : decode cX37_sumUp 103 = .ok (.iconst 4, 1) := dc_7 (by decide +kernel)
theorem dX37_sumUp_104 : decode cX37_sumUp 104 = .ok (.if_icmp .ge 56, 3) := dc_162 (a := 0) (b := 56) (v := 56) (by decide +kernel)
theorem dX37_sumUp_107 : decode cX37_sumUp 107 = .ok (.aload_n 0, 1) := dc_42 (by decide +kernel)
theorem dX37_sumUp_108 : decode cX37_sumUp 108 = .ok (.getfield 93, 3) := dc_180 (a := 0) (b := 93) (n := 93) (by decide +kernel)
theorem dX37_sumUp_111 : decode cX37_sumUp 111 = .ok (.iconst 4, 1) := dc_7 (by decide +kernel)
theorem dX37_sumUp_112 : decode cX37_sumUp 112 = .ok (.iload_n 1, 1) := dc_27 (by decide +kernel)
theorem dX37_sumUp_113 : decode cX37_sumUp 113 = .ok (.imul, 1) := dc_104 (by decide +kernel)
theorem dX37_sumUp_114 : decode cX37_sumUp 114 = .ok (.iconst 4, 1) := dc_7 (by decide +kernel)
theorem dX37_sumUp_115 : decode cX37_sumUp 115 = .ok (.iadd, 1) := dc_96 (by decide +kernel)
theorem dX37_sumUp_116 : decode cX37_sumUp 116 = .ok (.iload_n 3, 1) := dc_29 (by decide +kernel)
theorem dX37_sumUp_117 : decode cX37_sumUp 117 = .ok (.iadd, 1) := dc_96 (by decide +kernel)
theorem dX37_sumUp_118 : decode cX37_sumUp 118 = .ok (.aload_n 0, 1) := dc_42 (by decide +kernel)
theorem dX37_sumUp_119 : decode cX37_sumUp 119 = .ok (.getfield 93, 3) := dc_180 (a := 0) (b := 93) (n := 93) (by decide +kernel)
theorem dX37_sumUp_122 : decode cX37_sumUp 122 = .ok (.iconst 4, 1) := dc_7 (by decide +kernel)
theorem dX37_sumUp_123 : decode cX37_sumUp 123 = .ok (.iload_n 1, 1) := dc_27 (by decide +kernel)
theorem dX37_sumUp_124 : decode cX37_sumUp 124 = .ok (.imul, 1) := dc_104 (by decide +kernel)
theorem dX37_sumUp_125 : decode cX37_sumUp 125 = .ok (.iload_n 3, 1) := dc_29 (by decide +kernel)
theorem dX37_sumUp_126 : decode cX37_sumUp 126 = .ok (.iadd, 1) := dc_96 (by decide +kernel)
theorem dX37_sumUp_127 : decode cX37_sumUp 127 = .ok (.iaload, 1) := dc_46 (by decide +kernel)
theorem dX37_sumUp_128 : decode cX37_sumUp 128 = .ok (.iload_n 2, 1) := dc_28 (by decide +kernel)
theorem dX37_sumUp_129 : decode cX37_sumUp 129 = .ok (.ifCond .eq 22, 3) := dc_153 (a := 0) (b := 22) (v := 22) (by decide +kernel)
theorem dX37_sumUp_132 : decode cX37_sumUp 132 = .ok (.aload_n 0, 1) := dc_42 (by decide +kernel)
theorem dX37_sumUp_133 : decode cX37_sumUp 133 = .ok (.getfield 19, 3) := dc_180 (a := 0) (b := 19) (n := 19) (by decide +kernel)
theorem dX37_sumUp_136 : decode cX37_sumUp 136 = .ok (.iload_n 1, 1) := dc_27 (by decide +kernel)
theorem dX37_sumUp_137 : decode cX37_sumUp 137 = .ok (.iaload, 1) := dc_46 (by decide +kernel)
theorem dX37_sumUp_138 : decode cX37_sumUp 138 = .ok (.iload_n 3, 1) := dc_29 (by decide +kernel)
theorem dX37_sumUp_139 : decode cX37_sumUp 139 = .ok (.if_icmp .ne 12, 3) := dc_160 (a := 0) (b := 12) (v := 12) (by decide +kernel)
theorem dX37_sumUp_142 : decode cX37_sumUp 142 = .ok (.aload_n 0, 1) := dc_42 (by decide +kernel)
theorem dX37_sumUp_143 : decode cX37_sumUp 143 = .ok (.getfield 16, 3) := dc_180 (a := 0) (b := 16) (n := 16) (by decide +kernel)
theorem dX37_sumUp_146 : decode cX37_sumUp 146 = .ok (.iload_n 1, 1) := dc_27 (by decide +kernel)
theorem dX37_sumUp_147 : decode cX37_sumUp 147 = .ok (.iaload, 1) := dc_46 (by decide +kernel)
theorem dX37_sumUp_148 : decode cX37_sumUp 148 = .ok (.goto 4, 3) := dc_167 (a := 0) (b := 4) (v := 4) (by decide +kernel)
theorem dX37_sumUp_151 : decode cX37_sumUp 151 = .ok (.iconst 0, 1) := dc_3 (by decide +kernel)
theorem dX37_sumUp_152 : decode cX37_sumUp 152 = .ok (.iadd, 1) := dc_96 (by decide +kernel)
theorem dX37_sumUp_153 : decode cX37_sumUp 153 = .ok (.iastore, 1) := dc_79 (by decide +kernel)
theorem dX37_sumUp_154 : decode cX37_sumUp 154 = .ok (.iinc 3 1, 3) := dc_132 (a := 3) (b := 1) (v := 1) (by decide +kernel)
theorem dX37_sumUp_157 : decode cX37_sumUp 157 = .ok (.goto (-55), 3) := dc_167 (a := 255) (b := 201) (v := -55) (by decide +kernel)
theorem dX37_sumUp_160 : decode cX37_sumUp 160 = .ok (.iinc 1 1, 3) := dc_132 (a := 1) (b := 1) (v := 1) (by decide +kernel)
theorem dX37_sumUp_163 : decode cX37_sumUp 163 = .ok (.goto (-161), 3) := dc_167 (a := 255) (b := 95) (v := -161) (by decide +kernel)
theorem dX37_sumUp_166 : decode cX37_sumUp 166 = .ok (.return_, 1) := dc_177 (by decide +kernel)
theorem GX37_90 {w : eW} {d : Nat} {Y : eY} {pc : Nat} {ls : eL} {st : List Value} {h : eH} {Q : eO → eH → Prop} {a : Nat} {x : Nat} (hf : g_A 36 h a 45 = some x) (hd : decode Y.2.1 pc = .ok (.getfield 90, 3)) (hY : Y.1.cls = RX37) (kk : wp w d Y (pc + 3) ls (.ref x :: st) h Q) : wp w d Y pc ls (.ref a :: st) h Q := x_gA (ci := 36) (k := 45) hf hd rfl (by decide) (by rw [hY]; exact q4282) kk
theorem GX37_93 {w : eW} {d : Nat} {Y : eY} {pc : Nat} {ls : eL} {st : List Value} {h : eH} {Q : eO → eH → Prop} {a : Nat} {x : Nat} (hf : g_A 36 h a 46 = some x) (hd : decode Y.2.1 pc = .ok (.getfield 93, 3)) (hY : Y.1.cls = RX37) (kk : wp w d Y (pc + 3) ls (.ref x :: st) h Q) : wp w d Y pc ls (.ref a :: st) h Q := x_gA (ci := 36) (k := 46) hf hd rfl (by decide) (by rw [hY]; exact q4283) kk
theorem GX37_96 {w : eW} {d : Nat} {Y : eY} {pc : Nat} {ls : eL} {st : List Value} {h : eH} {Q : eO → eH → Prop} {a : Nat} {x : Nat} (hf : g_A 36 h a 47 = some x) (hd : decode Y.2.1 pc = .ok (.getfield 96, 3)) (hY : Y.1.cls = RX37) (kk : wp w d Y (pc + 3) ls (.ref x :: st) h Q) : wp w d Y pc ls (.ref a :: st) h Q := x_gA (ci := 36) (k := 47) hf hd rfl (by decide) (by rw [hY]; exact q4284) kk
def fX37_sumUp_b152 (N : Nat) (k102 : Nat → Int32 → Int32 → Int32 → eH → Option (Unit × eH)) (l0 : Nat) (l1 : Int32) (l2 : Int32) (l3 : Int32) (s0 : Nat) (s1 : Int32) (s2 : Int32) (s3 : Int32) (h : eH) : Option (Unit × eH) :=
  (q_V 100 h s0 s1 (.int (s2 + s3))).bind fun h1 =>
  k102 l0 l1 l2 (l3 + (1 : Int32)) h1
theorem pX37_sumUp_b152 {w : eW} {d : Nat} (hd : 0 ≤ d) {N : Nat} {k102 : Nat → Int32 → Int32 → Int32 → eH → Option (Unit × eH)} (hk102 : ∀ l0 l1 l2 l3 h q, k102 l0 l1 l2 l3 h = some q → wp w d YX37_sumUp 102 [some (.ref l0), some (.int l1), some (.int l2), some (.int l3)] [] h (e_is (e_rn c_V q))) {l0 : Nat} {l1 : Int32} {l2 : Int32} {l3 : Int32} {s0 : Nat} {s1 : Int32} {s2 : Int32} {s3 : Int32} {h : eH} {q} (hf : fX37_sumUp_b152 N k102 l0 l1 l2 l3 s0 s1 s2 s3 h = some q) : wp w d YX37_sumUp 152 [some (.ref l0), some (.int l1), some (.int l2), some (.int l3)] [.int s3, .int s2, .int s1, .ref s0] h (e_is (e_rn c_V q)) := by
  unfold fX37_sumUp_b152 at hf
  refine w_iadd dX37_sumUp_152 ?_
  obtain ⟨h1, b2, hf⟩ := Option.bind_eq_some_iff.mp hf
  refine x_qI b2 dX37_sumUp_153 ?_
  refine w_iinc dX37_sumUp_154 (v := (l3 + (1 : Int32))) rfl rfl (by decide) (ls' := [some (.ref l0), some (.int l1), some (.int l2), some (.int (l3 + (1 : Int32)))]) rfl ?_
  refine w_goto 102 dX37_sumUp_157 (by decide) ?_
  exact (hk102 _ _ _ _ _ _ hf).to ⟨rfl, rfl, rfl, rfl, trivial⟩
def fX37_sumUp_b151 (N : Nat) (k102 : Nat → Int32 → Int32 → Int32 → eH → Option (Unit × eH)) (l0 : Nat) (l1 : Int32) (l2 : Int32) (l3 : Int32) (s0 : Nat) (s1 : Int32) (s2 : Int32) (h : eH) : Option (Unit × eH) :=
  fX37_sumUp_b152 N k102 l0 l1 l2 l3 s0 s1 s2 (0 : Int32) h
theorem pX37_sumUp_b151 {w : eW} {d : Nat} (hd : 0 ≤ d) {N : Nat} {k102 : Nat → Int32 → Int32 → Int32 → eH → Option (Unit × eH)} (hk102 : ∀ l0 l1 l2 l3 h q, k102 l0 l1 l2 l3 h = some q → wp w d YX37_sumUp 102 [some (.ref l0), some (.int l1), some (.int l2), some (.int l3)] [] h (e_is (e_rn c_V q))) {l0 : Nat} {l1 : Int32} {l2 : Int32} {l3 : Int32} {s0 : Nat} {s1 : Int32} {s2 : Int32} {h : eH} {q} (hf : fX37_sumUp_b151 N k102 l0 l1 l2 l3 s0 s1 s2 h = some q) : wp w d YX37_sumUp 151 [some (.ref l0), some (.int l1), some (.int l2), some (.int l3)] [.int s2, .int s1, .ref s0] h (e_is (e_rn c_V q)) := by
  unfold fX37_sumUp_b151 at hf
  refine w_iconst dX37_sumUp_151 (v := 0) (by decide) ?_
  exact (pX37_sumUp_b152 hd hk102 hf).to ⟨rfl, rfl, rfl, rfl, trivial⟩
def fX37_sumUp_b102 (N : Nat) (k2 : Nat → Int32 → eH → Option (Unit × eH)) : Nat → Nat → Int32 → Int32 → Int32 → eH → Option (Unit × eH)
  | 0, _, _, _, _, _ => none
  | n + 1, l0, l1, l2, l3, h =>
    if (4 : Int32) ≤ l3 then
      k2 l0 (l1 + (1 : Int32)) h
    else
      (g_A 36 h l0 46).bind fun a2 =>
      (g_A 36 h l0 46).bind fun a4 =>
      (r_I 100 h a4 (((4 : Int32) * l1) + l3)).bind fun x6 =>
      if l2 = 0 then
        fX37_sumUp_b151 N (fX37_sumUp_b102 N k2 n) l0 l1 l2 l3 a2 ((((4 : Int32) * l1) + (4 : Int32)) + l3) x6 h
      else
        (g_A 36 h l0 5).bind fun a9 =>
        (r_I 100 h a9 l1).bind fun x11 =>
        if ¬ x11 = l3 then
          fX37_sumUp_b151 N (fX37_sumUp_b102 N k2 n) l0 l1 l2 l3 a2 ((((4 : Int32) * l1) + (4 : Int32)) + l3) x6 h
        else
          (g_A 36 h l0 4).bind fun a14 =>
          (r_I 100 h a14 l1).bind fun x16 =>
          fX37_sumUp_b152 N (fX37_sumUp_b102 N k2 n) l0 l1 l2 l3 a2 ((((4 : Int32) * l1) + (4 : Int32)) + l3) x6 x16 h
theorem pX37_sumUp_b102 {w : eW} {d : Nat} (hd : 0 ≤ d) {N : Nat} {k2 : Nat → Int32 → eH → Option (Unit × eH)} (hk2 : ∀ l0 l1 h q, k2 l0 l1 h = some q → wp w d YX37_sumUp 2 [some (.ref l0), some (.int l1), none, none] [] h (e_is (e_rn c_V q))) : ∀ (n : Nat) l0 l1 l2 l3 h q, fX37_sumUp_b102 N k2 n l0 l1 l2 l3 h = some q → wp w d YX37_sumUp 102 [some (.ref l0), some (.int l1), some (.int l2), some (.int l3)] [] h (e_is (e_rn c_V q)) := by
  intro n
  induction n with
  | zero => intro l0 l1 l2 l3 h q hf; simp [fX37_sumUp_b102] at hf
  | succ n ih =>
    intro l0 l1 l2 l3 h q hf
    rw [fX37_sumUp_b102] at hf
    refine w_iload_n dX37_sumUp_102 rfl rfl ?_
    refine w_iconst dX37_sumUp_103 (v := 4) (by decide) ?_
    refine w_icmp_ge 160 dX37_sumUp_104 (by decide) (fun c1 => ?_) (fun c1 => ?_)
    · replace hf := (if_pos (show (4 : Int32) ≤ l3 from c1)).symm.trans hf
      refine w_iinc dX37_sumUp_160 (v := (l1 + (1 : Int32))) rfl rfl (by decide) (ls' := [some (.ref l0), some (.int (l1 + (1 : Int32))), some (.int l2), some (.int l3)]) rfl ?_
      refine w_goto 2 dX37_sumUp_163 (by decide) ?_
      exact (hk2 _ _ _ _ hf).to ⟨rfl, rfl, trivial⟩
    · replace hf := (if_neg (show ¬ ((4 : Int32) ≤ l3) from c1)).symm.trans hf
      refine w_aload_n dX37_sumUp_107 rfl rfl ?_
      obtain ⟨a2, b3, hf⟩ := Option.bind_eq_some_iff.mp hf
      refine GX37_93 b3 dX37_sumUp_108 rfl ?_
      refine w_iconst dX37_sumUp_111 (v := 4) (by decide) ?_
      refine w_iload_n dX37_sumUp_112 rfl rfl ?_
      refine w_imul dX37_sumUp_113 ?_
      refine w_iconst dX37_sumUp_114 (v := 4) (by decide) ?_
      refine w_iadd dX37_sumUp_115 ?_
      refine w_iload_n dX37_sumUp_116 rfl rfl ?_
      refine w_iadd dX37_sumUp_117 ?_
      refine w_aload_n dX37_sumUp_118 rfl rfl ?_
      obtain ⟨a4, b5, hf⟩ := Option.bind_eq_some_iff.mp hf
      refine GX37_93 b5 dX37_sumUp_119 rfl ?_
      refine w_iconst dX37_sumUp_122 (v := 4) (by decide) ?_
      refine w_iload_n dX37_sumUp_123 rfl rfl ?_
      refine w_imul dX37_sumUp_124 ?_
      refine w_iload_n dX37_sumUp_125 rfl rfl ?_
      refine w_iadd dX37_sumUp_126 ?_
      obtain ⟨x6, b7, hf⟩ := Option.bind_eq_some_iff.mp hf
      refine x_rI b7 dX37_sumUp_127 ?_
      refine w_iload_n dX37_sumUp_128 rfl rfl ?_
      refine w_if_eq 151 dX37_sumUp_129 (by decide) (fun c8 => ?_) (fun c8 => ?_)
      · replace hf := (if_pos (show l2 = 0 from c8)).symm.trans hf
        exact (pX37_sumUp_b151 hd ih hf).to ⟨rfl, rfl, rfl, rfl, trivial⟩
      · replace hf := (if_neg (show ¬ (l2 = 0) from c8)).symm.trans hf
        refine w_aload_n dX37_sumUp_132 rfl rfl ?_
        obtain ⟨a9, b10, hf⟩ := Option.bind_eq_some_iff.mp hf
        refine GX37_19 b10 dX37_sumUp_133 rfl ?_
        refine w_iload_n dX37_sumUp_136 rfl rfl ?_
        obtain ⟨x11, b12, hf⟩ := Option.bind_eq_some_iff.mp hf
        refine x_rI b12 dX37_sumUp_137 ?_
        refine w_iload_n dX37_sumUp_138 rfl rfl ?_
        refine w_icmp_ne 151 dX37_sumUp_139 (by decide) (fun c13 => ?_) (fun c13 => ?_)
        · replace hf := (if_pos (show ¬ x11 = l3 from c13)).symm.trans hf
          exact (pX37_sumUp_b151 hd ih hf).to ⟨rfl, rfl, rfl, rfl, trivial⟩
        · replace hf := (if_neg (show ¬ (¬ x11 = l3) from (fun z => z c13))).symm.trans hf
          refine w_aload_n dX37_sumUp_142 rfl rfl ?_
          obtain ⟨a14, b15, hf⟩ := Option.bind_eq_some_iff.mp hf
          refine GX37_16 b15 dX37_sumUp_143 rfl ?_
          refine w_iload_n dX37_sumUp_146 rfl rfl ?_
          obtain ⟨x16, b17, hf⟩ := Option.bind_eq_some_iff.mp hf
          refine x_rI b17 dX37_sumUp_147 ?_
          refine w_goto 152 dX37_sumUp_148 (by decide) ?_
          exact (pX37_sumUp_b152 hd ih hf).to ⟨rfl, rfl, rfl, rfl, trivial⟩
def fX37_sumUp_b98 (N : Nat) (k2 : Nat → Int32 → eH → Option (Unit × eH)) (l0 : Nat) (l1 : Int32) (l2 : Int32) (s0 : Nat) (s1 : Int32) (s2 : Int32) (s3 : Int32) (h : eH) : Option (Unit × eH) :=
  (q_V 100 h s0 s1 (.int (s2 + s3))).bind fun h1 =>
  fX37_sumUp_b102 N k2 N l0 l1 l2 (0 : Int32) h1
theorem pX37_sumUp_b98 {w : eW} {d : Nat} (hd : 0 ≤ d) {N : Nat} {k2 : Nat → Int32 → eH → Option (Unit × eH)} (hk2 : ∀ l0 l1 h q, k2 l0 l1 h = some q → wp w d YX37_sumUp 2 [some (.ref l0), some (.int l1), none, none] [] h (e_is (e_rn c_V q))) {l0 : Nat} {l1 : Int32} {l2 : Int32} {s0 : Nat} {s1 : Int32} {s2 : Int32} {s3 : Int32} {h : eH} {q} (hf : fX37_sumUp_b98 N k2 l0 l1 l2 s0 s1 s2 s3 h = some q) : wp w d YX37_sumUp 98 [some (.ref l0), some (.int l1), some (.int l2), none] [.int s3, .int s2, .int s1, .ref s0] h (e_is (e_rn c_V q)) := by
  unfold fX37_sumUp_b98 at hf
  refine w_iadd dX37_sumUp_98 ?_
  obtain ⟨h1, b2, hf⟩ := Option.bind_eq_some_iff.mp hf
  refine x_qI b2 dX37_sumUp_99 ?_
  refine w_iconst dX37_sumUp_100 (v := 0) (by decide) ?_
  refine w_istore_n dX37_sumUp_101 rfl (by decide) (ls' := [some (.ref l0), some (.int l1), some (.int l2), some (.int (0 : Int32))]) rfl ?_
  exact (pX37_sumUp_b102 hd hk2 N _ _ _ _ _ _ hf).to ⟨rfl, rfl, rfl, rfl, trivial⟩
def fX37_sumUp_b69 (N : Nat) (k2 : Nat → Int32 → eH → Option (Unit × eH)) (l0 : Nat) (l1 : Int32) (l2 : Int32) (s0 : Nat) (s1 : Int32) (s2 : Int32) (s3 : Int32) (h : eH) : Option (Unit × eH) :=
  (q_V 100 h s0 s1 (.int (s2 + s3))).bind fun h1 =>
  (g_A 36 h1 l0 47).bind fun a3 =>
  (g_A 36 h1 l0 47).bind fun a5 =>
  (r_I 100 h1 a5 l1).bind fun x7 =>
  if l2 = 0 then
    fX37_sumUp_b98 N k2 l0 l1 l2 a3 (l1 + (1 : Int32)) x7 (0 : Int32) h1
  else
    (g_A 36 h1 l0 6).bind fun a10 =>
    (r_I 100 h1 a10 l1).bind fun x12 =>
    fX37_sumUp_b98 N k2 l0 l1 l2 a3 (l1 + (1 : Int32)) x7 x12 h1
theorem pX37_sumUp_b69 {w : eW} {d : Nat} (hd : 0 ≤ d) {N : Nat} {k2 : Nat → Int32 → eH → Option (Unit × eH)} (hk2 : ∀ l0 l1 h q, k2 l0 l1 h = some q → wp w d YX37_sumUp 2 [some (.ref l0), some (.int l1), none, none] [] h (e_is (e_rn c_V q))) {l0 : Nat} {l1 : Int32} {l2 : Int32} {s0 : Nat} {s1 : Int32} {s2 : Int32} {s3 : Int32} {h : eH} {q} (hf : fX37_sumUp_b69 N k2 l0 l1 l2 s0 s1 s2 s3 h = some q) : wp w d YX37_sumUp 69 [some (.ref l0), some (.int l1), some (.int l2), none] [.int s3, .int s2, .int s1, .ref s0] h (e_is (e_rn c_V q)) := by
  unfold fX37_sumUp_b69 at hf
  refine w_iadd dX37_sumUp_69 ?_
  obtain ⟨h1, b2, hf⟩ := Option.bind_eq_some_iff.mp hf
  refine x_qI b2 dX37_sumUp_70 ?_
  refine w_aload_n dX37_sumUp_71 rfl rfl ?_
  obtain ⟨a3, b4, hf⟩ := Option.bind_eq_some_iff.mp hf
  refine GX37_96 b4 dX37_sumUp_72 rfl ?_
  refine w_iload_n dX37_sumUp_75 rfl rfl ?_
  refine w_iconst dX37_sumUp_76 (v := 1) (by decide) ?_
  refine w_iadd dX37_sumUp_77 ?_
  refine w_aload_n dX37_sumUp_78 rfl rfl ?_
  obtain ⟨a5, b6, hf⟩ := Option.bind_eq_some_iff.mp hf
  refine GX37_96 b6 dX37_sumUp_79 rfl ?_
  refine w_iload_n dX37_sumUp_82 rfl rfl ?_
  obtain ⟨x7, b8, hf⟩ := Option.bind_eq_some_iff.mp hf
  refine x_rI b8 dX37_sumUp_83 ?_
  refine w_iload_n dX37_sumUp_84 rfl rfl ?_
  refine w_if_eq 97 dX37_sumUp_85 (by decide) (fun c9 => ?_) (fun c9 => ?_)
  · replace hf := (if_pos (show l2 = 0 from c9)).symm.trans hf
    refine w_iconst dX37_sumUp_97 (v := 0) (by decide) ?_
    exact (pX37_sumUp_b98 hd hk2 hf).to ⟨rfl, rfl, rfl, trivial⟩
  · replace hf := (if_neg (show ¬ (l2 = 0) from c9)).symm.trans hf
    refine w_aload_n dX37_sumUp_88 rfl rfl ?_
    obtain ⟨a10, b11, hf⟩ := Option.bind_eq_some_iff.mp hf
    refine GX37_22 b11 dX37_sumUp_89 rfl ?_
    refine w_iload_n dX37_sumUp_92 rfl rfl ?_
    obtain ⟨x12, b13, hf⟩ := Option.bind_eq_some_iff.mp hf
    refine x_rI b13 dX37_sumUp_93 ?_
    refine w_goto 98 dX37_sumUp_94 (by decide) ?_
    exact (pX37_sumUp_b98 hd hk2 hf).to ⟨rfl, rfl, rfl, trivial⟩
def fX37_sumUp_b59 (N : Nat) (k2 : Nat → Int32 → eH → Option (Unit × eH)) (l0 : Nat) (l1 : Int32) (l2 : Int32) (s0 : Nat) (s1 : Int32) (s2 : Int32) (h : eH) : Option (Unit × eH) :=
  fX37_sumUp_b69 N k2 l0 l1 l2 s0 s1 s2 (0 : Int32) h
theorem pX37_sumUp_b59 {w : eW} {d : Nat} (hd : 0 ≤ d) {N : Nat} {k2 : Nat → Int32 → eH → Option (Unit × eH)} (hk2 : ∀ l0 l1 h q, k2 l0 l1 h = some q → wp w d YX37_sumUp 2 [some (.ref l0), some (.int l1), none, none] [] h (e_is (e_rn c_V q))) {l0 : Nat} {l1 : Int32} {l2 : Int32} {s0 : Nat} {s1 : Int32} {s2 : Int32} {h : eH} {q} (hf : fX37_sumUp_b59 N k2 l0 l1 l2 s0 s1 s2 h = some q) : wp w d YX37_sumUp 59 [some (.ref l0), some (.int l1), some (.int l2), none] [.int s2, .int s1, .ref s0] h (e_is (e_rn c_V q)) := by
  unfold fX37_sumUp_b59 at hf
  refine w_iconst dX37_sumUp_59 (v := 0) (by decide) ?_
  refine w_goto 69 dX37_sumUp_60 (by decide) ?_
  exact (pX37_sumUp_b69 hd hk2 hf).to ⟨rfl, rfl, rfl, trivial⟩
def fX37_sumUp_b25 (N : Nat) (k2 : Nat → Int32 → eH → Option (Unit × eH)) (l0 : Nat) (l1 : Int32) (s0 : Int32) (h : eH) : Option (Unit × eH) :=
  (g_A 36 h l0 45).bind fun a1 =>
  (g_A 36 h l0 45).bind fun a3 =>
  (r_I 100 h a3 l1).bind fun x5 =>
  (g_A 36 h l0 2).bind fun a7 =>
  (r_I 100 h a7 l1).bind fun x9 =>
  if x9 = (4 : Int32) then
    fX37_sumUp_b59 N k2 l0 l1 s0 a1 (l1 + (1 : Int32)) x5 h
  else
    (g_A 36 h l0 2).bind fun a12 =>
    (r_I 100 h a12 l1).bind fun x14 =>
    if ¬ x14 = (5 : Int32) then
      (g_A 36 h l0 3).bind fun a17 =>
      (r_I 100 h a17 l1).bind fun x19 =>
      fX37_sumUp_b69 N k2 l0 l1 s0 a1 (l1 + (1 : Int32)) x5 x19 h
    else
      fX37_sumUp_b59 N k2 l0 l1 s0 a1 (l1 + (1 : Int32)) x5 h
theorem pX37_sumUp_b25 {w : eW} {d : Nat} (hd : 0 ≤ d) {N : Nat} {k2 : Nat → Int32 → eH → Option (Unit × eH)} (hk2 : ∀ l0 l1 h q, k2 l0 l1 h = some q → wp w d YX37_sumUp 2 [some (.ref l0), some (.int l1), none, none] [] h (e_is (e_rn c_V q))) {l0 : Nat} {l1 : Int32} {s0 : Int32} {h : eH} {q} (hf : fX37_sumUp_b25 N k2 l0 l1 s0 h = some q) : wp w d YX37_sumUp 25 [some (.ref l0), some (.int l1), none, none] [.int s0] h (e_is (e_rn c_V q)) := by
  unfold fX37_sumUp_b25 at hf
  refine w_istore_n dX37_sumUp_25 rfl (by decide) (ls' := [some (.ref l0), some (.int l1), some (.int s0), none]) rfl ?_
  refine w_aload_n dX37_sumUp_26 rfl rfl ?_
  obtain ⟨a1, b2, hf⟩ := Option.bind_eq_some_iff.mp hf
  refine GX37_90 b2 dX37_sumUp_27 rfl ?_
  refine w_iload_n dX37_sumUp_30 rfl rfl ?_
  refine w_iconst dX37_sumUp_31 (v := 1) (by decide) ?_
  refine w_iadd dX37_sumUp_32 ?_
  refine w_aload_n dX37_sumUp_33 rfl rfl ?_
  obtain ⟨a3, b4, hf⟩ := Option.bind_eq_some_iff.mp hf
  refine GX37_90 b4 dX37_sumUp_34 rfl ?_
  refine w_iload_n dX37_sumUp_37 rfl rfl ?_
  obtain ⟨x5, b6, hf⟩ := Option.bind_eq_some_iff.mp hf
  refine x_rI b6 dX37_sumUp_38 ?_
  refine w_aload_n dX37_sumUp_39 rfl rfl ?_
  obtain ⟨a7, b8, hf⟩ := Option.bind_eq_some_iff.mp hf
  refine GX37_7 b8 dX37_sumUp_40 rfl ?_
  refine w_iload_n dX37_sumUp_43 rfl rfl ?_
  obtain ⟨x9, b10, hf⟩ := Option.bind_eq_some_iff.mp hf
  refine x_rI b10 dX37_sumUp_44 ?_
  refine w_iconst dX37_sumUp_45 (v := 4) (by decide) ?_
  refine w_icmp_eq 59 dX37_sumUp_46 (by decide) (fun c11 => ?_) (fun c11 => ?_)
  · replace hf := (if_pos (show x9 = (4 : Int32) from c11)).symm.trans hf
    exact (pX37_sumUp_b59 hd hk2 hf).to ⟨rfl, rfl, rfl, trivial⟩
  · replace hf := (if_neg (show ¬ (x9 = (4 : Int32)) from c11)).symm.trans hf
    refine w_aload_n dX37_sumUp_49 rfl rfl ?_
    obtain ⟨a12, b13, hf⟩ := Option.bind_eq_some_iff.mp hf
    refine GX37_7 b13 dX37_sumUp_50 rfl ?_
    refine w_iload_n dX37_sumUp_53 rfl rfl ?_
    obtain ⟨x14, b15, hf⟩ := Option.bind_eq_some_iff.mp hf
    refine x_rI b15 dX37_sumUp_54 ?_
    refine w_iconst dX37_sumUp_55 (v := 5) (by decide) ?_
    refine w_icmp_ne 63 dX37_sumUp_56 (by decide) (fun c16 => ?_) (fun c16 => ?_)
    · replace hf := (if_pos (show ¬ x14 = (5 : Int32) from c16)).symm.trans hf
      refine w_aload_n dX37_sumUp_63 rfl rfl ?_
      obtain ⟨a17, b18, hf⟩ := Option.bind_eq_some_iff.mp hf
      refine GX37_13 b18 dX37_sumUp_64 rfl ?_
      refine w_iload_n dX37_sumUp_67 rfl rfl ?_
      obtain ⟨x19, b20, hf⟩ := Option.bind_eq_some_iff.mp hf
      refine x_rI b20 dX37_sumUp_68 ?_
      exact (pX37_sumUp_b69 hd hk2 hf).to ⟨rfl, rfl, rfl, trivial⟩
    · replace hf := (if_neg (show ¬ (¬ x14 = (5 : Int32)) from (fun z => z c16))).symm.trans hf
      exact (pX37_sumUp_b59 hd hk2 hf).to ⟨rfl, rfl, rfl, trivial⟩
def fX37_sumUp_b2 (N : Nat) : Nat → Nat → Int32 → eH → Option (Unit × eH)
  | 0, _, _, _ => none
  | n + 1, l0, l1, h =>
    (g_I 36 h l0 1).bind fun x1 =>
    if x1 ≤ l1 then
      some ((), h)
    else
      (g_A 36 h l0 2).bind fun a4 =>
      (r_I 100 h a4 l1).bind fun x6 =>
      if ¬ x6 = (1 : Int32) then
        fX37_sumUp_b25 N (fX37_sumUp_b2 N n) l0 l1 (0 : Int32) h
      else
        fX37_sumUp_b25 N (fX37_sumUp_b2 N n) l0 l1 (1 : Int32) h
theorem pX37_sumUp_b2 {w : eW} {d : Nat} (hd : 0 ≤ d) {N : Nat} : ∀ (n : Nat) l0 l1 h q, fX37_sumUp_b2 N n l0 l1 h = some q → wp w d YX37_sumUp 2 [some (.ref l0), some (.int l1), none, none] [] h (e_is (e_rn c_V q)) := by
  intro n
  induction n with
  | zero => intro l0 l1 h q hf; simp [fX37_sumUp_b2] at hf
  | succ n ih =>
    intro l0 l1 h q hf
    rw [fX37_sumUp_b2] at hf
    refine w_iload_n dX37_sumUp_2 rfl rfl ?_
    refine w_aload_n dX37_sumUp_3 rfl rfl ?_
    obtain ⟨x1, b2, hf⟩ := Option.bind_eq_some_iff.mp hf
    refine GX37_104 b2 dX37_sumUp_4 rfl ?_
    refine w_icmp_ge 166 dX37_sumUp_7 (by decide) (fun c3 => ?_) (fun c3 => ?_)
    · replace hf := (if_pos (show x1 ≤ l1 from c3)).symm.trans hf
      cases hf
      exact w_vret dX37_sumUp_166 rfl rfl
    · replace hf := (if_neg (show ¬ (x1 ≤ l1) from c3)).symm.trans hf
      refine w_aload_n dX37_sumUp_10 rfl rfl ?_
      obtain ⟨a4, b5, hf⟩ := Option.bind_eq_some_iff.mp hf
      refine GX37_7 b5 dX37_sumUp_11 rfl ?_
      refine w_iload_n dX37_sumUp_14 rfl rfl ?_
      obtain ⟨x6, b7, hf⟩ := Option.bind_eq_some_iff.mp hf
      refine x_rI b7 dX37_sumUp_15 ?_
      refine w_iconst dX37_sumUp_16 (v := 1) (by decide) ?_
      refine w_icmp_ne 24 dX37_sumUp_17 (by decide) (fun c8 => ?_) (fun c8 => ?_)
      · replace hf := (if_pos (show ¬ x6 = (1 : Int32) from c8)).symm.trans hf
        refine w_iconst dX37_sumUp_24 (v := 0) (by decide) ?_
        exact (pX37_sumUp_b25 hd ih hf).to ⟨rfl, rfl, trivial⟩
      · replace hf := (if_neg (show ¬ (¬ x6 = (1 : Int32)) from (fun z => z c8))).symm.trans hf
        refine w_iconst dX37_sumUp_20 (v := 1) (by decide) ?_
        refine w_goto 25 dX37_sumUp_21 (by decide) ?_
        exact (pX37_sumUp_b25 hd ih hf).to ⟨rfl, rfl, trivial⟩
def fX37_sumUp (N : Nat) (this : Nat) (h : eH) : Option (Unit × eH) :=
  fX37_sumUp_b2 N N this (0 : Int32) h
theorem pX37_sumUp {w : eW} {d : Nat} (hd : 0 ≤ d) {N : Nat} {this : Nat} {h : eH} {q} (hf : fX37_sumUp N this h = some q) : wm w d YX37_sumUp [.ref this] h (e_is (e_rn c_V q)) := by
  show wp w d YX37_sumUp 0 [some (.ref this), none, none, none] [] h _
  unfold fX37_sumUp at hf
  refine w_iconst dX37_sumUp_0 (v := 0) (by decide) ?_
  refine w_istore_n dX37_sumUp_1 rfl (by decide) (ls' := [some (.ref this), some (.int (0 : Int32)), none, none]) rfl ?_
  exact (pX37_sumUp_b2 hd N _ _ _ _ hf).to ⟨rfl, rfl, trivial⟩
abbrev cX37_replacer : ByteArray := prog_38_method_4_code
def yX37_replacer : MethodName := ⟨RX37, "replacer", "(I)I"⟩
def YX37_replacer : eY := (yX37_replacer, cX37_replacer, 3, (Option.some FieldType.int), [])
theorem mX37_replacer : e_mv YX37_replacer RX37 1 := ⟨q5796, qs374, q5797, by decide, by decide +kernel, (e_sig (by decide +kernel))⟩
theorem dX37_replacer_0 : decode cX37_replacer 0 = .ok (.iload_n 1, 1) := dc_27 (by decide +kernel)
theorem dX37_replacer_1 : decode cX37_replacer 1 = .ok (.iconst 1, 1) := dc_4 (by decide +kernel)
theorem dX37_replacer_2 : decode cX37_replacer 2 = .ok (.isub, 1) := dc_100 (by decide +kernel)
theorem dX37_replacer_3 : decode cX37_replacer 3 = .ok (.istore_n 2, 1) := dc_61 (by decide +kernel)
theorem dX37_replacer_4 : decode cX37_replacer 4 = .ok (.iload_n 2, 1) := dc_28 (by decide +kernel)
theorem dX37_replacer_5 : decode cX37_replacer 5 = .ok (.ifCond .lt 41, 3) := dc_155 (a := 0) (b := 41) (v := 41) (by decide +kernel)
theorem dX37_replacer_8 : decode cX37_replacer 8 = .ok (.iload_n 2, 1) := dc_28 (by decide +kernel)
theorem dX37_replacer_9 : decode cX37_replacer 9 = .ok (.iload_n 1, 1) := dc_27 (by decide +kernel)
theorem dX37_replacer_10 : decode cX37_replacer 10 = .ok (.bipush 10, 2) := dc_16 (a := 10) (v := 10) (by decide +kernel)
theorem dX37_replacer_12 : decode cX37_replacer 12 = .ok (.isub, 1) := dc_100 (by decide +kernel)
theorem dX37_replacer_13 : decode cX37_replacer 13 = .ok (.if_icmp .lt 33, 3) := dc_161 (a := 0) (b := 33) (v := 33) (by decide +kernel)
theorem dX37_replacer_16 : decode cX37_replacer 16 = .ok (.aload_n 0, 1) := dc_42 (by decide +kernel)
theorem dX37_replacer_17 : decode cX37_replacer 17 = .ok (.getfield 7, 3) := dc_180 (a := 0) (b := 7) (n := 7) (by decide +kernel)
theorem dX37_replacer_20 : decode cX37_replacer 20 = .ok (.iload_n 2, 1) := dc_28 (by decide +kernel)
theorem dX37_replacer_21 : decode cX37_replacer 21 = .ok (.iaload, 1) := dc_46 (by decide +kernel)
theorem dX37_replacer_22 : decode cX37_replacer 22 = .ok (.iconst 5, 1) := dc_8 (by decide +kernel)
theorem dX37_replacer_23 : decode cX37_replacer 23 = .ok (.if_icmp .ne 17, 3) := dc_160 (a := 0) (b := 17) (v := 17) (by decide +kernel)
theorem dX37_replacer_26 : decode cX37_replacer 26 = .ok (.iload_n 2, 1) := dc_28 (by decide +kernel)
theorem dX37_replacer_27 : decode cX37_replacer 27 = .ok (.aload_n 0, 1) := dc_42 (by decide +kernel)
theorem dX37_replacer_28 : decode cX37_replacer 28 = .ok (.getfield 31, 3) := dc_180 (a := 0) (b := 31) (n := 31) (by decide +kernel)
theorem dX37_replacer_31 : decode cX37_replacer 31 = .ok (.iload_n 2, 1) := dc_28 (by decide +kernel)
theorem dX37_replacer_32 : decode cX37_replacer 32 = .ok (.iaload, 1) := dc_46 (by decide +kernel)
theorem dX37_replacer_33 : decode cX37_replacer 33 = .ok (.iadd, 1) := dc_96 (by decide +kernel)
theorem dX37_replacer_34 : decode cX37_replacer 34 = .ok (.iload_n 1, 1) := dc_27 (by decide +kernel)
theorem dX37_replacer_35 : decode cX37_replacer 35 = .ok (.if_icmp .lt 5, 3) := dc_161 (a := 0) (b := 5) (v := 5) (by decide +kernel)
theorem dX37_replacer_38 : decode cX37_replacer 38 = .ok (.iload_n 2, 1) := dc_28 (by decide +kernel)
theorem dX37_replacer_39 : decode cX37_replacer 39 = .ok (.ireturn, 1) := dc_172 (by decide +kernel)
theorem dX37_replacer_40 : decode cX37_replacer 40 = .ok (.iinc 2 (-1), 3) := dc_132 (a := 2) (b := 255) (v := -1) (by decide +kernel)
theorem dX37_replacer_43 : decode cX37_replacer 43 = .ok (.goto (-39), 3) := dc_167 (a := 255) (b := 217) (v := -39) (by decide +kernel)
theorem dX37_replacer_46 : decode cX37_replacer 46 = .ok (.iconst (-1), 1) := dc_2 (by decide +kernel)
theorem dX37_replacer_47 : decode cX37_replacer 47 = .ok (.ireturn, 1) := dc_172 (by decide +kernel)
def fX37_replacer_b40 (N : Nat) (k4 : Nat → Int32 → Int32 → eH → Option (Int32 × eH)) (l0 : Nat) (l1 : Int32) (l2 : Int32) (h : eH) : Option (Int32 × eH) :=
  k4 l0 l1 (l2 + (-1 : Int32)) h
theorem pX37_replacer_b40 {w : eW} {d : Nat} (hd : 0 ≤ d) {N : Nat} {k4 : Nat → Int32 → Int32 → eH → Option (Int32 × eH)} (hk4 : ∀ l0 l1 l2 h q, k4 l0 l1 l2 h = some q → wp w d YX37_replacer 4 [some (.ref l0), some (.int l1), some (.int l2)] [] h (e_is (e_rn c_I q))) {l0 : Nat} {l1 : Int32} {l2 : Int32} {h : eH} {q} (hf : fX37_replacer_b40 N k4 l0 l1 l2 h = some q) : wp w d YX37_replacer 40 [some (.ref l0), some (.int l1), some (.int l2)] [] h (e_is (e_rn c_I q)) := by
  unfold fX37_replacer_b40 at hf
  refine w_iinc dX37_replacer_40 (v := (l2 + (-1 : Int32))) rfl rfl (by decide) (ls' := [some (.ref l0), some (.int l1), some (.int (l2 + (-1 : Int32)))]) rfl ?_
  refine w_goto 4 dX37_replacer_43 (by decide) ?_
  exact (hk4 _ _ _ _ _ hf).to ⟨rfl, rfl, rfl, trivial⟩
def fX37_replacer_b46 (N : Nat)  (h : eH) : Option (Int32 × eH) :=
  some ((-1 : Int32), h)
theorem pX37_replacer_b46 {w : eW} {d : Nat} (hd : 0 ≤ d) {N : Nat}  {h : eH} {q} (hf : fX37_replacer_b46 N h = some q) : wp w d YX37_replacer 46 [none, none, none] [] h (e_is (e_rn c_I q)) := by
  unfold fX37_replacer_b46 at hf
  refine w_iconst dX37_replacer_46 (v := -1) (by decide) ?_
  cases hf
  exact w_iret dX37_replacer_47 rfl rfl rfl
def fX37_replacer_b4 (N : Nat) : Nat → Nat → Int32 → Int32 → eH → Option (Int32 × eH)
  | 0, _, _, _, _ => none
  | n + 1, l0, l1, l2, h =>
    if l2 < 0 then
      fX37_replacer_b46 N h
    else
      if l2 < (l1 - (10 : Int32)) then
        fX37_replacer_b46 N h
      else
        (g_A 36 h l0 2).bind fun a3 =>
        (r_I 100 h a3 l2).bind fun x5 =>
        if ¬ x5 = (5 : Int32) then
          fX37_replacer_b40 N (fX37_replacer_b4 N n) l0 l1 l2 h
        else
          (g_A 36 h l0 9).bind fun a8 =>
          (r_I 100 h a8 l2).bind fun x10 =>
          if (l2 + x10) < l1 then
            fX37_replacer_b40 N (fX37_replacer_b4 N n) l0 l1 l2 h
          else
            some (l2, h)
theorem pX37_replacer_b4 {w : eW} {d : Nat} (hd : 0 ≤ d) {N : Nat} : ∀ (n : Nat) l0 l1 l2 h q, fX37_replacer_b4 N n l0 l1 l2 h = some q → wp w d YX37_replacer 4 [some (.ref l0), some (.int l1), some (.int l2)] [] h (e_is (e_rn c_I q)) := by
  intro n
  induction n with
  | zero => intro l0 l1 l2 h q hf; simp [fX37_replacer_b4] at hf
  | succ n ih =>
    intro l0 l1 l2 h q hf
    rw [fX37_replacer_b4] at hf
    refine w_iload_n dX37_replacer_4 rfl rfl ?_
    refine w_if_lt 46 dX37_replacer_5 (by decide) (fun c1 => ?_) (fun c1 => ?_)
    · replace hf := (if_pos (show l2 < 0 from c1)).symm.trans hf
      exact (pX37_replacer_b46 hd hf).to trivial
    · replace hf := (if_neg (show ¬ (l2 < 0) from c1)).symm.trans hf
      refine w_iload_n dX37_replacer_8 rfl rfl ?_
      refine w_iload_n dX37_replacer_9 rfl rfl ?_
      refine w_bipush dX37_replacer_10 (v := 10) (by decide) ?_
      refine w_isub dX37_replacer_12 ?_
      refine w_icmp_lt 46 dX37_replacer_13 (by decide) (fun c2 => ?_) (fun c2 => ?_)
      · replace hf := (if_pos (show l2 < (l1 - (10 : Int32)) from c2)).symm.trans hf
        exact (pX37_replacer_b46 hd hf).to trivial
      · replace hf := (if_neg (show ¬ (l2 < (l1 - (10 : Int32))) from c2)).symm.trans hf
        refine w_aload_n dX37_replacer_16 rfl rfl ?_
        obtain ⟨a3, b4, hf⟩ := Option.bind_eq_some_iff.mp hf
        refine GX37_7 b4 dX37_replacer_17 rfl ?_
        refine w_iload_n dX37_replacer_20 rfl rfl ?_
        obtain ⟨x5, b6, hf⟩ := Option.bind_eq_some_iff.mp hf
        refine x_rI b6 dX37_replacer_21 ?_
        refine w_iconst dX37_replacer_22 (v := 5) (by decide) ?_
        refine w_icmp_ne 40 dX37_replacer_23 (by decide) (fun c7 => ?_) (fun c7 => ?_)
        · replace hf := (if_pos (show ¬ x5 = (5 : Int32) from c7)).symm.trans hf
          exact (pX37_replacer_b40 hd ih hf).to ⟨rfl, rfl, rfl, trivial⟩
        · replace hf := (if_neg (show ¬ (¬ x5 = (5 : Int32)) from (fun z => z c7))).symm.trans hf
          refine w_iload_n dX37_replacer_26 rfl rfl ?_
          refine w_aload_n dX37_replacer_27 rfl rfl ?_
          obtain ⟨a8, b9, hf⟩ := Option.bind_eq_some_iff.mp hf
          refine GX37_31 b9 dX37_replacer_28 rfl ?_
          refine w_iload_n dX37_replacer_31 rfl rfl ?_
          obtain ⟨x10, b11, hf⟩ := Option.bind_eq_some_iff.mp hf
          refine x_rI b11 dX37_replacer_32 ?_
          refine w_iadd dX37_replacer_33 ?_
          refine w_iload_n dX37_replacer_34 rfl rfl ?_
          refine w_icmp_lt 40 dX37_replacer_35 (by decide) (fun c12 => ?_) (fun c12 => ?_)
          · replace hf := (if_pos (show (l2 + x10) < l1 from c12)).symm.trans hf
            exact (pX37_replacer_b40 hd ih hf).to ⟨rfl, rfl, rfl, trivial⟩
          · replace hf := (if_neg (show ¬ ((l2 + x10) < l1) from c12)).symm.trans hf
            refine w_iload_n dX37_replacer_38 rfl rfl ?_
            cases hf
            exact w_iret dX37_replacer_39 rfl rfl rfl
def fX37_replacer (N : Nat) (this : Nat) (p0 : Int32) (h : eH) : Option (Int32 × eH) :=
  fX37_replacer_b4 N N this p0 (p0 - (1 : Int32)) h
theorem pX37_replacer {w : eW} {d : Nat} (hd : 0 ≤ d) {N : Nat} {this : Nat} {p0 : Int32} {h : eH} {q} (hf : fX37_replacer N this p0 h = some q) : wm w d YX37_replacer [.ref this, .int p0] h (e_is (e_rn c_I q)) := by
  show wp w d YX37_replacer 0 [some (.ref this), some (.int p0), none] [] h _
  unfold fX37_replacer at hf
  refine w_iload_n dX37_replacer_0 rfl rfl ?_
  refine w_iconst dX37_replacer_1 (v := 1) (by decide) ?_
  refine w_isub dX37_replacer_2 ?_
  refine w_istore_n dX37_replacer_3 rfl (by decide) (ls' := [some (.ref this), some (.int p0), some (.int (p0 - (1 : Int32)))]) rfl ?_
  exact (pX37_replacer_b4 hd N _ _ _ _ _ hf).to ⟨rfl, rfl, rfl, trivial⟩
abbrev cX37_fine : ByteArray := prog_38_method_7_code
def yX37_fine : MethodName := ⟨RX37, "fine", "(I)I"⟩
def YX37_fine : eY := (yX37_fine, cX37_fine, 2, (Option.some FieldType.int), [])
theorem mX37_fine : e_mv YX37_fine RX37 1 := ⟨q5800, qs375, q5801, by decide, by decide +kernel, (e_sig (by decide +kernel))⟩
theorem dX37_fine_0 : decode cX37_fine 0 = .ok (.aload_n 0, 1) := dc_42 (by decide +kernel)
theorem dX37_fine_1 : decode cX37_fine 1 = .ok (.getfield 7, 3) := dc_180 (a := 0) (b := 7) (n := 7) (by decide +kernel)
theorem dX37_fine_4 : decode cX37_fine 4 = .ok (.iload_n 1, 1) := dc_27 (by decide +kernel)
theorem dX37_fine_5 : decode cX37_fine 5 = .ok (.iaload, 1) := dc_46 (by decide +kernel)
theorem dX37_fine_6 : decode cX37_fine 6 = .ok (.iconst 4, 1) := dc_7 (by decide +kernel)
theorem dX37_fine_7 : decode cX37_fine 7 = .ok (.if_icmp .ne 10, 3) := dc_160 (a := 0) (b := 10) (v := 10) (by decide +kernel)
theorem dX37_fine_10 : decode cX37_fine 10 = .ok (.aload_n 0, 1) := dc_42 (by decide +kernel)
theorem dX37_fine_11 : decode cX37_fine 11 = .ok (.getfield 13, 3) := dc_180 (a := 0) (b := 13) (n := 13) (by decide +kernel)
theorem dX37_fine_14 : decode cX37_fine 14 = .ok (.iload_n 1, 1) := dc_27 (by decide +kernel)
theorem dX37_fine_15 : decode cX37_fine 15 = .ok (.iaload, 1) := dc_46 (by decide +kernel)
theorem dX37_fine_16 : decode cX37_fine 16 = .ok (.ireturn, 1) := dc_172 (by decide +kernel)
theorem dX37_fine_17 : decode cX37_fine 17 = .ok (.aload_n 0, 1) := dc_42 (by decide +kernel)
theorem dX37_fine_18 : decode cX37_fine 18 = .ok (.getfield 7, 3) := dc_180 (a := 0) (b := 7) (n := 7) (by decide +kernel)
theorem dX37_fine_21 : decode cX37_fine 21 = .ok (.iload_n 1, 1) := dc_27 (by decide +kernel)
theorem dX37_fine_22 : decode cX37_fine 22 = .ok (.iaload, 1) := dc_46 (by decide +kernel)
theorem dX37_fine_23 : decode cX37_fine 23 = .ok (.iconst 5, 1) := dc_8 (by decide +kernel)
theorem dX37_fine_24 : decode cX37_fine 24 = .ok (.if_icmp .eq 7, 3) := dc_159 (a := 0) (b := 7) (v := 7) (by decide +kernel)
theorem dX37_fine_27 : decode cX37_fine 27 = .ok (.iconst 0, 1) := dc_3 (by decide +kernel)
theorem dX37_fine_28 : decode cX37_fine 28 = .ok (.goto 24, 3) := dc_167 (a := 0) (b := 24) (v := 24) (by decide +kernel)
theorem dX37_fine_31 : decode cX37_fine 31 = .ok (.aload_n 0, 1) := dc_42 (by decide +kernel)
theorem dX37_fine_32 : decode cX37_fine 32 = .ok (.getfield 34, 3) := dc_180 (a := 0) (b := 34) (n := 34) (by decide +kernel)
theorem dX37_fine_35 : decode cX37_fine 35 = .ok (.aload_n 0, 1) := dc_42 (by decide +kernel)
theorem dX37_fine_36 : decode cX37_fine 36 = .ok (.getfield 25, 3) := dc_180 (a := 0) (b := 25) (n := 25) (by decide +kernel)
theorem dX37_fine_39 : decode cX37_fine 39 = .ok (.iload_n 1, 1) := dc_27 (by decide +kernel)
theorem dX37_fine_40 : decode cX37_fine 40 = .ok (.iaload, 1) := dc_46 (by decide +kernel)
theorem dX37_fine_41 : decode cX37_fine 41 = .ok (.ldc 111, 2) := dc_18 (a := 111) (by decide +kernel)
theorem dX37_fine_43 : decode cX37_fine 43 = .ok (.if_icmp .eq 7, 3) := dc_159 (a := 0) (b := 7) (v := 7) (by decide +kernel)
theorem dX37_fine_46 : decode cX37_fine 46 = .ok (.iconst 3, 1) := dc_6 (by decide +kernel)
theorem dX37_fine_47 : decode cX37_fine 47 = .ok (.goto 4, 3) := dc_167 (a := 0) (b := 4) (v := 4) (by decide +kernel)
theorem dX37_fine_50 : decode cX37_fine 50 = .ok (.iconst 4, 1) := dc_7 (by decide +kernel)
theorem dX37_fine_51 : decode cX37_fine 51 = .ok (.iaload, 1) := dc_46 (by decide +kernel)
theorem dX37_fine_52 : decode cX37_fine 52 = .ok (.ireturn, 1) := dc_172 (by decide +kernel)
def fX37_fine_b52 (s0 : Int32) (h : eH) : Option (Int32 × eH) :=
  some (s0, h)
theorem pX37_fine_b52 {w : eW} {d : Nat} (hd : 0 ≤ d) {s0 : Int32} {h : eH} {q} (hf : fX37_fine_b52 s0 h = some q) : wp w d YX37_fine 52 [none, none] [.int s0] h (e_is (e_rn c_I q)) := by
  unfold fX37_fine_b52 at hf
  cases hf
  exact w_iret dX37_fine_52 rfl rfl rfl
def fX37_fine_b51 (s0 : Nat) (s1 : Int32) (h : eH) : Option (Int32 × eH) :=
  (r_I 100 h s0 s1).bind fun x1 =>
  fX37_fine_b52 x1 h
theorem pX37_fine_b51 {w : eW} {d : Nat} (hd : 0 ≤ d) {s0 : Nat} {s1 : Int32} {h : eH} {q} (hf : fX37_fine_b51 s0 s1 h = some q) : wp w d YX37_fine 51 [none, none] [.int s1, .ref s0] h (e_is (e_rn c_I q)) := by
  unfold fX37_fine_b51 at hf
  obtain ⟨x1, b2, hf⟩ := Option.bind_eq_some_iff.mp hf
  refine x_rI b2 dX37_fine_51 ?_
  exact (pX37_fine_b52 hd hf).to trivial
def fX37_fine (this : Nat) (p0 : Int32) (h : eH) : Option (Int32 × eH) :=
  (g_A 36 h this 2).bind fun a1 =>
  (r_I 100 h a1 p0).bind fun x3 =>
  if ¬ x3 = (4 : Int32) then
    (g_A 36 h this 2).bind fun a6 =>
    (r_I 100 h a6 p0).bind fun x8 =>
    if x8 = (5 : Int32) then
      (g_A 36 h this 10).bind fun a11 =>
      (g_A 36 h this 7).bind fun a13 =>
      (r_I 100 h a13 p0).bind fun x15 =>
      if x15 = (-2147483648 : Int32) then
        fX37_fine_b51 a11 (4 : Int32) h
      else
        fX37_fine_b51 a11 (3 : Int32) h
    else
      fX37_fine_b52 (0 : Int32) h
  else
    (g_A 36 h this 3).bind fun a18 =>
    (r_I 100 h a18 p0).bind fun x20 =>
    some (x20, h)
theorem pX37_fine {w : eW} {d : Nat} (hd : 0 ≤ d) {this : Nat} {p0 : Int32} {h : eH} {q} (hf : fX37_fine this p0 h = some q) : wm w d YX37_fine [.ref this, .int p0] h (e_is (e_rn c_I q)) := by
  show wp w d YX37_fine 0 [some (.ref this), some (.int p0)] [] h _
  unfold fX37_fine at hf
  refine w_aload_n dX37_fine_0 rfl rfl ?_
  obtain ⟨a1, b2, hf⟩ := Option.bind_eq_some_iff.mp hf
  refine GX37_7 b2 dX37_fine_1 rfl ?_
  refine w_iload_n dX37_fine_4 rfl rfl ?_
  obtain ⟨x3, b4, hf⟩ := Option.bind_eq_some_iff.mp hf
  refine x_rI b4 dX37_fine_5 ?_
  refine w_iconst dX37_fine_6 (v := 4) (by decide) ?_
  refine w_icmp_ne 17 dX37_fine_7 (by decide) (fun c5 => ?_) (fun c5 => ?_)
  · replace hf := (if_pos (show ¬ x3 = (4 : Int32) from c5)).symm.trans hf
    refine w_aload_n dX37_fine_17 rfl rfl ?_
    obtain ⟨a6, b7, hf⟩ := Option.bind_eq_some_iff.mp hf
    refine GX37_7 b7 dX37_fine_18 rfl ?_
    refine w_iload_n dX37_fine_21 rfl rfl ?_
    obtain ⟨x8, b9, hf⟩ := Option.bind_eq_some_iff.mp hf
    refine x_rI b9 dX37_fine_22 ?_
    refine w_iconst dX37_fine_23 (v := 5) (by decide) ?_
    refine w_icmp_eq 31 dX37_fine_24 (by decide) (fun c10 => ?_) (fun c10 => ?_)
    · replace hf := (if_pos (show x8 = (5 : Int32) from c10)).symm.trans hf
      refine w_aload_n dX37_fine_31 rfl rfl ?_
      obtain ⟨a11, b12, hf⟩ := Option.bind_eq_some_iff.mp hf
      refine GX37_34 b12 dX37_fine_32 rfl ?_
      refine w_aload_n dX37_fine_35 rfl rfl ?_
      obtain ⟨a13, b14, hf⟩ := Option.bind_eq_some_iff.mp hf
      refine GX37_25 b14 dX37_fine_36 rfl ?_
      refine w_iload_n dX37_fine_39 rfl rfl ?_
      obtain ⟨x15, b16, hf⟩ := Option.bind_eq_some_iff.mp hf
      refine x_rI b16 dX37_fine_40 ?_
      refine w_ldc dX37_fine_41 q5775 ?_
      refine w_icmp_eq 50 dX37_fine_43 (by decide) (fun c17 => ?_) (fun c17 => ?_)
      · replace hf := (if_pos (show x15 = (-2147483648 : Int32) from c17)).symm.trans hf
        refine w_iconst dX37_fine_50 (v := 4) (by decide) ?_
        exact (pX37_fine_b51 hd hf).to trivial
      · replace hf := (if_neg (show ¬ (x15 = (-2147483648 : Int32)) from c17)).symm.trans hf
        refine w_iconst dX37_fine_46 (v := 3) (by decide) ?_
        refine w_goto 51 dX37_fine_47 (by decide) ?_
        exact (pX37_fine_b51 hd hf).to trivial
    · replace hf := (if_neg (show ¬ (x8 = (5 : Int32)) from c10)).symm.trans hf
      refine w_iconst dX37_fine_27 (v := 0) (by decide) ?_
      refine w_goto 52 dX37_fine_28 (by decide) ?_
      exact (pX37_fine_b52 hd hf).to trivial
  · replace hf := (if_neg (show ¬ (¬ x3 = (4 : Int32)) from (fun z => z c5))).symm.trans hf
    refine w_aload_n dX37_fine_10 rfl rfl ?_
    obtain ⟨a18, b19, hf⟩ := Option.bind_eq_some_iff.mp hf
    refine GX37_13 b19 dX37_fine_11 rfl ?_
    refine w_iload_n dX37_fine_14 rfl rfl ?_
    obtain ⟨x20, b21, hf⟩ := Option.bind_eq_some_iff.mp hf
    refine x_rI b21 dX37_fine_15 ?_
    cases hf
    exact w_iret dX37_fine_16 rfl rfl rfl
abbrev cX37_isPlace : ByteArray := prog_38_method_8_code
def yX37_isPlace : MethodName := ⟨RX37, "isPlace", "(I)Z"⟩
def YX37_isPlace : eY := (yX37_isPlace, cX37_isPlace, 3, (Option.some FieldType.boolean), [])
theorem mX37_isPlace : e_mv YX37_isPlace RX37 1 := ⟨q5792, qs373, q5793, by decide, by decide +kernel, (e_sig (by decide +kernel))⟩
theorem dX37_isPlace_0 : decode cX37_isPlace 0 = .ok (.aload_n 0, 1) := dc_42 (by decide +kernel)
theorem dX37_isPlace_1 : decode cX37_isPlace 1 = .ok (.iload_n 1, 1) := dc_27 (by decide +kernel)
theorem dX37_isPlace_2 : decode cX37_isPlace 2 = .ok (.invokevirtual 112, 3) := dc_182 (a := 0) (b := 112) (n := 112) (by decide +kernel)
theorem dX37_isPlace_5 : decode cX37_isPlace 5 = .ok (.ifCond .ge 14, 3) := dc_156 (a := 0) (b := 14) (v := 14) (by decide +kernel)
theorem dX37_isPlace_8 : decode cX37_isPlace 8 = .ok (.aload_n 0, 1) := dc_42 (by decide +kernel)
theorem dX37_isPlace_9 : decode cX37_isPlace 9 = .ok (.iload_n 1, 1) := dc_27 (by decide +kernel)
theorem dX37_isPlace_10 : decode cX37_isPlace 10 = .ok (.invokevirtual 116, 3) := dc_182 (a := 0) (b := 116) (n := 116) (by decide +kernel)
theorem dX37_isPlace_13 : decode cX37_isPlace 13 = .ok (.sipush 10000, 3) := dc_17 (a := 39) (b := 16) (v := 10000) (by decide +kernel)
theorem dX37_isPlace_16 : decode cX37_isPlace 16 = .ok (.if_icmp .ne 5, 3) := dc_160 (a := 0) (b := 5) (v := 5) (by decide +kernel)
theorem dX37_isPlace_19 : decode cX37_isPlace 19 = .ok (.iconst 0, 1) := dc_3 (by decide +kernel)
theorem dX37_isPlace_20 : decode cX37_isPlace 20 = .ok (.ireturn, 1) := dc_172 (by decide +kernel)
theorem dX37_isPlace_21 : decode cX37_isPlace 21 = .ok (.aload_n 0, 1) := dc_42 (by decide +kernel)
theorem dX37_isPlace_22 : decode cX37_isPlace 22 = .ok (.getfield 7, 3) := dc_180 (a := 0) (b := 7) (n := 7) (by decide +kernel)
theorem dX37_isPlace_25 : decode cX37_isPlace 25 = .ok (.iload_n 1, 1) := dc_27 (by decide +kernel)
theorem dX37_isPlace_26 : decode cX37_isPlace 26 = .ok (.iaload, 1) := dc_46 (by decide +kernel)
theorem dX37_isPlace_27 : decode cX37_isPlace 27 = .ok (.tableswitch 128 1 5 #[33, 128, 86, 112, 114], 33) := by decide +kernel
theorem dX37_isPlace_60 : decode cX37_isPlace 60 = .ok (.iload_n 1, 1) := dc_27 (by decide +kernel)
theorem dX37_isPlace_61 : decode cX37_isPlace 61 = .ok (.iconst 1, 1) := dc_4 (by decide +kernel)
theorem dX37_isPlace_62 : decode cX37_isPlace 62 = .ok (.isub, 1) := dc_100 (by decide +kernel)
theorem dX37_isPlace_63 : decode cX37_isPlace 63 = .ok (.istore_n 2, 1) := dc_61 (by decide +kernel)
theorem dX37_isPlace_64 : decode cX37_isPlace 64 = .ok (.iload_n 2, 1) := dc_28 (by decide +kernel)
theorem dX37_isPlace_65 : decode cX37_isPlace 65 = .ok (.ifCond .ge 5, 3) := dc_156 (a := 0) (b := 5) (v := 5) (by decide +kernel)
theorem dX37_isPlace_68 : decode cX37_isPlace 68 = .ok (.iconst 0, 1) := dc_3 (by decide +kernel)
theorem dX37_isPlace_69 : decode cX37_isPlace 69 = .ok (.ireturn, 1) := dc_172 (by decide +kernel)
theorem dX37_isPlace_70 : decode cX37_isPlace 70 = .ok (.aload_n 0, 1) := dc_42 (by decide +kernel)
theorem dX37_isPlace_71 : decode cX37_isPlace 71 = .ok (.iload_n 2, 1) := dc_28 (by decide +kernel)
theorem dX37_isPlace_72 : decode cX37_isPlace 72 = .ok (.invokevirtual 112, 3) := dc_182 (a := 0) (b := 112) (n := 112) (by decide +kernel)
theorem dX37_isPlace_75 : decode cX37_isPlace 75 = .ok (.ifCond .ge 32, 3) := dc_156 (a := 0) (b := 32) (v := 32) (by decide +kernel)
theorem dX37_isPlace_78 : decode cX37_isPlace 78 = .ok (.aload_n 0, 1) := dc_42 (by decide +kernel)
theorem dX37_isPlace_79 : decode cX37_isPlace 79 = .ok (.getfield 7, 3) := dc_180 (a := 0) (b := 7) (n := 7) (by decide +kernel)
theorem dX37_isPlace_82 : decode cX37_isPlace 82 = .ok (.iload_n 2, 1) := dc_28 (by decide +kernel)
theorem dX37_isPlace_83 : decode cX37_isPlace 83 = .ok (.iaload, 1) := dc_46 (by decide +kernel)
theorem dX37_isPlace_84 : decode cX37_isPlace 84 = .ok (.ifCond .eq 23, 3) := dc_153 (a := 0) (b := 23) (v := 23) (by decide +kernel)
theorem dX37_isPlace_87 : decode cX37_isPlace 87 = .ok (.aload_n 0, 1) := dc_42 (by decide +kernel)
theorem dX37_isPlace_88 : decode cX37_isPlace 88 = .ok (.getfield 7, 3) := dc_180 (a := 0) (b := 7) (n := 7) (by decide +kernel)
theorem dX37_isPlace_91 : decode cX37_isPlace 91 = .ok (.iload_n 2, 1) := dc_28 (by decide +kernel)
theorem dX37_isPlace_92 : decode cX37_isPlace 92 = .ok (.iaload, 1) := dc_46 (by decide +kernel)
theorem dX37_isPlace_93 : decode cX37_isPlace 93 = .ok (.iconst 5, 1) := dc_8 (by decide +kernel)
theorem dX37_isPlace_94 : decode cX37_isPlace 94 = .ok (.if_icmp .eq 13, 3) := dc_159 (a := 0) (b := 13) (v := 13) (by decide +kernel)
theorem dX37_isPlace_97 : decode cX37_isPlace 97 = .ok (.aload_n 0, 1) := dc_42 (by decide +kernel)
theorem dX37_isPlace_98 : decode cX37_isPlace 98 = .ok (.getfield 7, 3) := dc_180 (a := 0) (b := 7) (n := 7) (by decide +kernel)
theorem dX37_isPlace_101 : decode cX37_isPlace 101 = .ok (.iload_n 2, 1) := dc_28 (by decide +kernel)
theorem dX37_isPlace_102 : decode cX37_isPlace 102 = .ok (.iaload, 1) := dc_46 (by decide +kernel)
theorem dX37_isPlace_103 : decode cX37_isPlace 103 = .ok (.iconst 2, 1) := dc_5 (by decide +kernel)
theorem dX37_isPlace_104 : decode cX37_isPlace 104 = .ok (.if_icmp .ne 7, 3) := dc_160 (a := 0) (b := 7) (v := 7) (by decide +kernel)
theorem dX37_isPlace_107 : decode cX37_isPlace 107 = .ok (.iconst 1, 1) := dc_4 (by decide +kernel)
theorem dX37_isPlace_108 : decode cX37_isPlace 108 = .ok (.goto 4, 3) := dc_167 (a := 0) (b := 4) (v := 4) (by decide +kernel)
theorem dX37_isPlace_111 : decode cX37_isPlace 111 = .ok (.iconst 0, 1) := dc_3 (by decide +kernel)
theorem dX37_isPlace_112 : decode cX37_isPlace 112 = .ok (.ireturn, 1) := dc_172 (by decide +kernel)
theorem dX37_isPlace_113 : decode cX37_isPlace 113 = .ok (.iload_n 1, 1) := dc_27 (by decide +kernel)
theorem dX37_isPlace_114 : decode cX37_isPlace 114 = .ok (.aload_n 0, 1) := dc_42 (by decide +kernel)
theorem dX37_isPlace_115 : decode cX37_isPlace 115 = .ok (.getfield 119, 3) := dc_180 (a := 0) (b := 119) (n := 119) (by decide +kernel)
theorem dX37_isPlace_118 : decode cX37_isPlace 118 = .ok (.if_icmp .ge 19, 3) := dc_162 (a := 0) (b := 19) (v := 19) (by decide +kernel)
theorem dX37_isPlace_121 : decode cX37_isPlace 121 = .ok (.aload_n 0, 1) := dc_42 (by decide +kernel)
theorem dX37_isPlace_122 : decode cX37_isPlace 122 = .ok (.getfield 7, 3) := dc_180 (a := 0) (b := 7) (n := 7) (by decide +kernel)
theorem dX37_isPlace_125 : decode cX37_isPlace 125 = .ok (.iload_n 1, 1) := dc_27 (by decide +kernel)
theorem dX37_isPlace_126 : decode cX37_isPlace 126 = .ok (.iconst 1, 1) := dc_4 (by decide +kernel)
theorem dX37_isPlace_127 : decode cX37_isPlace 127 = .ok (.iadd, 1) := dc_96 (by decide +kernel)
theorem dX37_isPlace_128 : decode cX37_isPlace 128 = .ok (.iaload, 1) := dc_46 (by decide +kernel)
theorem dX37_isPlace_129 : decode cX37_isPlace 129 = .ok (.iconst 1, 1) := dc_4 (by decide +kernel)
theorem dX37_isPlace_130 : decode cX37_isPlace 130 = .ok (.if_icmp .ne 7, 3) := dc_160 (a := 0) (b := 7) (v := 7) (by decide +kernel)
theorem dX37_isPlace_133 : decode cX37_isPlace 133 = .ok (.iconst 1, 1) := dc_4 (by decide +kernel)
theorem dX37_isPlace_134 : decode cX37_isPlace 134 = .ok (.goto 4, 3) := dc_167 (a := 0) (b := 4) (v := 4) (by decide +kernel)
theorem dX37_isPlace_137 : decode cX37_isPlace 137 = .ok (.iconst 0, 1) := dc_3 (by decide +kernel)
theorem dX37_isPlace_138 : decode cX37_isPlace 138 = .ok (.ireturn, 1) := dc_172 (by decide +kernel)
theorem dX37_isPlace_139 : decode cX37_isPlace 139 = .ok (.iconst 1, 1) := dc_4 (by decide +kernel)
theorem dX37_isPlace_140 : decode cX37_isPlace 140 = .ok (.ireturn, 1) := dc_172 (by decide +kernel)
theorem dX37_isPlace_141 : decode cX37_isPlace 141 = .ok (.aload_n 0, 1) := dc_42 (by decide +kernel)
theorem dX37_isPlace_142 : decode cX37_isPlace 142 = .ok (.getfield 122, 3) := dc_180 (a := 0) (b := 122) (n := 122) (by decide +kernel)
theorem dX37_isPlace_145 : decode cX37_isPlace 145 = .ok (.iconst 1, 1) := dc_4 (by decide +kernel)
theorem dX37_isPlace_146 : decode cX37_isPlace 146 = .ok (.if_icmp .le 7, 3) := dc_164 (a := 0) (b := 7) (v := 7) (by decide +kernel)
theorem dX37_isPlace_149 : decode cX37_isPlace 149 = .ok (.iconst 1, 1) := dc_4 (by decide +kernel)
theorem dX37_isPlace_150 : decode cX37_isPlace 150 = .ok (.goto 4, 3) := dc_167 (a := 0) (b := 4) (v := 4) (by decide +kernel)
theorem dX37_isPlace_153 : decode cX37_isPlace 153 = .ok (.iconst 0, 1) := dc_3 (by decide +kernel)
theorem dX37_isPlace_154 : decode cX37_isPlace 154 = .ok (.ireturn, 1) := dc_172 (by decide +kernel)
theorem dX37_isPlace_155 : decode cX37_isPlace 155 = .ok (.iconst 0, 1) := dc_3 (by decide +kernel)
theorem dX37_isPlace_156 : decode cX37_isPlace 156 = .ok (.ireturn, 1) := dc_172 (by decide +kernel)
theorem GX37_119 {w : eW} {d : Nat} {Y : eY} {pc : Nat} {ls : eL} {st : List Value} {h : eH} {Q : eO → eH → Prop} {a : Nat} {x : Int32} (hf : g_I 36 h a 17 = some x) (hd : decode Y.2.1 pc = .ok (.getfield 119, 3)) (hY : Y.1.cls = RX37) (kk : wp w d Y (pc + 3) ls (.int x :: st) h Q) : wp w d Y pc ls (.ref a :: st) h Q := x_gI (ci := 36) (k := 17) hf hd rfl (by decide) (by rw [hY]; exact q4251) kk
theorem GX37_122 {w : eW} {d : Nat} {Y : eY} {pc : Nat} {ls : eL} {st : List Value} {h : eH} {Q : eO → eH → Prop} {a : Nat} {x : Int32} (hf : g_I 36 h a 16 = some x) (hd : decode Y.2.1 pc = .ok (.getfield 122, 3)) (hY : Y.1.cls = RX37) (kk : wp w d Y (pc + 3) ls (.int x :: st) h Q) : wp w d Y pc ls (.ref a :: st) h Q := x_gI (ci := 36) (k := 16) hf hd rfl (by decide) (by rw [hY]; exact q4250) kk
def fX37_isPlace_b19 (N : Nat)  (h : eH) : Option (Int32 × eH) :=
  some ((0 : Int32), h)
theorem pX37_isPlace_b19 {w : eW} {d : Nat} (hd : 1 ≤ d + 1) {N : Nat}  {h : eH} {q} (hf : fX37_isPlace_b19 N h = some q) : wp w (d + 1) YX37_isPlace 19 [none, none, none] [] h (e_is (e_rn c_I q)) := by
  unfold fX37_isPlace_b19 at hf
  refine w_iconst dX37_isPlace_19 (v := 0) (by decide) ?_
  cases hf
  exact w_iret dX37_isPlace_20 rfl rfl rfl
def fX37_isPlace_b112 (N : Nat) (s0 : Int32) (h : eH) : Option (Int32 × eH) :=
  z_r s0 (s0, h)
theorem pX37_isPlace_b112 {w : eW} {d : Nat} (hd : 1 ≤ d + 1) {N : Nat} {s0 : Int32} {h : eH} {q} (hf : fX37_isPlace_b112 N s0 h = some q) : wp w (d + 1) YX37_isPlace 112 [none, none, none] [.int s0] h (e_is (e_rn c_I q)) := by
  unfold fX37_isPlace_b112 at hf
  obtain ⟨b1, rfl⟩ := z_r_some hf
  exact w_iret dX37_isPlace_112 rfl b1 rfl
def fX37_isPlace_b107 (N : Nat)  (h : eH) : Option (Int32 × eH) :=
  fX37_isPlace_b112 N (1 : Int32) h
theorem pX37_isPlace_b107 {w : eW} {d : Nat} (hd : 1 ≤ d + 1) {N : Nat}  {h : eH} {q} (hf : fX37_isPlace_b107 N h = some q) : wp w (d + 1) YX37_isPlace 107 [none, none, none] [] h (e_is (e_rn c_I q)) := by
  unfold fX37_isPlace_b107 at hf
  refine w_iconst dX37_isPlace_107 (v := 1) (by decide) ?_
  refine w_goto 112 dX37_isPlace_108 (by decide) ?_
  exact (pX37_isPlace_b112 hd hf).to trivial
def fX37_isPlace_b138 (N : Nat) (s0 : Int32) (h : eH) : Option (Int32 × eH) :=
  z_r s0 (s0, h)
theorem pX37_isPlace_b138 {w : eW} {d : Nat} (hd : 1 ≤ d + 1) {N : Nat} {s0 : Int32} {h : eH} {q} (hf : fX37_isPlace_b138 N s0 h = some q) : wp w (d + 1) YX37_isPlace 138 [none, none, none] [.int s0] h (e_is (e_rn c_I q)) := by
  unfold fX37_isPlace_b138 at hf
  obtain ⟨b1, rfl⟩ := z_r_some hf
  exact w_iret dX37_isPlace_138 rfl b1 rfl
def fX37_isPlace_b137 (N : Nat)  (h : eH) : Option (Int32 × eH) :=
  fX37_isPlace_b138 N (0 : Int32) h
theorem pX37_isPlace_b137 {w : eW} {d : Nat} (hd : 1 ≤ d + 1) {N : Nat}  {h : eH} {q} (hf : fX37_isPlace_b137 N h = some q) : wp w (d + 1) YX37_isPlace 137 [none, none, none] [] h (e_is (e_rn c_I q)) := by
  unfold fX37_isPlace_b137 at hf
  refine w_iconst dX37_isPlace_137 (v := 0) (by decide) ?_
  exact (pX37_isPlace_b138 hd hf).to trivial
def fX37_isPlace_b154 (N : Nat) (s0 : Int32) (h : eH) : Option (Int32 × eH) :=
  z_r s0 (s0, h)
theorem pX37_isPlace_b154 {w : eW} {d : Nat} (hd : 1 ≤ d + 1) {N : Nat} {s0 : Int32} {h : eH} {q} (hf : fX37_isPlace_b154 N s0 h = some q) : wp w (d + 1) YX37_isPlace 154 [none, none, none] [.int s0] h (e_is (e_rn c_I q)) := by
  unfold fX37_isPlace_b154 at hf
  obtain ⟨b1, rfl⟩ := z_r_some hf
  exact w_iret dX37_isPlace_154 rfl b1 rfl
def fX37_isPlace (N : Nat) (this : Nat) (p0 : Int32) (h : eH) : Option (Int32 × eH) :=
  (k_ok 36 h this).bind fun _ =>
  (fX37_replacer N this p0 h).bind fun q2 =>
  if 0 ≤ q2.1 then
    fX37_isPlace_b19 N q2.2
  else
    (k_ok 36 q2.2 this).bind fun _ =>
    (fX37_fine this p0 q2.2).bind fun q5 =>
    if ¬ q5.1 = (10000 : Int32) then
      (g_A 36 q5.2 this 2).bind fun a7 =>
      (r_I 100 q5.2 a7 p0).bind fun x9 =>
      if x9 = (1 : Int32) then
        if 0 ≤ (p0 - (1 : Int32)) then
          (k_ok 36 q5.2 this).bind fun _ =>
          (fX37_replacer N this (p0 - (1 : Int32)) q5.2).bind fun q14 =>
          if 0 ≤ q14.1 then
            fX37_isPlace_b107 N q14.2
          else
            (g_A 36 q14.2 this 2).bind fun a16 =>
            (r_I 100 q14.2 a16 (p0 - (1 : Int32))).bind fun x18 =>
            if x18 = 0 then
              fX37_isPlace_b107 N q14.2
            else
              (g_A 36 q14.2 this 2).bind fun a21 =>
              (r_I 100 q14.2 a21 (p0 - (1 : Int32))).bind fun x23 =>
              if x23 = (5 : Int32) then
                fX37_isPlace_b107 N q14.2
              else
                (g_A 36 q14.2 this 2).bind fun a26 =>
                (r_I 100 q14.2 a26 (p0 - (1 : Int32))).bind fun x28 =>
                if ¬ x28 = (2 : Int32) then
                  fX37_isPlace_b112 N (0 : Int32) q14.2
                else
                  fX37_isPlace_b107 N q14.2
        else
          some ((0 : Int32), q5.2)
      else
      if x9 = (2 : Int32) then
        some ((0 : Int32), q5.2)
      else
      if x9 = (3 : Int32) then
        (g_I 36 q5.2 this 17).bind fun x33 =>
        if x33 ≤ p0 then
          fX37_isPlace_b137 N q5.2
        else
          (g_A 36 q5.2 this 2).bind fun a36 =>
          (r_I 100 q5.2 a36 (p0 + (1 : Int32))).bind fun x38 =>
          if ¬ x38 = (1 : Int32) then
            fX37_isPlace_b137 N q5.2
          else
            fX37_isPlace_b138 N (1 : Int32) q5.2
      else
      if x9 = (4 : Int32) then
        some ((1 : Int32), q5.2)
      else
      if x9 = (5 : Int32) then
        (g_I 36 q5.2 this 16).bind fun x43 =>
        if x43 ≤ (1 : Int32) then
          fX37_isPlace_b154 N (0 : Int32) q5.2
        else
          fX37_isPlace_b154 N (1 : Int32) q5.2
      else
      some ((0 : Int32), q5.2)
    else
      fX37_isPlace_b19 N q5.2
theorem pX37_isPlace {w : eW} {d : Nat} (hd : 1 ≤ d) {N : Nat} {this : Nat} {p0 : Int32} {h : eH} {q} (hf : fX37_isPlace N this p0 h = some q) : wm w d YX37_isPlace [.ref this, .int p0] h (e_is (e_rn c_I q)) := by
  obtain ⟨d, rfl⟩ : ∃ e, d = e + 1 := ⟨d - 1, by omega⟩
  show wp w (d + 1) YX37_isPlace 0 [some (.ref this), some (.int p0), none] [] h _
  unfold fX37_isPlace at hf
  refine w_aload_n dX37_isPlace_0 rfl rfl ?_
  refine w_iload_n dX37_isPlace_1 rfl rfl ?_
  obtain ⟨_, b1, hf⟩ := Option.bind_eq_some_iff.mp hf
  refine x_cnI hf (e_stV (Yc := YX37_replacer) (ci := 36) (av := [.int p0]) (st := []) dX37_isPlace_2 q5794 mX37_replacer rfl (k_ok_some b1).1 (k_ok_some b1).2) mX37_replacer.2.2.1 mX37_replacer.2.2.2.2.1 (Nat.le_of_ble_eq_true rfl) (Nat.le_of_ble_eq_true rfl) (fun q hq => pX37_replacer (by omega) hq) (fun q2 hf => ?_)
  refine w_if_ge 19 dX37_isPlace_5 (by decide) (fun c3 => ?_) (fun c3 => ?_)
  · replace hf := (if_pos (show 0 ≤ q2.1 from c3)).symm.trans hf
    exact (pX37_isPlace_b19 hd hf).to trivial
  · replace hf := (if_neg (show ¬ (0 ≤ q2.1) from c3)).symm.trans hf
    refine w_aload_n dX37_isPlace_8 rfl rfl ?_
    refine w_iload_n dX37_isPlace_9 rfl rfl ?_
    obtain ⟨_, b4, hf⟩ := Option.bind_eq_some_iff.mp hf
    refine x_cnI hf (e_stV (Yc := YX37_fine) (ci := 36) (av := [.int p0]) (st := []) dX37_isPlace_10 q5798 mX37_fine rfl (k_ok_some b4).1 (k_ok_some b4).2) mX37_fine.2.2.1 mX37_fine.2.2.2.2.1 (Nat.le_of_ble_eq_true rfl) (Nat.le_of_ble_eq_true rfl) (fun q hq => pX37_fine (by omega) hq) (fun q5 hf => ?_)
    refine w_sipush dX37_isPlace_13 (v := 10000) (by decide) ?_
    refine w_icmp_ne 21 dX37_isPlace_16 (by decide) (fun c6 => ?_) (fun c6 => ?_)
    · replace hf := (if_pos (show ¬ q5.1 = (10000 : Int32) from c6)).symm.trans hf
      refine w_aload_n dX37_isPlace_21 rfl rfl ?_
      obtain ⟨a7, b8, hf⟩ := Option.bind_eq_some_iff.mp hf
      refine GX37_7 b8 dX37_isPlace_22 rfl ?_
      refine w_iload_n dX37_isPlace_25 rfl rfl ?_
      obtain ⟨x9, b10, hf⟩ := Option.bind_eq_some_iff.mp hf
      refine x_rI b10 dX37_isPlace_26 ?_
      by_cases c11 : x9 = (1 : Int32)
      · replace hf := (if_pos c11).symm.trans hf
        refine w_tableIn 60 dX37_isPlace_27 (by rw [c11]; decide) (by rw [c11]; decide) (by rw [c11]; rfl) (by decide) ?_
        refine w_iload_n dX37_isPlace_60 rfl rfl ?_
        refine w_iconst dX37_isPlace_61 (v := 1) (by decide) ?_
        refine w_isub dX37_isPlace_62 ?_
        refine w_istore_n dX37_isPlace_63 rfl (by decide) (ls' := [some (.ref this), some (.int p0), some (.int (p0 - (1 : Int32)))]) rfl ?_
        refine w_iload_n dX37_isPlace_64 rfl rfl ?_
        refine w_if_ge 70 dX37_isPlace_65 (by decide) (fun c12 => ?_) (fun c12 => ?_)
        · replace hf := (if_pos (show 0 ≤ (p0 - (1 : Int32)) from c12)).symm.trans hf
          refine w_aload_n dX37_isPlace_70 rfl rfl ?_
          refine w_iload_n dX37_isPlace_71 rfl rfl ?_
          obtain ⟨_, b13, hf⟩ := Option.bind_eq_some_iff.mp hf
          refine x_cnI hf (e_stV (Yc := YX37_replacer) (ci := 36) (av := [.int (p0 - (1 : Int32))]) (st := []) dX37_isPlace_72 q5794 mX37_replacer rfl (k_ok_some b13).1 (k_ok_some b13).2) mX37_replacer.2.2.1 mX37_replacer.2.2.2.2.1 (Nat.le_of_ble_eq_true rfl) (Nat.le_of_ble_eq_true rfl) (fun q hq => pX37_replacer (by omega) hq) (fun q14 hf => ?_)
          refine w_if_ge 107 dX37_isPlace_75 (by decide) (fun c15 => ?_) (fun c15 => ?_)
          · replace hf := (if_pos (show 0 ≤ q14.1 from c15)).symm.trans hf
            exact (pX37_isPlace_b107 hd hf).to trivial
          · replace hf := (if_neg (show ¬ (0 ≤ q14.1) from c15)).symm.trans hf
            refine w_aload_n dX37_isPlace_78 rfl rfl ?_
            obtain ⟨a16, b17, hf⟩ := Option.bind_eq_some_iff.mp hf
            refine GX37_7 b17 dX37_isPlace_79 rfl ?_
            refine w_iload_n dX37_isPlace_82 rfl rfl ?_
            obtain ⟨x18, b19, hf⟩ := Option.bind_eq_some_iff.mp hf
            refine x_rI b19 dX37_isPlace_83 ?_
            refine w_if_eq 107 dX37_isPlace_84 (by decide) (fun c20 => ?_) (fun c20 => ?_)
            · replace hf := (if_pos (show x18 = 0 from c20)).symm.trans hf
              exact (pX37_isPlace_b107 hd hf).to trivial
            · replace hf := (if_neg (show ¬ (x18 = 0) from c20)).symm.trans hf
              refine w_aload_n dX37_isPlace_87 rfl rfl ?_
              obtain ⟨a21, b22, hf⟩ := Option.bind_eq_some_iff.mp hf
              refine GX37_7 b22 dX37_isPlace_88 rfl ?_
              refine w_iload_n dX37_isPlace_91 rfl rfl ?_
              obtain ⟨x23, b24, hf⟩ := Option.bind_eq_some_iff.mp hf
              refine x_rI b24 dX37_isPlace_92 ?_
              refine w_iconst dX37_isPlace_93 (v := 5) (by decide) ?_
              refine w_icmp_eq 107 dX37_isPlace_94 (by decide) (fun c25 => ?_) (fun c25 => ?_)
              · replace hf := (if_pos (show x23 = (5 : Int32) from c25)).symm.trans hf
                exact (pX37_isPlace_b107 hd hf).to trivial
              · replace hf := (if_neg (show ¬ (x23 = (5 : Int32)) from c25)).symm.trans hf
                refine w_aload_n dX37_isPlace_97 rfl rfl ?_
                obtain ⟨a26, b27, hf⟩ := Option.bind_eq_some_iff.mp hf
                refine GX37_7 b27 dX37_isPlace_98 rfl ?_
                refine w_iload_n dX37_isPlace_101 rfl rfl ?_
                obtain ⟨x28, b29, hf⟩ := Option.bind_eq_some_iff.mp hf
                refine x_rI b29 dX37_isPlace_102 ?_
                refine w_iconst dX37_isPlace_103 (v := 2) (by decide) ?_
                refine w_icmp_ne 111 dX37_isPlace_104 (by decide) (fun c30 => ?_) (fun c30 => ?_)
                · replace hf := (if_pos (show ¬ x28 = (2 : Int32) from c30)).symm.trans hf
                  refine w_iconst dX37_isPlace_111 (v := 0) (by decide) ?_
                  exact (pX37_isPlace_b112 hd hf).to trivial
                · replace hf := (if_neg (show ¬ (¬ x28 = (2 : Int32)) from (fun z => z c30))).symm.trans hf
                  exact (pX37_isPlace_b107 hd hf).to trivial
        · replace hf := (if_neg (show ¬ (0 ≤ (p0 - (1 : Int32))) from c12)).symm.trans hf
          refine w_iconst dX37_isPlace_68 (v := 0) (by decide) ?_
          cases hf
          exact w_iret dX37_isPlace_69 rfl rfl rfl
      replace hf := (if_neg c11).symm.trans hf
      by_cases c31 : x9 = (2 : Int32)
      · replace hf := (if_pos c31).symm.trans hf
        refine w_tableIn 155 dX37_isPlace_27 (by rw [c31]; decide) (by rw [c31]; decide) (by rw [c31]; rfl) (by decide) ?_
        refine w_iconst dX37_isPlace_155 (v := 0) (by decide) ?_
        cases hf
        exact w_iret dX37_isPlace_156 rfl rfl rfl
      replace hf := (if_neg c31).symm.trans hf
      by_cases c32 : x9 = (3 : Int32)
      · replace hf := (if_pos c32).symm.trans hf
        refine w_tableIn 113 dX37_isPlace_27 (by rw [c32]; decide) (by rw [c32]; decide) (by rw [c32]; rfl) (by decide) ?_
        refine w_iload_n dX37_isPlace_113 rfl rfl ?_
        refine w_aload_n dX37_isPlace_114 rfl rfl ?_
        obtain ⟨x33, b34, hf⟩ := Option.bind_eq_some_iff.mp hf
        refine GX37_119 b34 dX37_isPlace_115 rfl ?_
        refine w_icmp_ge 137 dX37_isPlace_118 (by decide) (fun c35 => ?_) (fun c35 => ?_)
        · replace hf := (if_pos (show x33 ≤ p0 from c35)).symm.trans hf
          exact (pX37_isPlace_b137 hd hf).to trivial
        · replace hf := (if_neg (show ¬ (x33 ≤ p0) from c35)).symm.trans hf
          refine w_aload_n dX37_isPlace_121 rfl rfl ?_
          obtain ⟨a36, b37, hf⟩ := Option.bind_eq_some_iff.mp hf
          refine GX37_7 b37 dX37_isPlace_122 rfl ?_
          refine w_iload_n dX37_isPlace_125 rfl rfl ?_
          refine w_iconst dX37_isPlace_126 (v := 1) (by decide) ?_
          refine w_iadd dX37_isPlace_127 ?_
          obtain ⟨x38, b39, hf⟩ := Option.bind_eq_some_iff.mp hf
          refine x_rI b39 dX37_isPlace_128 ?_
          refine w_iconst dX37_isPlace_129 (v := 1) (by decide) ?_
          refine w_icmp_ne 137 dX37_isPlace_130 (by decide) (fun c40 => ?_) (fun c40 => ?_)
          · replace hf := (if_pos (show ¬ x38 = (1 : Int32) from c40)).symm.trans hf
            exact (pX37_isPlace_b137 hd hf).to trivial
          · replace hf := (if_neg (show ¬ (¬ x38 = (1 : Int32)) from (fun z => z c40))).symm.trans hf
            refine w_iconst dX37_isPlace_133 (v := 1) (by decide) ?_
            refine w_goto 138 dX37_isPlace_134 (by decide) ?_
            exact (pX37_isPlace_b138 hd hf).to trivial
      replace hf := (if_neg c32).symm.trans hf
      by_cases c41 : x9 = (4 : Int32)
      · replace hf := (if_pos c41).symm.trans hf
        refine w_tableIn 139 dX37_isPlace_27 (by rw [c41]; decide) (by rw [c41]; decide) (by rw [c41]; rfl) (by decide) ?_
        refine w_iconst dX37_isPlace_139 (v := 1) (by decide) ?_
        cases hf
        exact w_iret dX37_isPlace_140 rfl rfl rfl
      replace hf := (if_neg c41).symm.trans hf
      by_cases c42 : x9 = (5 : Int32)
      · replace hf := (if_pos c42).symm.trans hf
        refine w_tableIn 141 dX37_isPlace_27 (by rw [c42]; decide) (by rw [c42]; decide) (by rw [c42]; rfl) (by decide) ?_
        refine w_aload_n dX37_isPlace_141 rfl rfl ?_
        obtain ⟨x43, b44, hf⟩ := Option.bind_eq_some_iff.mp hf
        refine GX37_122 b44 dX37_isPlace_142 rfl ?_
        refine w_iconst dX37_isPlace_145 (v := 1) (by decide) ?_
        refine w_icmp_le 153 dX37_isPlace_146 (by decide) (fun c45 => ?_) (fun c45 => ?_)
        · replace hf := (if_pos (show x43 ≤ (1 : Int32) from c45)).symm.trans hf
          refine w_iconst dX37_isPlace_153 (v := 0) (by decide) ?_
          exact (pX37_isPlace_b154 hd hf).to trivial
        · replace hf := (if_neg (show ¬ (x43 ≤ (1 : Int32)) from c45)).symm.trans hf
          refine w_iconst dX37_isPlace_149 (v := 1) (by decide) ?_
          refine w_goto 154 dX37_isPlace_150 (by decide) ?_
          exact (pX37_isPlace_b154 hd hf).to trivial
      replace hf := (if_neg c42).symm.trans hf
      refine w_tableOut 155 dX37_isPlace_27 (by have n0 := sw_ne c11 (by decide : (1 : Int32).toInt = 1); have n1 := sw_ne c31 (by decide : (2 : Int32).toInt = 2); have n2 := sw_ne c32 (by decide : (3 : Int32).toInt = 3); have n3 := sw_ne c41 (by decide : (4 : Int32).toInt = 4); have n4 := sw_ne c42 (by decide : (5 : Int32).toInt = 5); omega) (by decide) ?_
      refine w_iconst dX37_isPlace_155 (v := 0) (by decide) ?_
      cases hf
      exact w_iret dX37_isPlace_156 rfl rfl rfl
    · replace hf := (if_neg (show ¬ (¬ q5.1 = (10000 : Int32)) from (fun z => z c6))).symm.trans hf
      exact (pX37_isPlace_b19 hd hf).to trivial
abbrev cX37_isHyphen : ByteArray := prog_38_method_6_code
def yX37_isHyphen : MethodName := ⟨RX37, "isHyphen", "(I)Z"⟩
def YX37_isHyphen : eY := (yX37_isHyphen, cX37_isHyphen, 2, (Option.some FieldType.boolean), [])
theorem mX37_isHyphen : e_mv YX37_isHyphen RX37 1 := ⟨q5816, qs379, q5817, by decide, by decide +kernel, (e_sig (by decide +kernel))⟩
theorem dX37_isHyphen_0 : decode cX37_isHyphen 0 = .ok (.iload_n 1, 1) := dc_27 (by decide +kernel)
theorem dX37_isHyphen_1 : decode cX37_isHyphen 1 = .ok (.ifCond .lt 17, 3) := dc_155 (a := 0) (b := 17) (v := 17) (by decide +kernel)
theorem dX37_isHyphen_4 : decode cX37_isHyphen 4 = .ok (.aload_n 0, 1) := dc_42 (by decide +kernel)
theorem dX37_isHyphen_5 : decode cX37_isHyphen 5 = .ok (.getfield 7, 3) := dc_180 (a := 0) (b := 7) (n := 7) (by decide +kernel)
theorem dX37_isHyphen_8 : decode cX37_isHyphen 8 = .ok (.iload_n 1, 1) := dc_27 (by decide +kernel)
theorem dX37_isHyphen_9 : decode cX37_isHyphen 9 = .ok (.iaload, 1) := dc_46 (by decide +kernel)
theorem dX37_isHyphen_10 : decode cX37_isHyphen 10 = .ok (.iconst 5, 1) := dc_8 (by decide +kernel)
theorem dX37_isHyphen_11 : decode cX37_isHyphen 11 = .ok (.if_icmp .ne 7, 3) := dc_160 (a := 0) (b := 7) (v := 7) (by decide +kernel)
theorem dX37_isHyphen_14 : decode cX37_isHyphen 14 = .ok (.iconst 1, 1) := dc_4 (by decide +kernel)
theorem dX37_isHyphen_15 : decode cX37_isHyphen 15 = .ok (.goto 4, 3) := dc_167 (a := 0) (b := 4) (v := 4) (by decide +kernel)
theorem dX37_isHyphen_18 : decode cX37_isHyphen 18 = .ok (.iconst 0, 1) := dc_3 (by decide +kernel)
theorem dX37_isHyphen_19 : decode cX37_isHyphen 19 = .ok (.ireturn, 1) := dc_172 (by decide +kernel)
def fX37_isHyphen_b19 (s0 : Int32) (h : eH) : Option (Int32 × eH) :=
  z_r s0 (s0, h)
theorem pX37_isHyphen_b19 {w : eW} {d : Nat} (hd : 0 ≤ d) {s0 : Int32} {h : eH} {q} (hf : fX37_isHyphen_b19 s0 h = some q) : wp w d YX37_isHyphen 19 [none, none] [.int s0] h (e_is (e_rn c_I q)) := by
  unfold fX37_isHyphen_b19 at hf
  obtain ⟨b1, rfl⟩ := z_r_some hf
  exact w_iret dX37_isHyphen_19 rfl b1 rfl
def fX37_isHyphen_b18  (h : eH) : Option (Int32 × eH) :=
  fX37_isHyphen_b19 (0 : Int32) h
theorem pX37_isHyphen_b18 {w : eW} {d : Nat} (hd : 0 ≤ d)  {h : eH} {q} (hf : fX37_isHyphen_b18  h = some q) : wp w d YX37_isHyphen 18 [none, none] [] h (e_is (e_rn c_I q)) := by
  unfold fX37_isHyphen_b18 at hf
  refine w_iconst dX37_isHyphen_18 (v := 0) (by decide) ?_
  exact (pX37_isHyphen_b19 hd hf).to trivial
def fX37_isHyphen (this : Nat) (p0 : Int32) (h : eH) : Option (Int32 × eH) :=
  if p0 < 0 then
    fX37_isHyphen_b18 h
  else
    (g_A 36 h this 2).bind fun a2 =>
    (r_I 100 h a2 p0).bind fun x4 =>
    if ¬ x4 = (5 : Int32) then
      fX37_isHyphen_b18 h
    else
      fX37_isHyphen_b19 (1 : Int32) h
theorem pX37_isHyphen {w : eW} {d : Nat} (hd : 0 ≤ d) {this : Nat} {p0 : Int32} {h : eH} {q} (hf : fX37_isHyphen this p0 h = some q) : wm w d YX37_isHyphen [.ref this, .int p0] h (e_is (e_rn c_I q)) := by
  show wp w d YX37_isHyphen 0 [some (.ref this), some (.int p0)] [] h _
  unfold fX37_isHyphen at hf
  refine w_iload_n dX37_isHyphen_0 rfl rfl ?_
  refine w_if_lt 18 dX37_isHyphen_1 (by decide) (fun c1 => ?_) (fun c1 => ?_)
  · replace hf := (if_pos (show p0 < 0 from c1)).symm.trans hf
    exact (pX37_isHyphen_b18 hd hf).to trivial
  · replace hf := (if_neg (show ¬ (p0 < 0) from c1)).symm.trans hf
    refine w_aload_n dX37_isHyphen_4 rfl rfl ?_
    obtain ⟨a2, b3, hf⟩ := Option.bind_eq_some_iff.mp hf
    refine GX37_7 b3 dX37_isHyphen_5 rfl ?_
    refine w_iload_n dX37_isHyphen_8 rfl rfl ?_
    obtain ⟨x4, b5, hf⟩ := Option.bind_eq_some_iff.mp hf
    refine x_rI b5 dX37_isHyphen_9 ?_
    refine w_iconst dX37_isHyphen_10 (v := 5) (by decide) ?_
    refine w_icmp_ne 18 dX37_isHyphen_11 (by decide) (fun c6 => ?_) (fun c6 => ?_)
    · replace hf := (if_pos (show ¬ x4 = (5 : Int32) from c6)).symm.trans hf
      exact (pX37_isHyphen_b18 hd hf).to trivial
    · replace hf := (if_neg (show ¬ (¬ x4 = (5 : Int32)) from (fun z => z c6))).symm.trans hf
      refine w_iconst dX37_isHyphen_14 (v := 1) (by decide) ?_
      refine w_goto 19 dX37_isHyphen_15 (by decide) ?_
      exact (pX37_isHyphen_b19 hd hf).to trivial
abbrev cX37_isDropped : ByteArray := prog_38_method_9_code
def yX37_isDropped : MethodName := ⟨RX37, "isDropped", "(I)Z"⟩
def YX37_isDropped : eY := (yX37_isDropped, cX37_isDropped, 2, (Option.some FieldType.boolean), [])
theorem mX37_isDropped : e_mv YX37_isDropped RX37 1 := ⟨q5820, qs380, q5821, by decide, by decide +kernel, (e_sig (by decide +kernel))⟩
theorem dX37_isDropped_0 : decode cX37_isDropped 0 = .ok (.aload_n 0, 1) := dc_42 (by decide +kernel)
theorem dX37_isDropped_1 : decode cX37_isDropped 1 = .ok (.getfield 7, 3) := dc_180 (a := 0) (b := 7) (n := 7) (by decide +kernel)
theorem dX37_isDropped_4 : decode cX37_isDropped 4 = .ok (.iload_n 1, 1) := dc_27 (by decide +kernel)
theorem dX37_isDropped_5 : decode cX37_isDropped 5 = .ok (.iaload, 1) := dc_46 (by decide +kernel)
theorem dX37_isDropped_6 : decode cX37_isDropped 6 = .ok (.iconst 1, 1) := dc_4 (by decide +kernel)
theorem dX37_isDropped_7 : decode cX37_isDropped 7 = .ok (.if_icmp .eq 23, 3) := dc_159 (a := 0) (b := 23) (v := 23) (by decide +kernel)
theorem dX37_isDropped_10 : decode cX37_isDropped 10 = .ok (.aload_n 0, 1) := dc_42 (by decide +kernel)
theorem dX37_isDropped_11 : decode cX37_isDropped 11 = .ok (.getfield 7, 3) := dc_180 (a := 0) (b := 7) (n := 7) (by decide +kernel)
theorem dX37_isDropped_14 : decode cX37_isDropped 14 = .ok (.iload_n 1, 1) := dc_27 (by decide +kernel)
theorem dX37_isDropped_15 : decode cX37_isDropped 15 = .ok (.iaload, 1) := dc_46 (by decide +kernel)
theorem dX37_isDropped_16 : decode cX37_isDropped 16 = .ok (.iconst 3, 1) := dc_6 (by decide +kernel)
theorem dX37_isDropped_17 : decode cX37_isDropped 17 = .ok (.if_icmp .eq 13, 3) := dc_159 (a := 0) (b := 13) (v := 13) (by decide +kernel)
theorem dX37_isDropped_20 : decode cX37_isDropped 20 = .ok (.aload_n 0, 1) := dc_42 (by decide +kernel)
theorem dX37_isDropped_21 : decode cX37_isDropped 21 = .ok (.getfield 7, 3) := dc_180 (a := 0) (b := 7) (n := 7) (by decide +kernel)
theorem dX37_isDropped_24 : decode cX37_isDropped 24 = .ok (.iload_n 1, 1) := dc_27 (by decide +kernel)
theorem dX37_isDropped_25 : decode cX37_isDropped 25 = .ok (.iaload, 1) := dc_46 (by decide +kernel)
theorem dX37_isDropped_26 : decode cX37_isDropped 26 = .ok (.iconst 4, 1) := dc_7 (by decide +kernel)
theorem dX37_isDropped_27 : decode cX37_isDropped 27 = .ok (.if_icmp .ne 7, 3) := dc_160 (a := 0) (b := 7) (v := 7) (by decide +kernel)
theorem dX37_isDropped_30 : decode cX37_isDropped 30 = .ok (.iconst 1, 1) := dc_4 (by decide +kernel)
theorem dX37_isDropped_31 : decode cX37_isDropped 31 = .ok (.goto 4, 3) := dc_167 (a := 0) (b := 4) (v := 4) (by decide +kernel)
theorem dX37_isDropped_34 : decode cX37_isDropped 34 = .ok (.iconst 0, 1) := dc_3 (by decide +kernel)
theorem dX37_isDropped_35 : decode cX37_isDropped 35 = .ok (.ireturn, 1) := dc_172 (by decide +kernel)
def fX37_isDropped_b35 (s0 : Int32) (h : eH) : Option (Int32 × eH) :=
  z_r s0 (s0, h)
theorem pX37_isDropped_b35 {w : eW} {d : Nat} (hd : 0 ≤ d) {s0 : Int32} {h : eH} {q} (hf : fX37_isDropped_b35 s0 h = some q) : wp w d YX37_isDropped 35 [none, none] [.int s0] h (e_is (e_rn c_I q)) := by
  unfold fX37_isDropped_b35 at hf
  obtain ⟨b1, rfl⟩ := z_r_some hf
  exact w_iret dX37_isDropped_35 rfl b1 rfl
def fX37_isDropped_b30  (h : eH) : Option (Int32 × eH) :=
  fX37_isDropped_b35 (1 : Int32) h
theorem pX37_isDropped_b30 {w : eW} {d : Nat} (hd : 0 ≤ d)  {h : eH} {q} (hf : fX37_isDropped_b30  h = some q) : wp w d YX37_isDropped 30 [none, none] [] h (e_is (e_rn c_I q)) := by
  unfold fX37_isDropped_b30 at hf
  refine w_iconst dX37_isDropped_30 (v := 1) (by decide) ?_
  refine w_goto 35 dX37_isDropped_31 (by decide) ?_
  exact (pX37_isDropped_b35 hd hf).to trivial
def fX37_isDropped (this : Nat) (p0 : Int32) (h : eH) : Option (Int32 × eH) :=
  (g_A 36 h this 2).bind fun a1 =>
  (r_I 100 h a1 p0).bind fun x3 =>
  if x3 = (1 : Int32) then
    fX37_isDropped_b30 h
  else
    (g_A 36 h this 2).bind fun a6 =>
    (r_I 100 h a6 p0).bind fun x8 =>
    if x8 = (3 : Int32) then
      fX37_isDropped_b30 h
    else
      (g_A 36 h this 2).bind fun a11 =>
      (r_I 100 h a11 p0).bind fun x13 =>
      if ¬ x13 = (4 : Int32) then
        fX37_isDropped_b35 (0 : Int32) h
      else
        fX37_isDropped_b30 h
theorem pX37_isDropped {w : eW} {d : Nat} (hd : 0 ≤ d) {this : Nat} {p0 : Int32} {h : eH} {q} (hf : fX37_isDropped this p0 h = some q) : wm w d YX37_isDropped [.ref this, .int p0] h (e_is (e_rn c_I q)) := by
  show wp w d YX37_isDropped 0 [some (.ref this), some (.int p0)] [] h _
  unfold fX37_isDropped at hf
  refine w_aload_n dX37_isDropped_0 rfl rfl ?_
  obtain ⟨a1, b2, hf⟩ := Option.bind_eq_some_iff.mp hf
  refine GX37_7 b2 dX37_isDropped_1 rfl ?_
  refine w_iload_n dX37_isDropped_4 rfl rfl ?_
  obtain ⟨x3, b4, hf⟩ := Option.bind_eq_some_iff.mp hf
  refine x_rI b4 dX37_isDropped_5 ?_
  refine w_iconst dX37_isDropped_6 (v := 1) (by decide) ?_
  refine w_icmp_eq 30 dX37_isDropped_7 (by decide) (fun c5 => ?_) (fun c5 => ?_)
  · replace hf := (if_pos (show x3 = (1 : Int32) from c5)).symm.trans hf
    exact (pX37_isDropped_b30 hd hf).to trivial
  · replace hf := (if_neg (show ¬ (x3 = (1 : Int32)) from c5)).symm.trans hf
    refine w_aload_n dX37_isDropped_10 rfl rfl ?_
    obtain ⟨a6, b7, hf⟩ := Option.bind_eq_some_iff.mp hf
    refine GX37_7 b7 dX37_isDropped_11 rfl ?_
    refine w_iload_n dX37_isDropped_14 rfl rfl ?_
    obtain ⟨x8, b9, hf⟩ := Option.bind_eq_some_iff.mp hf
    refine x_rI b9 dX37_isDropped_15 ?_
    refine w_iconst dX37_isDropped_16 (v := 3) (by decide) ?_
    refine w_icmp_eq 30 dX37_isDropped_17 (by decide) (fun c10 => ?_) (fun c10 => ?_)
    · replace hf := (if_pos (show x8 = (3 : Int32) from c10)).symm.trans hf
      exact (pX37_isDropped_b30 hd hf).to trivial
    · replace hf := (if_neg (show ¬ (x8 = (3 : Int32)) from c10)).symm.trans hf
      refine w_aload_n dX37_isDropped_20 rfl rfl ?_
      obtain ⟨a11, b12, hf⟩ := Option.bind_eq_some_iff.mp hf
      refine GX37_7 b12 dX37_isDropped_21 rfl ?_
      refine w_iload_n dX37_isDropped_24 rfl rfl ?_
      obtain ⟨x13, b14, hf⟩ := Option.bind_eq_some_iff.mp hf
      refine x_rI b14 dX37_isDropped_25 ?_
      refine w_iconst dX37_isDropped_26 (v := 4) (by decide) ?_
      refine w_icmp_ne 34 dX37_isDropped_27 (by decide) (fun c15 => ?_) (fun c15 => ?_)
      · replace hf := (if_pos (show ¬ x13 = (4 : Int32) from c15)).symm.trans hf
        refine w_iconst dX37_isDropped_34 (v := 0) (by decide) ?_
        exact (pX37_isDropped_b35 hd hf).to trivial
      · replace hf := (if_neg (show ¬ (¬ x13 = (4 : Int32)) from (fun z => z c15))).symm.trans hf
        exact (pX37_isDropped_b30 hd hf).to trivial
abbrev cX37_firstOf : ByteArray := prog_38_method_10_code
def yX37_firstOf : MethodName := ⟨RX37, "firstOf", "(I)I"⟩
def YX37_firstOf : eY := (yX37_firstOf, cX37_firstOf, 4, (Option.some FieldType.int), [])
theorem mX37_firstOf : e_mv YX37_firstOf RX37 1 := ⟨q5812, qs378, q5813, by decide, by decide +kernel, (e_sig (by decide +kernel))⟩
theorem dX37_firstOf_0 : decode cX37_firstOf 0 = .ok (.iload_n 1, 1) := dc_27 (by decide +kernel)
theorem dX37_firstOf_1 : decode cX37_firstOf 1 = .ok (.ifCond .ge 5, 3) := dc_156 (a := 0) (b := 5) (v := 5) (by decide +kernel)
theorem dX37_firstOf_4 : decode cX37_firstOf 4 = .ok (.iconst 0, 1) := dc_3 (by decide +kernel)
theorem dX37_firstOf_5 : decode cX37_firstOf 5 = .ok (.ireturn, 1) := dc_172 (by decide +kernel)
theorem dX37_firstOf_6 : decode cX37_firstOf 6 = .ok (.aload_n 0, 1) := dc_42 (by decide +kernel)
theorem dX37_firstOf_7 : decode cX37_firstOf 7 = .ok (.iload_n 1, 1) := dc_27 (by decide +kernel)
theorem dX37_firstOf_8 : decode cX37_firstOf 8 = .ok (.invokevirtual 125, 3) := dc_182 (a := 0) (b := 125) (n := 125) (by decide +kernel)
theorem dX37_firstOf_11 : decode cX37_firstOf 11 = .ok (.ifCond .eq 16, 3) := dc_153 (a := 0) (b := 16) (v := 16) (by decide +kernel)
theorem dX37_firstOf_14 : decode cX37_firstOf 14 = .ok (.iload_n 1, 1) := dc_27 (by decide +kernel)
theorem dX37_firstOf_15 : decode cX37_firstOf 15 = .ok (.iconst 1, 1) := dc_4 (by decide +kernel)
theorem dX37_firstOf_16 : decode cX37_firstOf 16 = .ok (.iadd, 1) := dc_96 (by decide +kernel)
theorem dX37_firstOf_17 : decode cX37_firstOf 17 = .ok (.aload_n 0, 1) := dc_42 (by decide +kernel)
theorem dX37_firstOf_18 : decode cX37_firstOf 18 = .ok (.getfield 31, 3) := dc_180 (a := 0) (b := 31) (n := 31) (by decide +kernel)
theorem dX37_firstOf_21 : decode cX37_firstOf 21 = .ok (.iload_n 1, 1) := dc_27 (by decide +kernel)
theorem dX37_firstOf_22 : decode cX37_firstOf 22 = .ok (.iaload, 1) := dc_46 (by decide +kernel)
theorem dX37_firstOf_23 : decode cX37_firstOf 23 = .ok (.iadd, 1) := dc_96 (by decide +kernel)
theorem dX37_firstOf_24 : decode cX37_firstOf 24 = .ok (.goto 4, 3) := dc_167 (a := 0) (b := 4) (v := 4) (by decide +kernel)
theorem dX37_firstOf_27 : decode cX37_firstOf 27 = .ok (.iload_n 1, 1) := dc_27 (by decide +kernel)
theorem dX37_firstOf_28 : decode cX37_firstOf 28 = .ok (.istore_n 2, 1) := dc_61 (by decide +kernel)
theorem dX37_firstOf_29 : decode cX37_firstOf 29 = .ok (.aload_n 0, 1) := dc_42 (by decide +kernel)
theorem dX37_firstOf_30 : decode cX37_firstOf 30 = .ok (.iload_n 1, 1) := dc_27 (by decide +kernel)
theorem dX37_firstOf_31 : decode cX37_firstOf 31 = .ok (.invokevirtual 125, 3) := dc_182 (a := 0) (b := 125) (n := 125) (by decide +kernel)
theorem dX37_firstOf_34 : decode cX37_firstOf 34 = .ok (.ifCond .eq 14, 3) := dc_153 (a := 0) (b := 14) (v := 14) (by decide +kernel)
theorem dX37_firstOf_37 : decode cX37_firstOf 37 = .ok (.aload_n 0, 1) := dc_42 (by decide +kernel)
theorem dX37_firstOf_38 : decode cX37_firstOf 38 = .ok (.getfield 28, 3) := dc_180 (a := 0) (b := 28) (n := 28) (by decide +kernel)
theorem dX37_firstOf_41 : decode cX37_firstOf 41 = .ok (.iload_n 1, 1) := dc_27 (by decide +kernel)
theorem dX37_firstOf_42 : decode cX37_firstOf 42 = .ok (.iaload, 1) := dc_46 (by decide +kernel)
theorem dX37_firstOf_43 : decode cX37_firstOf 43 = .ok (.ldc 111, 2) := dc_18 (a := 111) (by decide +kernel)
theorem dX37_firstOf_45 : decode cX37_firstOf 45 = .ok (.if_icmp .ne 7, 3) := dc_160 (a := 0) (b := 7) (v := 7) (by decide +kernel)
theorem dX37_firstOf_48 : decode cX37_firstOf 48 = .ok (.iconst 1, 1) := dc_4 (by decide +kernel)
theorem dX37_firstOf_49 : decode cX37_firstOf 49 = .ok (.goto 4, 3) := dc_167 (a := 0) (b := 4) (v := 4) (by decide +kernel)
theorem dX37_firstOf_52 : decode cX37_firstOf 52 = .ok (.iconst 0, 1) := dc_3 (by decide +kernel)
theorem dX37_firstOf_53 : decode cX37_firstOf 53 = .ok (.istore_n 3, 1) := dc_62 (by decide +kernel)
theorem dX37_firstOf_54 : decode cX37_firstOf 54 = .ok (.iload_n 3, 1) := dc_29 (by decide +kernel)
theorem dX37_firstOf_55 : decode cX37_firstOf 55 = .ok (.ifCond .eq 25, 3) := dc_153 (a := 0) (b := 25) (v := 25) (by decide +kernel)
theorem dX37_firstOf_58 : decode cX37_firstOf 58 = .ok (.iload_n 2, 1) := dc_28 (by decide +kernel)
theorem dX37_firstOf_59 : decode cX37_firstOf 59 = .ok (.aload_n 0, 1) := dc_42 (by decide +kernel)
theorem dX37_firstOf_60 : decode cX37_firstOf 60 = .ok (.getfield 119, 3) := dc_180 (a := 0) (b := 119) (n := 119) (by decide +kernel)
theorem dX37_firstOf_63 : decode cX37_firstOf 63 = .ok (.if_icmp .gt 17, 3) := dc_163 (a := 0) (b := 17) (v := 17) (by decide +kernel)
theorem dX37_firstOf_66 : decode cX37_firstOf 66 = .ok (.aload_n 0, 1) := dc_42 (by decide +kernel)
theorem dX37_firstOf_67 : decode cX37_firstOf 67 = .ok (.iload_n 2, 1) := dc_28 (by decide +kernel)
theorem dX37_firstOf_68 : decode cX37_firstOf 68 = .ok (.invokevirtual 129, 3) := dc_182 (a := 0) (b := 129) (n := 129) (by decide +kernel)
theorem dX37_firstOf_71 : decode cX37_firstOf 71 = .ok (.ifCond .eq 9, 3) := dc_153 (a := 0) (b := 9) (v := 9) (by decide +kernel)
theorem dX37_firstOf_74 : decode cX37_firstOf 74 = .ok (.iinc 2 1, 3) := dc_132 (a := 2) (b := 1) (v := 1) (by decide +kernel)
theorem dX37_firstOf_77 : decode cX37_firstOf 77 = .ok (.goto (-23), 3) := dc_167 (a := 255) (b := 233) (v := -23) (by decide +kernel)
theorem dX37_firstOf_80 : decode cX37_firstOf 80 = .ok (.iload_n 2, 1) := dc_28 (by decide +kernel)
theorem dX37_firstOf_81 : decode cX37_firstOf 81 = .ok (.ireturn, 1) := dc_172 (by decide +kernel)
def fX37_firstOf_b80 (N : Nat) (l2 : Int32) (h : eH) : Option (Int32 × eH) :=
  some (l2, h)
theorem pX37_firstOf_b80 {w : eW} {d : Nat} (hd : 1 ≤ d + 1) {N : Nat} {l2 : Int32} {h : eH} {q} (hf : fX37_firstOf_b80 N l2 h = some q) : wp w (d + 1) YX37_firstOf 80 [none, none, some (.int l2), none] [] h (e_is (e_rn c_I q)) := by
  unfold fX37_firstOf_b80 at hf
  refine w_iload_n dX37_firstOf_80 rfl rfl ?_
  cases hf
  exact w_iret dX37_firstOf_81 rfl rfl rfl
def fX37_firstOf_b54 (N : Nat) : Nat → Nat → Int32 → Int32 → eH → Option (Int32 × eH)
  | 0, _, _, _, _ => none
  | n + 1, l0, l2, l3, h =>
    if l3 = 0 then
      fX37_firstOf_b80 N l2 h
    else
      (g_I 36 h l0 17).bind fun x2 =>
      if x2 < l2 then
        fX37_firstOf_b80 N l2 h
      else
        (k_ok 36 h l0).bind fun _ =>
        (fX37_isDropped l0 l2 h).bind fun q6 =>
        if q6.1 = 0 then
          fX37_firstOf_b80 N l2 q6.2
        else
          fX37_firstOf_b54 N n l0 (l2 + (1 : Int32)) l3 q6.2
theorem pX37_firstOf_b54 {w : eW} {d : Nat} (hd : 1 ≤ d + 1) {N : Nat} : ∀ (n : Nat) l0 l2 l3 h q, fX37_firstOf_b54 N n l0 l2 l3 h = some q → wp w (d + 1) YX37_firstOf 54 [some (.ref l0), none, some (.int l2), some (.int l3)] [] h (e_is (e_rn c_I q)) := by
  intro n
  induction n with
  | zero => intro l0 l2 l3 h q hf; simp [fX37_firstOf_b54] at hf
  | succ n ih =>
    intro l0 l2 l3 h q hf
    rw [fX37_firstOf_b54] at hf
    refine w_iload_n dX37_firstOf_54 rfl rfl ?_
    refine w_if_eq 80 dX37_firstOf_55 (by decide) (fun c1 => ?_) (fun c1 => ?_)
    · replace hf := (if_pos (show l3 = 0 from c1)).symm.trans hf
      exact (pX37_firstOf_b80 hd hf).to ⟨rfl, trivial⟩
    · replace hf := (if_neg (show ¬ (l3 = 0) from c1)).symm.trans hf
      refine w_iload_n dX37_firstOf_58 rfl rfl ?_
      refine w_aload_n dX37_firstOf_59 rfl rfl ?_
      obtain ⟨x2, b3, hf⟩ := Option.bind_eq_some_iff.mp hf
      refine GX37_119 b3 dX37_firstOf_60 rfl ?_
      refine w_icmp_gt 80 dX37_firstOf_63 (by decide) (fun c4 => ?_) (fun c4 => ?_)
      · replace hf := (if_pos (show x2 < l2 from c4)).symm.trans hf
        exact (pX37_firstOf_b80 hd hf).to ⟨rfl, trivial⟩
      · replace hf := (if_neg (show ¬ (x2 < l2) from c4)).symm.trans hf
        refine w_aload_n dX37_firstOf_66 rfl rfl ?_
        refine w_iload_n dX37_firstOf_67 rfl rfl ?_
        obtain ⟨_, b5, hf⟩ := Option.bind_eq_some_iff.mp hf
        refine x_cnI hf (e_stV (Yc := YX37_isDropped) (ci := 36) (av := [.int l2]) (st := []) dX37_firstOf_68 q5818 mX37_isDropped rfl (k_ok_some b5).1 (k_ok_some b5).2) mX37_isDropped.2.2.1 mX37_isDropped.2.2.2.2.1 (Nat.le_of_ble_eq_true rfl) (Nat.le_of_ble_eq_true rfl) (fun q hq => pX37_isDropped (by omega) hq) (fun q6 hf => ?_)
        refine w_if_eq 80 dX37_firstOf_71 (by decide) (fun c7 => ?_) (fun c7 => ?_)
        · replace hf := (if_pos (show q6.1 = 0 from c7)).symm.trans hf
          exact (pX37_firstOf_b80 hd hf).to ⟨rfl, trivial⟩
        · replace hf := (if_neg (show ¬ (q6.1 = 0) from c7)).symm.trans hf
          refine w_iinc dX37_firstOf_74 (v := (l2 + (1 : Int32))) rfl rfl (by decide) (ls' := [some (.ref l0), none, some (.int (l2 + (1 : Int32))), some (.int l3)]) rfl ?_
          refine w_goto 54 dX37_firstOf_77 (by decide) ?_
          exact (ih _ _ _ _ _ hf).to ⟨rfl, rfl, rfl, trivial⟩
def fX37_firstOf_b53 (N : Nat) (l0 : Nat) (l2 : Int32) (s0 : Int32) (h : eH) : Option (Int32 × eH) :=
  fX37_firstOf_b54 N N l0 l2 s0 h
theorem pX37_firstOf_b53 {w : eW} {d : Nat} (hd : 1 ≤ d + 1) {N : Nat} {l0 : Nat} {l2 : Int32} {s0 : Int32} {h : eH} {q} (hf : fX37_firstOf_b53 N l0 l2 s0 h = some q) : wp w (d + 1) YX37_firstOf 53 [some (.ref l0), none, some (.int l2), none] [.int s0] h (e_is (e_rn c_I q)) := by
  unfold fX37_firstOf_b53 at hf
  refine w_istore_n dX37_firstOf_53 rfl (by decide) (ls' := [some (.ref l0), none, some (.int l2), some (.int s0)]) rfl ?_
  exact (pX37_firstOf_b54 hd N _ _ _ _ _ hf).to ⟨rfl, rfl, rfl, trivial⟩
def fX37_firstOf_b48 (N : Nat) (l0 : Nat) (l2 : Int32) (h : eH) : Option (Int32 × eH) :=
  fX37_firstOf_b53 N l0 l2 (1 : Int32) h
theorem pX37_firstOf_b48 {w : eW} {d : Nat} (hd : 1 ≤ d + 1) {N : Nat} {l0 : Nat} {l2 : Int32} {h : eH} {q} (hf : fX37_firstOf_b48 N l0 l2 h = some q) : wp w (d + 1) YX37_firstOf 48 [some (.ref l0), none, some (.int l2), none] [] h (e_is (e_rn c_I q)) := by
  unfold fX37_firstOf_b48 at hf
  refine w_iconst dX37_firstOf_48 (v := 1) (by decide) ?_
  refine w_goto 53 dX37_firstOf_49 (by decide) ?_
  exact (pX37_firstOf_b53 hd hf).to ⟨rfl, rfl, trivial⟩
def fX37_firstOf_b28 (N : Nat) (l0 : Nat) (l1 : Int32) (s0 : Int32) (h : eH) : Option (Int32 × eH) :=
  (k_ok 36 h l0).bind fun _ =>
  (fX37_isHyphen l0 l1 h).bind fun q2 =>
  if q2.1 = 0 then
    fX37_firstOf_b48 N l0 s0 q2.2
  else
    (g_A 36 q2.2 l0 8).bind fun a4 =>
    (r_I 100 q2.2 a4 l1).bind fun x6 =>
    if ¬ x6 = (-2147483648 : Int32) then
      fX37_firstOf_b53 N l0 s0 (0 : Int32) q2.2
    else
      fX37_firstOf_b48 N l0 s0 q2.2
theorem pX37_firstOf_b28 {w : eW} {d : Nat} (hd : 1 ≤ d + 1) {N : Nat} {l0 : Nat} {l1 : Int32} {s0 : Int32} {h : eH} {q} (hf : fX37_firstOf_b28 N l0 l1 s0 h = some q) : wp w (d + 1) YX37_firstOf 28 [some (.ref l0), some (.int l1), none, none] [.int s0] h (e_is (e_rn c_I q)) := by
  unfold fX37_firstOf_b28 at hf
  refine w_istore_n dX37_firstOf_28 rfl (by decide) (ls' := [some (.ref l0), some (.int l1), some (.int s0), none]) rfl ?_
  refine w_aload_n dX37_firstOf_29 rfl rfl ?_
  refine w_iload_n dX37_firstOf_30 rfl rfl ?_
  obtain ⟨_, b1, hf⟩ := Option.bind_eq_some_iff.mp hf
  refine x_cnI hf (e_stV (Yc := YX37_isHyphen) (ci := 36) (av := [.int l1]) (st := []) dX37_firstOf_31 q5814 mX37_isHyphen rfl (k_ok_some b1).1 (k_ok_some b1).2) mX37_isHyphen.2.2.1 mX37_isHyphen.2.2.2.2.1 (Nat.le_of_ble_eq_true rfl) (Nat.le_of_ble_eq_true rfl) (fun q hq => pX37_isHyphen (by omega) hq) (fun q2 hf => ?_)
  refine w_if_eq 48 dX37_firstOf_34 (by decide) (fun c3 => ?_) (fun c3 => ?_)
  · replace hf := (if_pos (show q2.1 = 0 from c3)).symm.trans hf
    exact (pX37_firstOf_b48 hd hf).to ⟨rfl, rfl, trivial⟩
  · replace hf := (if_neg (show ¬ (q2.1 = 0) from c3)).symm.trans hf
    refine w_aload_n dX37_firstOf_37 rfl rfl ?_
    obtain ⟨a4, b5, hf⟩ := Option.bind_eq_some_iff.mp hf
    refine GX37_28 b5 dX37_firstOf_38 rfl ?_
    refine w_iload_n dX37_firstOf_41 rfl rfl ?_
    obtain ⟨x6, b7, hf⟩ := Option.bind_eq_some_iff.mp hf
    refine x_rI b7 dX37_firstOf_42 ?_
    refine w_ldc dX37_firstOf_43 q5775 ?_
    refine w_icmp_ne 52 dX37_firstOf_45 (by decide) (fun c8 => ?_) (fun c8 => ?_)
    · replace hf := (if_pos (show ¬ x6 = (-2147483648 : Int32) from c8)).symm.trans hf
      refine w_iconst dX37_firstOf_52 (v := 0) (by decide) ?_
      exact (pX37_firstOf_b53 hd hf).to ⟨rfl, rfl, trivial⟩
    · replace hf := (if_neg (show ¬ (¬ x6 = (-2147483648 : Int32)) from (fun z => z c8))).symm.trans hf
      exact (pX37_firstOf_b48 hd hf).to ⟨rfl, rfl, trivial⟩
def fX37_firstOf (N : Nat) (this : Nat) (p0 : Int32) (h : eH) : Option (Int32 × eH) :=
  if 0 ≤ p0 then
    (k_ok 36 h this).bind fun _ =>
    (fX37_isHyphen this p0 h).bind fun q3 =>
    if q3.1 = 0 then
      fX37_firstOf_b28 N this p0 p0 q3.2
    else
      (g_A 36 q3.2 this 9).bind fun a5 =>
      (r_I 100 q3.2 a5 p0).bind fun x7 =>
      fX37_firstOf_b28 N this p0 ((p0 + (1 : Int32)) + x7) q3.2
  else
    some ((0 : Int32), h)
theorem pX37_firstOf {w : eW} {d : Nat} (hd : 1 ≤ d) {N : Nat} {this : Nat} {p0 : Int32} {h : eH} {q} (hf : fX37_firstOf N this p0 h = some q) : wm w d YX37_firstOf [.ref this, .int p0] h (e_is (e_rn c_I q)) := by
  obtain ⟨d, rfl⟩ : ∃ e, d = e + 1 := ⟨d - 1, by omega⟩
  show wp w (d + 1) YX37_firstOf 0 [some (.ref this), some (.int p0), none, none] [] h _
  unfold fX37_firstOf at hf
  refine w_iload_n dX37_firstOf_0 rfl rfl ?_
  refine w_if_ge 6 dX37_firstOf_1 (by decide) (fun c1 => ?_) (fun c1 => ?_)
  · replace hf := (if_pos (show 0 ≤ p0 from c1)).symm.trans hf
    refine w_aload_n dX37_firstOf_6 rfl rfl ?_
    refine w_iload_n dX37_firstOf_7 rfl rfl ?_
    obtain ⟨_, b2, hf⟩ := Option.bind_eq_some_iff.mp hf
    refine x_cnI hf (e_stV (Yc := YX37_isHyphen) (ci := 36) (av := [.int p0]) (st := []) dX37_firstOf_8 q5814 mX37_isHyphen rfl (k_ok_some b2).1 (k_ok_some b2).2) mX37_isHyphen.2.2.1 mX37_isHyphen.2.2.2.2.1 (Nat.le_of_ble_eq_true rfl) (Nat.le_of_ble_eq_true rfl) (fun q hq => pX37_isHyphen (by omega) hq) (fun q3 hf => ?_)
    refine w_if_eq 27 dX37_firstOf_11 (by decide) (fun c4 => ?_) (fun c4 => ?_)
    · replace hf := (if_pos (show q3.1 = 0 from c4)).symm.trans hf
      refine w_iload_n dX37_firstOf_27 rfl rfl ?_
      exact (pX37_firstOf_b28 hd hf).to ⟨rfl, rfl, trivial⟩
    · replace hf := (if_neg (show ¬ (q3.1 = 0) from c4)).symm.trans hf
      refine w_iload_n dX37_firstOf_14 rfl rfl ?_
      refine w_iconst dX37_firstOf_15 (v := 1) (by decide) ?_
      refine w_iadd dX37_firstOf_16 ?_
      refine w_aload_n dX37_firstOf_17 rfl rfl ?_
      obtain ⟨a5, b6, hf⟩ := Option.bind_eq_some_iff.mp hf
      refine GX37_31 b6 dX37_firstOf_18 rfl ?_
      refine w_iload_n dX37_firstOf_21 rfl rfl ?_
      obtain ⟨x7, b8, hf⟩ := Option.bind_eq_some_iff.mp hf
      refine x_rI b8 dX37_firstOf_22 ?_
      refine w_iadd dX37_firstOf_23 ?_
      refine w_goto 28 dX37_firstOf_24 (by decide) ?_
      exact (pX37_firstOf_b28 hd hf).to ⟨rfl, rfl, trivial⟩
  · replace hf := (if_neg (show ¬ (0 ≤ p0) from c1)).symm.trans hf
    refine w_iconst dX37_firstOf_4 (v := 0) (by decide) ?_
    cases hf
    exact w_iret dX37_firstOf_5 rfl rfl rfl
abbrev cX37_measure : ByteArray := prog_38_method_12_code
def yX37_measure : MethodName := ⟨RX37, "measure", "(II)V"⟩
def YX37_measure : eY := (yX37_measure, cX37_measure, 5, none, [])
theorem mX37_measure : e_mv YX37_measure RX37 2 := ⟨q5808, qs377, q5809, by decide, by decide +kernel, (e_sig (by decide +kernel))⟩
theorem dX37_measure_0 : decode cX37_measure 0 = .ok (.aload_n 0, 1) := dc_42 (by decide +kernel)
theorem dX37_measure_1 : decode cX37_measure 1 = .ok (.aload_n 0, 1) := dc_42 (by decide +kernel)
theorem dX37_measure_2 : decode cX37_measure 2 = .ok (.iload_n 1, 1) := dc_27 (by decide +kernel)
theorem dX37_measure_3 : decode cX37_measure 3 = .ok (.invokevirtual 132, 3) := dc_182 (a := 0) (b := 132) (n := 132) (by decide +kernel)
theorem dX37_measure_6 : decode cX37_measure 6 = .ok (.putfield 135, 3) := dc_181 (a := 0) (b := 135) (n := 135) (by decide +kernel)
theorem dX37_measure_9 : decode cX37_measure 9 = .ok (.iload_n 2, 1) := dc_28 (by decide +kernel)
theorem dX37_measure_10 : decode cX37_measure 10 = .ok (.aload_n 0, 1) := dc_42 (by decide +kernel)
theorem dX37_measure_11 : decode cX37_measure 11 = .ok (.getfield 135, 3) := dc_180 (a := 0) (b := 135) (n := 135) (by decide +kernel)
theorem dX37_measure_14 : decode cX37_measure 14 = .ok (.if_icmp .le 7, 3) := dc_164 (a := 0) (b := 7) (v := 7) (by decide +kernel)
theorem dX37_measure_17 : decode cX37_measure 17 = .ok (.iload_n 2, 1) := dc_28 (by decide +kernel)
theorem dX37_measure_18 : decode cX37_measure 18 = .ok (.goto 7, 3) := dc_167 (a := 0) (b := 7) (v := 7) (by decide +kernel)
theorem dX37_measure_21 : decode cX37_measure 21 = .ok (.aload_n 0, 1) := dc_42 (by decide +kernel)
theorem dX37_measure_22 : decode cX37_measure 22 = .ok (.getfield 135, 3) := dc_180 (a := 0) (b := 135) (n := 135) (by decide +kernel)
theorem dX37_measure_25 : decode cX37_measure 25 = .ok (.istore_n 3, 1) := dc_62 (by decide +kernel)
theorem dX37_measure_26 : decode cX37_measure 26 = .ok (.aload_n 0, 1) := dc_42 (by decide +kernel)
theorem dX37_measure_27 : decode cX37_measure 27 = .ok (.aload_n 0, 1) := dc_42 (by decide +kernel)
theorem dX37_measure_28 : decode cX37_measure 28 = .ok (.getfield 37, 3) := dc_180 (a := 0) (b := 37) (n := 37) (by decide +kernel)
theorem dX37_measure_31 : decode cX37_measure 31 = .ok (.iconst 0, 1) := dc_3 (by decide +kernel)
theorem dX37_measure_32 : decode cX37_measure 32 = .ok (.iaload, 1) := dc_46 (by decide +kernel)
theorem dX37_measure_33 : decode cX37_measure 33 = .ok (.aload_n 0, 1) := dc_42 (by decide +kernel)
theorem dX37_measure_34 : decode cX37_measure 34 = .ok (.getfield 37, 3) := dc_180 (a := 0) (b := 37) (n := 37) (by decide +kernel)
theorem dX37_measure_37 : decode cX37_measure 37 = .ok (.iconst 1, 1) := dc_4 (by decide +kernel)
theorem dX37_measure_38 : decode cX37_measure 38 = .ok (.iaload, 1) := dc_46 (by decide +kernel)
theorem dX37_measure_39 : decode cX37_measure 39 = .ok (.iadd, 1) := dc_96 (by decide +kernel)
theorem dX37_measure_40 : decode cX37_measure 40 = .ok (.aload_n 0, 1) := dc_42 (by decide +kernel)
theorem dX37_measure_41 : decode cX37_measure 41 = .ok (.getfield 90, 3) := dc_180 (a := 0) (b := 90) (n := 90) (by decide +kernel)
theorem dX37_measure_44 : decode cX37_measure 44 = .ok (.iload_n 3, 1) := dc_29 (by decide +kernel)
theorem dX37_measure_45 : decode cX37_measure 45 = .ok (.iaload, 1) := dc_46 (by decide +kernel)
theorem dX37_measure_46 : decode cX37_measure 46 = .ok (.iadd, 1) := dc_96 (by decide +kernel)
theorem dX37_measure_47 : decode cX37_measure 47 = .ok (.aload_n 0, 1) := dc_42 (by decide +kernel)
theorem dX37_measure_48 : decode cX37_measure 48 = .ok (.getfield 90, 3) := dc_180 (a := 0) (b := 90) (n := 90) (by decide +kernel)
theorem dX37_measure_51 : decode cX37_measure 51 = .ok (.aload_n 0, 1) := dc_42 (by decide +kernel)
theorem dX37_measure_52 : decode cX37_measure 52 = .ok (.getfield 135, 3) := dc_180 (a := 0) (b := 135) (n := 135) (by decide +kernel)
theorem dX37_measure_55 : decode cX37_measure 55 = .ok (.iaload, 1) := dc_46 (by decide +kernel)
theorem dX37_measure_56 : decode cX37_measure 56 = .ok (.isub, 1) := dc_100 (by decide +kernel)
theorem dX37_measure_57 : decode cX37_measure 57 = .ok (.putfield 138, 3) := dc_181 (a := 0) (b := 138) (n := 138) (by decide +kernel)
theorem dX37_measure_60 : decode cX37_measure 60 = .ok (.aload_n 0, 1) := dc_42 (by decide +kernel)
theorem dX37_measure_61 : decode cX37_measure 61 = .ok (.aload_n 0, 1) := dc_42 (by decide +kernel)
theorem dX37_measure_62 : decode cX37_measure 62 = .ok (.getfield 46, 3) := dc_180 (a := 0) (b := 46) (n := 46) (by decide +kernel)
theorem dX37_measure_65 : decode cX37_measure 65 = .ok (.iconst 0, 1) := dc_3 (by decide +kernel)
theorem dX37_measure_66 : decode cX37_measure 66 = .ok (.iaload, 1) := dc_46 (by decide +kernel)
theorem dX37_measure_67 : decode cX37_measure 67 = .ok (.aload_n 0, 1) := dc_42 (by decide +kernel)
theorem dX37_measure_68 : decode cX37_measure 68 = .ok (.getfield 46, 3) := dc_180 (a := 0) (b := 46) (n := 46) (by decide +kernel)
theorem dX37_measure_71 : decode cX37_measure 71 = .ok (.iconst 1, 1) := dc_4 (by decide +kernel)
theorem dX37_measure_72 : decode cX37_measure 72 = .ok (.iaload, 1) := dc_46 (by decide +kernel)
theorem dX37_measure_73 : decode cX37_measure 73 = .ok (.iadd, 1) := dc_96 (by decide +kernel)
theorem dX37_measure_74 : decode cX37_measure 74 = .ok (.aload_n 0, 1) := dc_42 (by decide +kernel)
theorem dX37_measure_75 : decode cX37_measure 75 = .ok (.getfield 96, 3) := dc_180 (a := 0) (b := 96) (n := 96) (by decide +kernel)
theorem dX37_measure_78 : decode cX37_measure 78 = .ok (.iload_n 3, 1) := dc_29 (by decide +kernel)
theorem dX37_measure_79 : decode cX37_measure 79 = .ok (.iaload, 1) := dc_46 (by decide +kernel)
theorem dX37_measure_80 : decode cX37_measure 80 = .ok (.iadd, 1) := dc_96 (by decide +kernel)
theorem dX37_measure_81 : decode cX37_measure 81 = .ok (.aload_n 0, 1) := dc_42 (by decide +kernel)
theorem dX37_measure_82 : decode cX37_measure 82 = .ok (.getfield 96, 3) := dc_180 (a := 0) (b := 96) (n := 96) (by decide +kernel)
theorem dX37_measure_85 : decode cX37_measure 85 = .ok (.aload_n 0, 1) := dc_42 (by decide +kernel)
theorem dX37_measure_86 : decode cX37_measure 86 = .ok (.getfield 135, 3) := dc_180 (a := 0) (b := 135) (n := 135) (by decide +kernel)
theorem dX37_measure_89 : decode cX37_measure 89 = .ok (.iaload, 1) := dc_46 (by decide +kernel)
theorem dX37_measure_90 : decode cX37_measure 90 = .ok (.isub, 1) := dc_100 (by decide +kernel)
theorem dX37_measure_91 : decode cX37_measure 91 = .ok (.putfield 141, 3) := dc_181 (a := 0) (b := 141) (n := 141) (by decide +kernel)
theorem dX37_measure_94 : decode cX37_measure 94 = .ok (.iconst 0, 1) := dc_3 (by decide +kernel)
theorem dX37_measure_95 : decode cX37_measure 95 = .ok (.istore 4, 2) := dc_54 (a := 4) (by decide +kernel)
theorem dX37_measure_97 : decode cX37_measure 97 = .ok (.iload 4, 2) := dc_21 (a := 4) (by decide +kernel)
theorem dX37_measure_99 : decode cX37_measure 99 = .ok (.iconst 4, 1) := dc_7 (by decide +kernel)
theorem dX37_measure_100 : decode cX37_measure 100 = .ok (.if_icmp .ge 56, 3) := dc_162 (a := 0) (b := 56) (v := 56) (by decide +kernel)
theorem dX37_measure_103 : decode cX37_measure 103 = .ok (.aload_n 0, 1) := dc_42 (by decide +kernel)
theorem dX37_measure_104 : decode cX37_measure 104 = .ok (.getfield 69, 3) := dc_180 (a := 0) (b := 69) (n := 69) (by decide +kernel)
theorem dX37_measure_107 : decode cX37_measure 107 = .ok (.iload 4, 2) := dc_21 (a := 4) (by decide +kernel)
theorem dX37_measure_109 : decode cX37_measure 109 = .ok (.aload_n 0, 1) := dc_42 (by decide +kernel)
theorem dX37_measure_110 : decode cX37_measure 110 = .ok (.getfield 93, 3) := dc_180 (a := 0) (b := 93) (n := 93) (by decide +kernel)
theorem dX37_measure_113 : decode cX37_measure 113 = .ok (.iconst 4, 1) := dc_7 (by decide +kernel)
theorem dX37_measure_114 : decode cX37_measure 114 = .ok (.iload_n 3, 1) := dc_29 (by decide +kernel)
theorem dX37_measure_115 : decode cX37_measure 115 = .ok (.imul, 1) := dc_104 (by decide +kernel)
theorem dX37_measure_116 : decode cX37_measure 116 = .ok (.iload 4, 2) := dc_21 (a := 4) (by decide +kernel)
theorem dX37_measure_118 : decode cX37_measure 118 = .ok (.iadd, 1) := dc_96 (by decide +kernel)
theorem dX37_measure_119 : decode cX37_measure 119 = .ok (.iaload, 1) := dc_46 (by decide +kernel)
theorem dX37_measure_120 : decode cX37_measure 120 = .ok (.aload_n 0, 1) := dc_42 (by decide +kernel)
theorem dX37_measure_121 : decode cX37_measure 121 = .ok (.getfield 93, 3) := dc_180 (a := 0) (b := 93) (n := 93) (by decide +kernel)
theorem dX37_measure_124 : decode cX37_measure 124 = .ok (.iconst 4, 1) := dc_7 (by decide +kernel)
theorem dX37_measure_125 : decode cX37_measure 125 = .ok (.aload_n 0, 1) := dc_42 (by decide +kernel)
theorem dX37_measure_126 : decode cX37_measure 126 = .ok (.getfield 135, 3) := dc_180 (a := 0) (b := 135) (n := 135) (by decide +kernel)
theorem dX37_measure_129 : decode cX37_measure 129 = .ok (.imul, 1) := dc_104 (by decide +kernel)
theorem dX37_measure_130 : decode cX37_measure 130 = .ok (.iload 4, 2) := dc_21 (a := 4) (by decide +kernel)
theorem dX37_measure_132 : decode cX37_measure 132 = .ok (.iadd, 1) := dc_96 (by decide +kernel)
theorem dX37_measure_133 : decode cX37_measure 133 = .ok (.iaload, 1) := dc_46 (by decide +kernel)
theorem dX37_measure_134 : decode cX37_measure 134 = .ok (.isub, 1) := dc_100 (by decide +kernel)
theorem dX37_measure_135 : decode cX37_measure 135 = .ok (.iload 4, 2) := dc_21 (a := 4) (by decide +kernel)
theorem dX37_measure_137 : decode cX37_measure 137 = .ok (.ifCond .ne 10, 3) := dc_154 (a := 0) (b := 10) (v := 10) (by decide +kernel)
theorem dX37_measure_140 : decode cX37_measure 140 = .ok (.aload_n 0, 1) := dc_42 (by decide +kernel)
theorem dX37_measure_141 : decode cX37_measure 141 = .ok (.getfield 144, 3) := dc_180 (a := 0) (b := 144) (n := 144) (by decide +kernel)
theorem dX37_measure_144 : decode cX37_measure 144 = .ok (.goto 4, 3) := dc_167 (a := 0) (b := 4) (v := 4) (by decide +kernel)
theorem dX37_measure_147 : decode cX37_measure 147 = .ok (.iconst 0, 1) := dc_3 (by decide +kernel)
theorem dX37_measure_148 : decode cX37_measure 148 = .ok (.iadd, 1) := dc_96 (by decide +kernel)
theorem dX37_measure_149 : decode cX37_measure 149 = .ok (.iastore, 1) := dc_79 (by decide +kernel)
theorem dX37_measure_150 : decode cX37_measure 150 = .ok (.iinc 4 1, 3) := dc_132 (a := 4) (b := 1) (v := 1) (by decide +kernel)
theorem dX37_measure_153 : decode cX37_measure 153 = .ok (.goto (-56), 3) := dc_167 (a := 255) (b := 200) (v := -56) (by decide +kernel)
theorem dX37_measure_156 : decode cX37_measure 156 = .ok (.aload_n 0, 1) := dc_42 (by decide +kernel)
theorem dX37_measure_157 : decode cX37_measure 157 = .ok (.getfield 69, 3) := dc_180 (a := 0) (b := 69) (n := 69) (by decide +kernel)
theorem dX37_measure_160 : decode cX37_measure 160 = .ok (.aload_n 0, 1) := dc_42 (by decide +kernel)
theorem dX37_measure_161 : decode cX37_measure 161 = .ok (.getfield 43, 3) := dc_180 (a := 0) (b := 43) (n := 43) (by decide +kernel)
theorem dX37_measure_164 : decode cX37_measure 164 = .ok (.iconst 0, 1) := dc_3 (by decide +kernel)
theorem dX37_measure_165 : decode cX37_measure 165 = .ok (.iaload, 1) := dc_46 (by decide +kernel)
theorem dX37_measure_166 : decode cX37_measure 166 = .ok (.aload_n 0, 1) := dc_42 (by decide +kernel)
theorem dX37_measure_167 : decode cX37_measure 167 = .ok (.getfield 69, 3) := dc_180 (a := 0) (b := 69) (n := 69) (by decide +kernel)
theorem dX37_measure_170 : decode cX37_measure 170 = .ok (.aload_n 0, 1) := dc_42 (by decide +kernel)
theorem dX37_measure_171 : decode cX37_measure 171 = .ok (.getfield 43, 3) := dc_180 (a := 0) (b := 43) (n := 43) (by decide +kernel)
theorem dX37_measure_174 : decode cX37_measure 174 = .ok (.iconst 0, 1) := dc_3 (by decide +kernel)
theorem dX37_measure_175 : decode cX37_measure 175 = .ok (.iaload, 1) := dc_46 (by decide +kernel)
theorem dX37_measure_176 : decode cX37_measure 176 = .ok (.iaload, 1) := dc_46 (by decide +kernel)
theorem dX37_measure_177 : decode cX37_measure 177 = .ok (.aload_n 0, 1) := dc_42 (by decide +kernel)
theorem dX37_measure_178 : decode cX37_measure 178 = .ok (.getfield 40, 3) := dc_180 (a := 0) (b := 40) (n := 40) (by decide +kernel)
theorem dX37_measure_181 : decode cX37_measure 181 = .ok (.iconst 0, 1) := dc_3 (by decide +kernel)
theorem dX37_measure_182 : decode cX37_measure 182 = .ok (.iaload, 1) := dc_46 (by decide +kernel)
theorem dX37_measure_183 : decode cX37_measure 183 = .ok (.iadd, 1) := dc_96 (by decide +kernel)
theorem dX37_measure_184 : decode cX37_measure 184 = .ok (.iastore, 1) := dc_79 (by decide +kernel)
theorem dX37_measure_185 : decode cX37_measure 185 = .ok (.aload_n 0, 1) := dc_42 (by decide +kernel)
theorem dX37_measure_186 : decode cX37_measure 186 = .ok (.getfield 69, 3) := dc_180 (a := 0) (b := 69) (n := 69) (by decide +kernel)
theorem dX37_measure_189 : decode cX37_measure 189 = .ok (.aload_n 0, 1) := dc_42 (by decide +kernel)
theorem dX37_measure_190 : decode cX37_measure 190 = .ok (.getfield 43, 3) := dc_180 (a := 0) (b := 43) (n := 43) (by decide +kernel)
theorem dX37_measure_193 : decode cX37_measure 193 = .ok (.iconst 1, 1) := dc_4 (by decide +kernel)
theorem dX37_measure_194 : decode cX37_measure 194 = .ok (.iaload, 1) := dc_46 (by decide +kernel)
theorem dX37_measure_195 : decode cX37_measure 195 = .ok (.aload_n 0, 1) := dc_42 (by decide +kernel)
theorem dX37_measure_196 : decode cX37_measure 196 = .ok (.getfield 69, 3) := dc_180 (a := 0) (b := 69) (n := 69) (by decide +kernel)
theorem dX37_measure_199 : decode cX37_measure 199 = .ok (.aload_n 0, 1) := dc_42 (by decide +kernel)
theorem dX37_measure_200 : decode cX37_measure 200 = .ok (.getfield 43, 3) := dc_180 (a := 0) (b := 43) (n := 43) (by decide +kernel)
theorem dX37_measure_203 : decode cX37_measure 203 = .ok (.iconst 1, 1) := dc_4 (by decide +kernel)
theorem dX37_measure_204 : decode cX37_measure 204 = .ok (.iaload, 1) := dc_46 (by decide +kernel)
theorem dX37_measure_205 : decode cX37_measure 205 = .ok (.iaload, 1) := dc_46 (by decide +kernel)
theorem dX37_measure_206 : decode cX37_measure 206 = .ok (.aload_n 0, 1) := dc_42 (by decide +kernel)
theorem dX37_measure_207 : decode cX37_measure 207 = .ok (.getfield 40, 3) := dc_180 (a := 0) (b := 40) (n := 40) (by decide +kernel)
theorem dX37_measure_210 : decode cX37_measure 210 = .ok (.iconst 1, 1) := dc_4 (by decide +kernel)
theorem dX37_measure_211 : decode cX37_measure 211 = .ok (.iaload, 1) := dc_46 (by decide +kernel)
theorem dX37_measure_212 : decode cX37_measure 212 = .ok (.iadd, 1) := dc_96 (by decide +kernel)
theorem dX37_measure_213 : decode cX37_measure 213 = .ok (.iastore, 1) := dc_79 (by decide +kernel)
theorem dX37_measure_214 : decode cX37_measure 214 = .ok (.aload_n 0, 1) := dc_42 (by decide +kernel)
theorem dX37_measure_215 : decode cX37_measure 215 = .ok (.aload_n 0, 1) := dc_42 (by decide +kernel)
theorem dX37_measure_216 : decode cX37_measure 216 = .ok (.iload_n 1, 1) := dc_27 (by decide +kernel)
theorem dX37_measure_217 : decode cX37_measure 217 = .ok (.invokevirtual 125, 3) := dc_182 (a := 0) (b := 125) (n := 125) (by decide +kernel)
theorem dX37_measure_220 : decode cX37_measure 220 = .ok (.ifCond .eq 28, 3) := dc_153 (a := 0) (b := 28) (v := 28) (by decide +kernel)
theorem dX37_measure_223 : decode cX37_measure 223 = .ok (.aload_n 0, 1) := dc_42 (by decide +kernel)
theorem dX37_measure_224 : decode cX37_measure 224 = .ok (.getfield 28, 3) := dc_180 (a := 0) (b := 28) (n := 28) (by decide +kernel)
theorem dX37_measure_227 : decode cX37_measure 227 = .ok (.iload_n 1, 1) := dc_27 (by decide +kernel)
theorem dX37_measure_228 : decode cX37_measure 228 = .ok (.iaload, 1) := dc_46 (by decide +kernel)
theorem dX37_measure_229 : decode cX37_measure 229 = .ok (.ldc 111, 2) := dc_18 (a := 111) (by decide +kernel)
theorem dX37_measure_231 : decode cX37_measure 231 = .ok (.if_icmp .eq 17, 3) := dc_159 (a := 0) (b := 17) (v := 17) (by decide +kernel)
theorem dX37_measure_234 : decode cX37_measure 234 = .ok (.aload_n 0, 1) := dc_42 (by decide +kernel)
theorem dX37_measure_235 : decode cX37_measure 235 = .ok (.getfield 138, 3) := dc_180 (a := 0) (b := 138) (n := 138) (by decide +kernel)
theorem dX37_measure_238 : decode cX37_measure 238 = .ok (.aload_n 0, 1) := dc_42 (by decide +kernel)
theorem dX37_measure_239 : decode cX37_measure 239 = .ok (.getfield 28, 3) := dc_180 (a := 0) (b := 28) (n := 28) (by decide +kernel)
theorem dX37_measure_242 : decode cX37_measure 242 = .ok (.iload_n 1, 1) := dc_27 (by decide +kernel)
theorem dX37_measure_243 : decode cX37_measure 243 = .ok (.iaload, 1) := dc_46 (by decide +kernel)
theorem dX37_measure_244 : decode cX37_measure 244 = .ok (.iadd, 1) := dc_96 (by decide +kernel)
theorem dX37_measure_245 : decode cX37_measure 245 = .ok (.goto 7, 3) := dc_167 (a := 0) (b := 7) (v := 7) (by decide +kernel)
theorem dX37_measure_248 : decode cX37_measure 248 = .ok (.aload_n 0, 1) := dc_42 (by decide +kernel)
theorem dX37_measure_249 : decode cX37_measure 249 = .ok (.getfield 138, 3) := dc_180 (a := 0) (b := 138) (n := 138) (by decide +kernel)
theorem dX37_measure_252 : decode cX37_measure 252 = .ok (.putfield 138, 3) := dc_181 (a := 0) (b := 138) (n := 138) (by decide +kernel)
theorem dX37_measure_255 : decode cX37_measure 255 = .ok (.aload_n 0, 1) := dc_42 (by decide +kernel)
theorem dX37_measure_256 : decode cX37_measure 256 = .ok (.aload_n 0, 1) := dc_42 (by decide +kernel)
theorem dX37_measure_257 : decode cX37_measure 257 = .ok (.iload_n 2, 1) := dc_28 (by decide +kernel)
theorem dX37_measure_258 : decode cX37_measure 258 = .ok (.invokevirtual 125, 3) := dc_182 (a := 0) (b := 125) (n := 125) (by decide +kernel)
theorem dX37_measure_261 : decode cX37_measure 261 = .ok (.ifCond .eq 28, 3) := dc_153 (a := 0) (b := 28) (v := 28) (by decide +kernel)
theorem dX37_measure_264 : decode cX37_measure 264 = .ok (.aload_n 0, 1) := dc_42 (by decide +kernel)
theorem dX37_measure_265 : decode cX37_measure 265 = .ok (.getfield 25, 3) := dc_180 (a := 0) (b := 25) (n := 25) (by decide +kernel)
theorem dX37_measure_268 : decode cX37_measure 268 = .ok (.iload_n 2, 1) := dc_28 (by decide +kernel)
theorem dX37_measure_269 : decode cX37_measure 269 = .ok (.iaload, 1) := dc_46 (by decide +kernel)
theorem dX37_measure_270 : decode cX37_measure 270 = .ok (.ldc 111, 2) := dc_18 (a := 111) (by decide +kernel)
theorem dX37_measure_272 : decode cX37_measure 272 = .ok (.if_icmp .eq 17, 3) := dc_159 (a := 0) (b := 17) (v := 17) (by decide +kernel)
theorem dX37_measure_275 : decode cX37_measure 275 = .ok (.aload_n 0, 1) := dc_42 (by decide +kernel)
theorem dX37_measure_276 : decode cX37_measure 276 = .ok (.getfield 138, 3) := dc_180 (a := 0) (b := 138) (n := 138) (by decide +kernel)
theorem dX37_measure_279 : decode cX37_measure 279 = .ok (.aload_n 0, 1) := dc_42 (by decide +kernel)
theorem dX37_measure_280 : decode cX37_measure 280 = .ok (.getfield 25, 3) := dc_180 (a := 0) (b := 25) (n := 25) (by decide +kernel)
theorem dX37_measure_283 : decode cX37_measure 283 = .ok (.iload_n 2, 1) := dc_28 (by decide +kernel)
theorem dX37_measure_284 : decode cX37_measure 284 = .ok (.iaload, 1) := dc_46 (by decide +kernel)
theorem dX37_measure_285 : decode cX37_measure 285 = .ok (.iadd, 1) := dc_96 (by decide +kernel)
theorem dX37_measure_286 : decode cX37_measure 286 = .ok (.goto 7, 3) := dc_167 (a := 0) (b := 7) (v := 7) (by decide +kernel)
theorem dX37_measure_289 : decode cX37_measure 289 = .ok (.aload_n 0, 1) := dc_42 (by decide +kernel)
theorem dX37_measure_290 : decode cX37_measure 290 = .ok (.getfield 138, 3) := dc_180 (a := 0) (b := 138) (n := 138) (by decide +kernel)
theorem dX37_measure_293 : decode cX37_measure 293 = .ok (.putfield 138, 3) := dc_181 (a := 0) (b := 138) (n := 138) (by decide +kernel)
theorem dX37_measure_296 : decode cX37_measure 296 = .ok (.return_, 1) := dc_177 (by decide +kernel)
theorem GX37_135 {w : eW} {d : Nat} {Y : eY} {pc : Nat} {ls : eL} {st : List Value} {h : eH} {Q : eO → eH → Prop} {a : Nat} {x : Int32} (hf : g_I 36 h a 29 = some x) (hd : decode Y.2.1 pc = .ok (.getfield 135, 3)) (hY : Y.1.cls = RX37) (kk : wp w d Y (pc + 3) ls (.int x :: st) h Q) : wp w d Y pc ls (.ref a :: st) h Q := x_gI (ci := 36) (k := 29) hf hd rfl (by decide) (by rw [hY]; exact q4264) kk
theorem GX37_138 {w : eW} {d : Nat} {Y : eY} {pc : Nat} {ls : eL} {st : List Value} {h : eH} {Q : eO → eH → Prop} {a : Nat} {x : Int32} (hf : g_I 36 h a 30 = some x) (hd : decode Y.2.1 pc = .ok (.getfield 138, 3)) (hY : Y.1.cls = RX37) (kk : wp w d Y (pc + 3) ls (.int x :: st) h Q) : wp w d Y pc ls (.ref a :: st) h Q := x_gI (ci := 36) (k := 30) hf hd rfl (by decide) (by rw [hY]; exact q4265) kk
theorem GX37_144 {w : eW} {d : Nat} {Y : eY} {pc : Nat} {ls : eL} {st : List Value} {h : eH} {Q : eO → eH → Prop} {a : Nat} {x : Int32} (hf : g_I 36 h a 19 = some x) (hd : decode Y.2.1 pc = .ok (.getfield 144, 3)) (hY : Y.1.cls = RX37) (kk : wp w d Y (pc + 3) ls (.int x :: st) h Q) : wp w d Y pc ls (.ref a :: st) h Q := x_gI (ci := 36) (k := 19) hf hd rfl (by decide) (by rw [hY]; exact q4253) kk
theorem GX37_43 {w : eW} {d : Nat} {Y : eY} {pc : Nat} {ls : eL} {st : List Value} {h : eH} {Q : eO → eH → Prop} {a : Nat} {x : Nat} (hf : g_A 36 h a 14 = some x) (hd : decode Y.2.1 pc = .ok (.getfield 43, 3)) (hY : Y.1.cls = RX37) (kk : wp w d Y (pc + 3) ls (.ref x :: st) h Q) : wp w d Y pc ls (.ref a :: st) h Q := x_gA (ci := 36) (k := 14) hf hd rfl (by decide) (by rw [hY]; exact q4246) kk
theorem GX37_69 {w : eW} {d : Nat} {Y : eY} {pc : Nat} {ls : eL} {st : List Value} {h : eH} {Q : eO → eH → Prop} {a : Nat} {x : Nat} (hf : g_A 36 h a 31 = some x) (hd : decode Y.2.1 pc = .ok (.getfield 69, 3)) (hY : Y.1.cls = RX37) (kk : wp w d Y (pc + 3) ls (.ref x :: st) h Q) : wp w d Y pc ls (.ref a :: st) h Q := x_gA (ci := 36) (k := 31) hf hd rfl (by decide) (by rw [hY]; exact q4266) kk
theorem SX37_135 {w : eW} {d : Nat} {Y : eY} {pc : Nat} {ls : eL} {st : List Value} {h : eH} {Q : eO → eH → Prop} {a : Nat} {h' : eH} {x : Int32} (hf : p_V 36 h a 29 (.int x) = some h') (hd : decode Y.2.1 pc = .ok (.putfield 135, 3)) (hY : Y.1.cls = RX37) (kk : wp w d Y (pc + 3) ls st h' Q) : wp w d Y pc ls (.int x :: .ref a :: st) h Q := x_pI (ci := 36) (k := 29) hf hd rfl (by decide) (by rw [hY]; exact q4264) rfl rfl kk
theorem SX37_138 {w : eW} {d : Nat} {Y : eY} {pc : Nat} {ls : eL} {st : List Value} {h : eH} {Q : eO → eH → Prop} {a : Nat} {h' : eH} {x : Int32} (hf : p_V 36 h a 30 (.int x) = some h') (hd : decode Y.2.1 pc = .ok (.putfield 138, 3)) (hY : Y.1.cls = RX37) (kk : wp w d Y (pc + 3) ls st h' Q) : wp w d Y pc ls (.int x :: .ref a :: st) h Q := x_pI (ci := 36) (k := 30) hf hd rfl (by decide) (by rw [hY]; exact q4265) rfl rfl kk
theorem SX37_141 {w : eW} {d : Nat} {Y : eY} {pc : Nat} {ls : eL} {st : List Value} {h : eH} {Q : eO → eH → Prop} {a : Nat} {h' : eH} {x : Int32} (hf : p_V 36 h a 32 (.int x) = some h') (hd : decode Y.2.1 pc = .ok (.putfield 141, 3)) (hY : Y.1.cls = RX37) (kk : wp w d Y (pc + 3) ls st h' Q) : wp w d Y pc ls (.int x :: .ref a :: st) h Q := x_pI (ci := 36) (k := 32) hf hd rfl (by decide) (by rw [hY]; exact q4267) rfl rfl kk
def fX37_measure_b148 (N : Nat) (k97 : Nat → Int32 → Int32 → Int32 → Int32 → eH → Option (Unit × eH)) (l0 : Nat) (l1 : Int32) (l2 : Int32) (l3 : Int32) (l4 : Int32) (s0 : Nat) (s1 : Int32) (s2 : Int32) (s3 : Int32) (h : eH) : Option (Unit × eH) :=
  (q_V 100 h s0 s1 (.int (s2 + s3))).bind fun h1 =>
  k97 l0 l1 l2 l3 (l4 + (1 : Int32)) h1
theorem pX37_measure_b148 {w : eW} {d : Nat} (hd : 2 ≤ d + 1) {N : Nat} {k97 : Nat → Int32 → Int32 → Int32 → Int32 → eH → Option (Unit × eH)} (hk97 : ∀ l0 l1 l2 l3 l4 h q, k97 l0 l1 l2 l3 l4 h = some q → wp w (d + 1) YX37_measure 97 [some (.ref l0), some (.int l1), some (.int l2), some (.int l3), some (.int l4)] [] h (e_is (e_rn c_V q))) {l0 : Nat} {l1 : Int32} {l2 : Int32} {l3 : Int32} {l4 : Int32} {s0 : Nat} {s1 : Int32} {s2 : Int32} {s3 : Int32} {h : eH} {q} (hf : fX37_measure_b148 N k97 l0 l1 l2 l3 l4 s0 s1 s2 s3 h = some q) : wp w (d + 1) YX37_measure 148 [some (.ref l0), some (.int l1), some (.int l2), some (.int l3), some (.int l4)] [.int s3, .int s2, .int s1, .ref s0] h (e_is (e_rn c_V q)) := by
  unfold fX37_measure_b148 at hf
  refine w_iadd dX37_measure_148 ?_
  obtain ⟨h1, b2, hf⟩ := Option.bind_eq_some_iff.mp hf
  refine x_qI b2 dX37_measure_149 ?_
  refine w_iinc dX37_measure_150 (v := (l4 + (1 : Int32))) rfl rfl (by decide) (ls' := [some (.ref l0), some (.int l1), some (.int l2), some (.int l3), some (.int (l4 + (1 : Int32)))]) rfl ?_
  refine w_goto 97 dX37_measure_153 (by decide) ?_
  exact (hk97 _ _ _ _ _ _ _ hf).to ⟨rfl, rfl, rfl, rfl, rfl, trivial⟩
def fX37_measure_b293 (N : Nat) (s0 : Nat) (s1 : Int32) (h : eH) : Option (Unit × eH) :=
  (p_V 36 h s0 30 (.int s1)).bind fun h1 =>
  some ((), h1)
theorem pX37_measure_b293 {w : eW} {d : Nat} (hd : 2 ≤ d + 1) {N : Nat} {s0 : Nat} {s1 : Int32} {h : eH} {q} (hf : fX37_measure_b293 N s0 s1 h = some q) : wp w (d + 1) YX37_measure 293 [none, none, none, none, none] [.int s1, .ref s0] h (e_is (e_rn c_V q)) := by
  unfold fX37_measure_b293 at hf
  obtain ⟨h1, b2, hf⟩ := Option.bind_eq_some_iff.mp hf
  refine SX37_138 b2 dX37_measure_293 rfl ?_
  cases hf
  exact w_vret dX37_measure_296 rfl rfl
def fX37_measure_b289 (N : Nat) (l0 : Nat) (s0 : Nat) (h : eH) : Option (Unit × eH) :=
  (g_I 36 h l0 30).bind fun x1 =>
  fX37_measure_b293 N s0 x1 h
theorem pX37_measure_b289 {w : eW} {d : Nat} (hd : 2 ≤ d + 1) {N : Nat} {l0 : Nat} {s0 : Nat} {h : eH} {q} (hf : fX37_measure_b289 N l0 s0 h = some q) : wp w (d + 1) YX37_measure 289 [some (.ref l0), none, none, none, none] [.ref s0] h (e_is (e_rn c_V q)) := by
  unfold fX37_measure_b289 at hf
  refine w_aload_n dX37_measure_289 rfl rfl ?_
  obtain ⟨x1, b2, hf⟩ := Option.bind_eq_some_iff.mp hf
  refine GX37_138 b2 dX37_measure_290 rfl ?_
  exact (pX37_measure_b293 hd hf).to trivial
def fX37_measure_b252 (N : Nat) (l0 : Nat) (l2 : Int32) (s0 : Nat) (s1 : Int32) (h : eH) : Option (Unit × eH) :=
  (p_V 36 h s0 30 (.int s1)).bind fun h1 =>
  (k_ok 36 h1 l0).bind fun _ =>
  (fX37_isHyphen l0 l2 h1).bind fun q4 =>
  if q4.1 = 0 then
    fX37_measure_b289 N l0 l0 q4.2
  else
    (g_A 36 q4.2 l0 7).bind fun a6 =>
    (r_I 100 q4.2 a6 l2).bind fun x8 =>
    if x8 = (-2147483648 : Int32) then
      fX37_measure_b289 N l0 l0 q4.2
    else
      (g_I 36 q4.2 l0 30).bind fun x11 =>
      (g_A 36 q4.2 l0 7).bind fun a13 =>
      (r_I 100 q4.2 a13 l2).bind fun x15 =>
      fX37_measure_b293 N l0 (x11 + x15) q4.2
theorem pX37_measure_b252 {w : eW} {d : Nat} (hd : 2 ≤ d + 1) {N : Nat} {l0 : Nat} {l2 : Int32} {s0 : Nat} {s1 : Int32} {h : eH} {q} (hf : fX37_measure_b252 N l0 l2 s0 s1 h = some q) : wp w (d + 1) YX37_measure 252 [some (.ref l0), none, some (.int l2), none, none] [.int s1, .ref s0] h (e_is (e_rn c_V q)) := by
  unfold fX37_measure_b252 at hf
  obtain ⟨h1, b2, hf⟩ := Option.bind_eq_some_iff.mp hf
  refine SX37_138 b2 dX37_measure_252 rfl ?_
  refine w_aload_n dX37_measure_255 rfl rfl ?_
  refine w_aload_n dX37_measure_256 rfl rfl ?_
  refine w_iload_n dX37_measure_257 rfl rfl ?_
  obtain ⟨_, b3, hf⟩ := Option.bind_eq_some_iff.mp hf
  refine x_cnI hf (e_stV (Yc := YX37_isHyphen) (ci := 36) (av := [.int l2]) (st := [.ref l0]) dX37_measure_258 q5814 mX37_isHyphen rfl (k_ok_some b3).1 (k_ok_some b3).2) mX37_isHyphen.2.2.1 mX37_isHyphen.2.2.2.2.1 (Nat.le_of_ble_eq_true rfl) (Nat.le_of_ble_eq_true rfl) (fun q hq => pX37_isHyphen (by omega) hq) (fun q4 hf => ?_)
  refine w_if_eq 289 dX37_measure_261 (by decide) (fun c5 => ?_) (fun c5 => ?_)
  · replace hf := (if_pos (show q4.1 = 0 from c5)).symm.trans hf
    exact (pX37_measure_b289 hd hf).to ⟨rfl, trivial⟩
  · replace hf := (if_neg (show ¬ (q4.1 = 0) from c5)).symm.trans hf
    refine w_aload_n dX37_measure_264 rfl rfl ?_
    obtain ⟨a6, b7, hf⟩ := Option.bind_eq_some_iff.mp hf
    refine GX37_25 b7 dX37_measure_265 rfl ?_
    refine w_iload_n dX37_measure_268 rfl rfl ?_
    obtain ⟨x8, b9, hf⟩ := Option.bind_eq_some_iff.mp hf
    refine x_rI b9 dX37_measure_269 ?_
    refine w_ldc dX37_measure_270 q5775 ?_
    refine w_icmp_eq 289 dX37_measure_272 (by decide) (fun c10 => ?_) (fun c10 => ?_)
    · replace hf := (if_pos (show x8 = (-2147483648 : Int32) from c10)).symm.trans hf
      exact (pX37_measure_b289 hd hf).to ⟨rfl, trivial⟩
    · replace hf := (if_neg (show ¬ (x8 = (-2147483648 : Int32)) from c10)).symm.trans hf
      refine w_aload_n dX37_measure_275 rfl rfl ?_
      obtain ⟨x11, b12, hf⟩ := Option.bind_eq_some_iff.mp hf
      refine GX37_138 b12 dX37_measure_276 rfl ?_
      refine w_aload_n dX37_measure_279 rfl rfl ?_
      obtain ⟨a13, b14, hf⟩ := Option.bind_eq_some_iff.mp hf
      refine GX37_25 b14 dX37_measure_280 rfl ?_
      refine w_iload_n dX37_measure_283 rfl rfl ?_
      obtain ⟨x15, b16, hf⟩ := Option.bind_eq_some_iff.mp hf
      refine x_rI b16 dX37_measure_284 ?_
      refine w_iadd dX37_measure_285 ?_
      refine w_goto 293 dX37_measure_286 (by decide) ?_
      exact (pX37_measure_b293 hd hf).to trivial
def fX37_measure_b248 (N : Nat) (l0 : Nat) (l2 : Int32) (s0 : Nat) (h : eH) : Option (Unit × eH) :=
  (g_I 36 h l0 30).bind fun x1 =>
  fX37_measure_b252 N l0 l2 s0 x1 h
theorem pX37_measure_b248 {w : eW} {d : Nat} (hd : 2 ≤ d + 1) {N : Nat} {l0 : Nat} {l2 : Int32} {s0 : Nat} {h : eH} {q} (hf : fX37_measure_b248 N l0 l2 s0 h = some q) : wp w (d + 1) YX37_measure 248 [some (.ref l0), none, some (.int l2), none, none] [.ref s0] h (e_is (e_rn c_V q)) := by
  unfold fX37_measure_b248 at hf
  refine w_aload_n dX37_measure_248 rfl rfl ?_
  obtain ⟨x1, b2, hf⟩ := Option.bind_eq_some_iff.mp hf
  refine GX37_138 b2 dX37_measure_249 rfl ?_
  exact (pX37_measure_b252 hd hf).to ⟨rfl, rfl, trivial⟩
def fX37_measure_b97 (N : Nat) : Nat → Nat → Int32 → Int32 → Int32 → Int32 → eH → Option (Unit × eH)
  | 0, _, _, _, _, _, _ => none
  | n + 1, l0, l1, l2, l3, l4, h =>
    if (4 : Int32) ≤ l4 then
      (g_A 36 h l0 31).bind fun a2 =>
      (g_A 36 h l0 14).bind fun a4 =>
      (r_I 100 h a4 (0 : Int32)).bind fun x6 =>
      (g_A 36 h l0 31).bind fun a8 =>
      (g_A 36 h l0 14).bind fun a10 =>
      (r_I 100 h a10 (0 : Int32)).bind fun x12 =>
      (r_I 100 h a8 x12).bind fun x14 =>
      (g_A 36 h l0 13).bind fun a16 =>
      (r_I 100 h a16 (0 : Int32)).bind fun x18 =>
      (q_V 100 h a2 x6 (.int (x14 + x18))).bind fun h20 =>
      (g_A 36 h20 l0 31).bind fun a22 =>
      (g_A 36 h20 l0 14).bind fun a24 =>
      (r_I 100 h20 a24 (1 : Int32)).bind fun x26 =>
      (g_A 36 h20 l0 31).bind fun a28 =>
      (g_A 36 h20 l0 14).bind fun a30 =>
      (r_I 100 h20 a30 (1 : Int32)).bind fun x32 =>
      (r_I 100 h20 a28 x32).bind fun x34 =>
      (g_A 36 h20 l0 13).bind fun a36 =>
      (r_I 100 h20 a36 (1 : Int32)).bind fun x38 =>
      (q_V 100 h20 a22 x26 (.int (x34 + x38))).bind fun h40 =>
      (k_ok 36 h40 l0).bind fun _ =>
      (fX37_isHyphen l0 l1 h40).bind fun q43 =>
      if q43.1 = 0 then
        fX37_measure_b248 N l0 l2 l0 q43.2
      else
        (g_A 36 q43.2 l0 8).bind fun a45 =>
        (r_I 100 q43.2 a45 l1).bind fun x47 =>
        if x47 = (-2147483648 : Int32) then
          fX37_measure_b248 N l0 l2 l0 q43.2
        else
          (g_I 36 q43.2 l0 30).bind fun x50 =>
          (g_A 36 q43.2 l0 8).bind fun a52 =>
          (r_I 100 q43.2 a52 l1).bind fun x54 =>
          fX37_measure_b252 N l0 l2 l0 (x50 + x54) q43.2
    else
      (g_A 36 h l0 31).bind fun a56 =>
      (g_A 36 h l0 46).bind fun a58 =>
      (r_I 100 h a58 (((4 : Int32) * l3) + l4)).bind fun x60 =>
      (g_A 36 h l0 46).bind fun a62 =>
      (g_I 36 h l0 29).bind fun x64 =>
      (r_I 100 h a62 (((4 : Int32) * x64) + l4)).bind fun x66 =>
      if ¬ l4 = 0 then
        fX37_measure_b148 N (fX37_measure_b97 N n) l0 l1 l2 l3 l4 a56 l4 (x60 - x66) (0 : Int32) h
      else
        (g_I 36 h l0 19).bind fun x69 =>
        fX37_measure_b148 N (fX37_measure_b97 N n) l0 l1 l2 l3 l4 a56 l4 (x60 - x66) x69 h
theorem pX37_measure_b97 {w : eW} {d : Nat} (hd : 2 ≤ d + 1) {N : Nat} : ∀ (n : Nat) l0 l1 l2 l3 l4 h q, fX37_measure_b97 N n l0 l1 l2 l3 l4 h = some q → wp w (d + 1) YX37_measure 97 [some (.ref l0), some (.int l1), some (.int l2), some (.int l3), some (.int l4)] [] h (e_is (e_rn c_V q)) := by
  intro n
  induction n with
  | zero => intro l0 l1 l2 l3 l4 h q hf; simp [fX37_measure_b97] at hf
  | succ n ih =>
    intro l0 l1 l2 l3 l4 h q hf
    rw [fX37_measure_b97] at hf
    refine w_iload dX37_measure_97 rfl ?_
    refine w_iconst dX37_measure_99 (v := 4) (by decide) ?_
    refine w_icmp_ge 156 dX37_measure_100 (by decide) (fun c1 => ?_) (fun c1 => ?_)
    · replace hf := (if_pos (show (4 : Int32) ≤ l4 from c1)).symm.trans hf
      refine w_aload_n dX37_measure_156 rfl rfl ?_
      obtain ⟨a2, b3, hf⟩ := Option.bind_eq_some_iff.mp hf
      refine GX37_69 b3 dX37_measure_157 rfl ?_
      refine w_aload_n dX37_measure_160 rfl rfl ?_
      obtain ⟨a4, b5, hf⟩ := Option.bind_eq_some_iff.mp hf
      refine GX37_43 b5 dX37_measure_161 rfl ?_
      refine w_iconst dX37_measure_164 (v := 0) (by decide) ?_
      obtain ⟨x6, b7, hf⟩ := Option.bind_eq_some_iff.mp hf
      refine x_rI b7 dX37_measure_165 ?_
      refine w_aload_n dX37_measure_166 rfl rfl ?_
      obtain ⟨a8, b9, hf⟩ := Option.bind_eq_some_iff.mp hf
      refine GX37_69 b9 dX37_measure_167 rfl ?_
      refine w_aload_n dX37_measure_170 rfl rfl ?_
      obtain ⟨a10, b11, hf⟩ := Option.bind_eq_some_iff.mp hf
      refine GX37_43 b11 dX37_measure_171 rfl ?_
      refine w_iconst dX37_measure_174 (v := 0) (by decide) ?_
      obtain ⟨x12, b13, hf⟩ := Option.bind_eq_some_iff.mp hf
      refine x_rI b13 dX37_measure_175 ?_
      obtain ⟨x14, b15, hf⟩ := Option.bind_eq_some_iff.mp hf
      refine x_rI b15 dX37_measure_176 ?_
      refine w_aload_n dX37_measure_177 rfl rfl ?_
      obtain ⟨a16, b17, hf⟩ := Option.bind_eq_some_iff.mp hf
      refine GX37_40 b17 dX37_measure_178 rfl ?_
      refine w_iconst dX37_measure_181 (v := 0) (by decide) ?_
      obtain ⟨x18, b19, hf⟩ := Option.bind_eq_some_iff.mp hf
      refine x_rI b19 dX37_measure_182 ?_
      refine w_iadd dX37_measure_183 ?_
      obtain ⟨h20, b21, hf⟩ := Option.bind_eq_some_iff.mp hf
      refine x_qI b21 dX37_measure_184 ?_
      refine w_aload_n dX37_measure_185 rfl rfl ?_
      obtain ⟨a22, b23, hf⟩ := Option.bind_eq_some_iff.mp hf
      refine GX37_69 b23 dX37_measure_186 rfl ?_
      refine w_aload_n dX37_measure_189 rfl rfl ?_
      obtain ⟨a24, b25, hf⟩ := Option.bind_eq_some_iff.mp hf
      refine GX37_43 b25 dX37_measure_190 rfl ?_
      refine w_iconst dX37_measure_193 (v := 1) (by decide) ?_
      obtain ⟨x26, b27, hf⟩ := Option.bind_eq_some_iff.mp hf
      refine x_rI b27 dX37_measure_194 ?_
      refine w_aload_n dX37_measure_195 rfl rfl ?_
      obtain ⟨a28, b29, hf⟩ := Option.bind_eq_some_iff.mp hf
      refine GX37_69 b29 dX37_measure_196 rfl ?_
      refine w_aload_n dX37_measure_199 rfl rfl ?_
      obtain ⟨a30, b31, hf⟩ := Option.bind_eq_some_iff.mp hf
      refine GX37_43 b31 dX37_measure_200 rfl ?_
      refine w_iconst dX37_measure_203 (v := 1) (by decide) ?_
      obtain ⟨x32, b33, hf⟩ := Option.bind_eq_some_iff.mp hf
      refine x_rI b33 dX37_measure_204 ?_
      obtain ⟨x34, b35, hf⟩ := Option.bind_eq_some_iff.mp hf
      refine x_rI b35 dX37_measure_205 ?_
      refine w_aload_n dX37_measure_206 rfl rfl ?_
      obtain ⟨a36, b37, hf⟩ := Option.bind_eq_some_iff.mp hf
      refine GX37_40 b37 dX37_measure_207 rfl ?_
      refine w_iconst dX37_measure_210 (v := 1) (by decide) ?_
      obtain ⟨x38, b39, hf⟩ := Option.bind_eq_some_iff.mp hf
      refine x_rI b39 dX37_measure_211 ?_
      refine w_iadd dX37_measure_212 ?_
      obtain ⟨h40, b41, hf⟩ := Option.bind_eq_some_iff.mp hf
      refine x_qI b41 dX37_measure_213 ?_
      refine w_aload_n dX37_measure_214 rfl rfl ?_
      refine w_aload_n dX37_measure_215 rfl rfl ?_
      refine w_iload_n dX37_measure_216 rfl rfl ?_
      obtain ⟨_, b42, hf⟩ := Option.bind_eq_some_iff.mp hf
      refine x_cnI hf (e_stV (Yc := YX37_isHyphen) (ci := 36) (av := [.int l1]) (st := [.ref l0]) dX37_measure_217 q5814 mX37_isHyphen rfl (k_ok_some b42).1 (k_ok_some b42).2) mX37_isHyphen.2.2.1 mX37_isHyphen.2.2.2.2.1 (Nat.le_of_ble_eq_true rfl) (Nat.le_of_ble_eq_true rfl) (fun q hq => pX37_isHyphen (by omega) hq) (fun q43 hf => ?_)
      refine w_if_eq 248 dX37_measure_220 (by decide) (fun c44 => ?_) (fun c44 => ?_)
      · replace hf := (if_pos (show q43.1 = 0 from c44)).symm.trans hf
        exact (pX37_measure_b248 hd hf).to ⟨rfl, rfl, trivial⟩
      · replace hf := (if_neg (show ¬ (q43.1 = 0) from c44)).symm.trans hf
        refine w_aload_n dX37_measure_223 rfl rfl ?_
        obtain ⟨a45, b46, hf⟩ := Option.bind_eq_some_iff.mp hf
        refine GX37_28 b46 dX37_measure_224 rfl ?_
        refine w_iload_n dX37_measure_227 rfl rfl ?_
        obtain ⟨x47, b48, hf⟩ := Option.bind_eq_some_iff.mp hf
        refine x_rI b48 dX37_measure_228 ?_
        refine w_ldc dX37_measure_229 q5775 ?_
        refine w_icmp_eq 248 dX37_measure_231 (by decide) (fun c49 => ?_) (fun c49 => ?_)
        · replace hf := (if_pos (show x47 = (-2147483648 : Int32) from c49)).symm.trans hf
          exact (pX37_measure_b248 hd hf).to ⟨rfl, rfl, trivial⟩
        · replace hf := (if_neg (show ¬ (x47 = (-2147483648 : Int32)) from c49)).symm.trans hf
          refine w_aload_n dX37_measure_234 rfl rfl ?_
          obtain ⟨x50, b51, hf⟩ := Option.bind_eq_some_iff.mp hf
          refine GX37_138 b51 dX37_measure_235 rfl ?_
          refine w_aload_n dX37_measure_238 rfl rfl ?_
          obtain ⟨a52, b53, hf⟩ := Option.bind_eq_some_iff.mp hf
          refine GX37_28 b53 dX37_measure_239 rfl ?_
          refine w_iload_n dX37_measure_242 rfl rfl ?_
          obtain ⟨x54, b55, hf⟩ := Option.bind_eq_some_iff.mp hf
          refine x_rI b55 dX37_measure_243 ?_
          refine w_iadd dX37_measure_244 ?_
          refine w_goto 252 dX37_measure_245 (by decide) ?_
          exact (pX37_measure_b252 hd hf).to ⟨rfl, rfl, trivial⟩
    · replace hf := (if_neg (show ¬ ((4 : Int32) ≤ l4) from c1)).symm.trans hf
      refine w_aload_n dX37_measure_103 rfl rfl ?_
      obtain ⟨a56, b57, hf⟩ := Option.bind_eq_some_iff.mp hf
      refine GX37_69 b57 dX37_measure_104 rfl ?_
      refine w_iload dX37_measure_107 rfl ?_
      refine w_aload_n dX37_measure_109 rfl rfl ?_
      obtain ⟨a58, b59, hf⟩ := Option.bind_eq_some_iff.mp hf
      refine GX37_93 b59 dX37_measure_110 rfl ?_
      refine w_iconst dX37_measure_113 (v := 4) (by decide) ?_
      refine w_iload_n dX37_measure_114 rfl rfl ?_
      refine w_imul dX37_measure_115 ?_
      refine w_iload dX37_measure_116 rfl ?_
      refine w_iadd dX37_measure_118 ?_
      obtain ⟨x60, b61, hf⟩ := Option.bind_eq_some_iff.mp hf
      refine x_rI b61 dX37_measure_119 ?_
      refine w_aload_n dX37_measure_120 rfl rfl ?_
      obtain ⟨a62, b63, hf⟩ := Option.bind_eq_some_iff.mp hf
      refine GX37_93 b63 dX37_measure_121 rfl ?_
      refine w_iconst dX37_measure_124 (v := 4) (by decide) ?_
      refine w_aload_n dX37_measure_125 rfl rfl ?_
      obtain ⟨x64, b65, hf⟩ := Option.bind_eq_some_iff.mp hf
      refine GX37_135 b65 dX37_measure_126 rfl ?_
      refine w_imul dX37_measure_129 ?_
      refine w_iload dX37_measure_130 rfl ?_
      refine w_iadd dX37_measure_132 ?_
      obtain ⟨x66, b67, hf⟩ := Option.bind_eq_some_iff.mp hf
      refine x_rI b67 dX37_measure_133 ?_
      refine w_isub dX37_measure_134 ?_
      refine w_iload dX37_measure_135 rfl ?_
      refine w_if_ne 147 dX37_measure_137 (by decide) (fun c68 => ?_) (fun c68 => ?_)
      · replace hf := (if_pos (show ¬ l4 = 0 from c68)).symm.trans hf
        refine w_iconst dX37_measure_147 (v := 0) (by decide) ?_
        exact (pX37_measure_b148 hd ih hf).to ⟨rfl, rfl, rfl, rfl, rfl, trivial⟩
      · replace hf := (if_neg (show ¬ (¬ l4 = 0) from (fun z => z c68))).symm.trans hf
        refine w_aload_n dX37_measure_140 rfl rfl ?_
        obtain ⟨x69, b70, hf⟩ := Option.bind_eq_some_iff.mp hf
        refine GX37_144 b70 dX37_measure_141 rfl ?_
        refine w_goto 148 dX37_measure_144 (by decide) ?_
        exact (pX37_measure_b148 hd ih hf).to ⟨rfl, rfl, rfl, rfl, rfl, trivial⟩
def fX37_measure_b25 (N : Nat) (l0 : Nat) (l1 : Int32) (l2 : Int32) (s0 : Int32) (h : eH) : Option (Unit × eH) :=
  (g_A 36 h l0 12).bind fun a1 =>
  (r_I 100 h a1 (0 : Int32)).bind fun x3 =>
  (g_A 36 h l0 12).bind fun a5 =>
  (r_I 100 h a5 (1 : Int32)).bind fun x7 =>
  (g_A 36 h l0 45).bind fun a9 =>
  (r_I 100 h a9 s0).bind fun x11 =>
  (g_A 36 h l0 45).bind fun a13 =>
  (g_I 36 h l0 29).bind fun x15 =>
  (r_I 100 h a13 x15).bind fun x17 =>
  (p_V 36 h l0 30 (.int (((x3 + x7) + x11) - x17))).bind fun h19 =>
  (g_A 36 h19 l0 15).bind fun a21 =>
  (r_I 100 h19 a21 (0 : Int32)).bind fun x23 =>
  (g_A 36 h19 l0 15).bind fun a25 =>
  (r_I 100 h19 a25 (1 : Int32)).bind fun x27 =>
  (g_A 36 h19 l0 47).bind fun a29 =>
  (r_I 100 h19 a29 s0).bind fun x31 =>
  (g_A 36 h19 l0 47).bind fun a33 =>
  (g_I 36 h19 l0 29).bind fun x35 =>
  (r_I 100 h19 a33 x35).bind fun x37 =>
  (p_V 36 h19 l0 32 (.int (((x23 + x27) + x31) - x37))).bind fun h39 =>
  fX37_measure_b97 N N l0 l1 l2 s0 (0 : Int32) h39
theorem pX37_measure_b25 {w : eW} {d : Nat} (hd : 2 ≤ d + 1) {N : Nat} {l0 : Nat} {l1 : Int32} {l2 : Int32} {s0 : Int32} {h : eH} {q} (hf : fX37_measure_b25 N l0 l1 l2 s0 h = some q) : wp w (d + 1) YX37_measure 25 [some (.ref l0), some (.int l1), some (.int l2), none, none] [.int s0] h (e_is (e_rn c_V q)) := by
  unfold fX37_measure_b25 at hf
  refine w_istore_n dX37_measure_25 rfl (by decide) (ls' := [some (.ref l0), some (.int l1), some (.int l2), some (.int s0), none]) rfl ?_
  refine w_aload_n dX37_measure_26 rfl rfl ?_
  refine w_aload_n dX37_measure_27 rfl rfl ?_
  obtain ⟨a1, b2, hf⟩ := Option.bind_eq_some_iff.mp hf
  refine GX37_37 b2 dX37_measure_28 rfl ?_
  refine w_iconst dX37_measure_31 (v := 0) (by decide) ?_
  obtain ⟨x3, b4, hf⟩ := Option.bind_eq_some_iff.mp hf
  refine x_rI b4 dX37_measure_32 ?_
  refine w_aload_n dX37_measure_33 rfl rfl ?_
  obtain ⟨a5, b6, hf⟩ := Option.bind_eq_some_iff.mp hf
  refine GX37_37 b6 dX37_measure_34 rfl ?_
  refine w_iconst dX37_measure_37 (v := 1) (by decide) ?_
  obtain ⟨x7, b8, hf⟩ := Option.bind_eq_some_iff.mp hf
  refine x_rI b8 dX37_measure_38 ?_
  refine w_iadd dX37_measure_39 ?_
  refine w_aload_n dX37_measure_40 rfl rfl ?_
  obtain ⟨a9, b10, hf⟩ := Option.bind_eq_some_iff.mp hf
  refine GX37_90 b10 dX37_measure_41 rfl ?_
  refine w_iload_n dX37_measure_44 rfl rfl ?_
  obtain ⟨x11, b12, hf⟩ := Option.bind_eq_some_iff.mp hf
  refine x_rI b12 dX37_measure_45 ?_
  refine w_iadd dX37_measure_46 ?_
  refine w_aload_n dX37_measure_47 rfl rfl ?_
  obtain ⟨a13, b14, hf⟩ := Option.bind_eq_some_iff.mp hf
  refine GX37_90 b14 dX37_measure_48 rfl ?_
  refine w_aload_n dX37_measure_51 rfl rfl ?_
  obtain ⟨x15, b16, hf⟩ := Option.bind_eq_some_iff.mp hf
  refine GX37_135 b16 dX37_measure_52 rfl ?_
  obtain ⟨x17, b18, hf⟩ := Option.bind_eq_some_iff.mp hf
  refine x_rI b18 dX37_measure_55 ?_
  refine w_isub dX37_measure_56 ?_
  obtain ⟨h19, b20, hf⟩ := Option.bind_eq_some_iff.mp hf
  refine SX37_138 b20 dX37_measure_57 rfl ?_
  refine w_aload_n dX37_measure_60 rfl rfl ?_
  refine w_aload_n dX37_measure_61 rfl rfl ?_
  obtain ⟨a21, b22, hf⟩ := Option.bind_eq_some_iff.mp hf
  refine GX37_46 b22 dX37_measure_62 rfl ?_
  refine w_iconst dX37_measure_65 (v := 0) (by decide) ?_
  obtain ⟨x23, b24, hf⟩ := Option.bind_eq_some_iff.mp hf
  refine x_rI b24 dX37_measure_66 ?_
  refine w_aload_n dX37_measure_67 rfl rfl ?_
  obtain ⟨a25, b26, hf⟩ := Option.bind_eq_some_iff.mp hf
  refine GX37_46 b26 dX37_measure_68 rfl ?_
  refine w_iconst dX37_measure_71 (v := 1) (by decide) ?_
  obtain ⟨x27, b28, hf⟩ := Option.bind_eq_some_iff.mp hf
  refine x_rI b28 dX37_measure_72 ?_
  refine w_iadd dX37_measure_73 ?_
  refine w_aload_n dX37_measure_74 rfl rfl ?_
  obtain ⟨a29, b30, hf⟩ := Option.bind_eq_some_iff.mp hf
  refine GX37_96 b30 dX37_measure_75 rfl ?_
  refine w_iload_n dX37_measure_78 rfl rfl ?_
  obtain ⟨x31, b32, hf⟩ := Option.bind_eq_some_iff.mp hf
  refine x_rI b32 dX37_measure_79 ?_
  refine w_iadd dX37_measure_80 ?_
  refine w_aload_n dX37_measure_81 rfl rfl ?_
  obtain ⟨a33, b34, hf⟩ := Option.bind_eq_some_iff.mp hf
  refine GX37_96 b34 dX37_measure_82 rfl ?_
  refine w_aload_n dX37_measure_85 rfl rfl ?_
  obtain ⟨x35, b36, hf⟩ := Option.bind_eq_some_iff.mp hf
  refine GX37_135 b36 dX37_measure_86 rfl ?_
  obtain ⟨x37, b38, hf⟩ := Option.bind_eq_some_iff.mp hf
  refine x_rI b38 dX37_measure_89 ?_
  refine w_isub dX37_measure_90 ?_
  obtain ⟨h39, b40, hf⟩ := Option.bind_eq_some_iff.mp hf
  refine SX37_141 b40 dX37_measure_91 rfl ?_
  refine w_iconst dX37_measure_94 (v := 0) (by decide) ?_
  refine w_istore dX37_measure_95 (by decide) (ls' := [some (.ref l0), some (.int l1), some (.int l2), some (.int s0), some (.int (0 : Int32))]) rfl ?_
  exact (pX37_measure_b97 hd N _ _ _ _ _ _ _ hf).to ⟨rfl, rfl, rfl, rfl, rfl, trivial⟩
def fX37_measure (N : Nat) (this : Nat) (p0 : Int32) (p1 : Int32) (h : eH) : Option (Unit × eH) :=
  (k_ok 36 h this).bind fun _ =>
  (fX37_firstOf N this p0 h).bind fun q2 =>
  (p_V 36 q2.2 this 29 (.int q2.1)).bind fun h3 =>
  (g_I 36 h3 this 29).bind fun x5 =>
  if p1 ≤ x5 then
    (g_I 36 h3 this 29).bind fun x8 =>
    fX37_measure_b25 N this p0 p1 x8 h3
  else
    fX37_measure_b25 N this p0 p1 p1 h3
theorem pX37_measure {w : eW} {d : Nat} (hd : 2 ≤ d) {N : Nat} {this : Nat} {p0 : Int32} {p1 : Int32} {h : eH} {q} (hf : fX37_measure N this p0 p1 h = some q) : wm w d YX37_measure [.ref this, .int p0, .int p1] h (e_is (e_rn c_V q)) := by
  obtain ⟨d, rfl⟩ : ∃ e, d = e + 1 := ⟨d - 1, by omega⟩
  show wp w (d + 1) YX37_measure 0 [some (.ref this), some (.int p0), some (.int p1), none, none] [] h _
  unfold fX37_measure at hf
  refine w_aload_n dX37_measure_0 rfl rfl ?_
  refine w_aload_n dX37_measure_1 rfl rfl ?_
  refine w_iload_n dX37_measure_2 rfl rfl ?_
  obtain ⟨_, b1, hf⟩ := Option.bind_eq_some_iff.mp hf
  refine x_cnI hf (e_stV (Yc := YX37_firstOf) (ci := 36) (av := [.int p0]) (st := [.ref this]) dX37_measure_3 q5810 mX37_firstOf rfl (k_ok_some b1).1 (k_ok_some b1).2) mX37_firstOf.2.2.1 mX37_firstOf.2.2.2.2.1 (Nat.le_of_ble_eq_true rfl) (Nat.le_of_ble_eq_true rfl) (fun q hq => pX37_firstOf (by omega) hq) (fun q2 hf => ?_)
  obtain ⟨h3, b4, hf⟩ := Option.bind_eq_some_iff.mp hf
  refine SX37_135 b4 dX37_measure_6 rfl ?_
  refine w_iload_n dX37_measure_9 rfl rfl ?_
  refine w_aload_n dX37_measure_10 rfl rfl ?_
  obtain ⟨x5, b6, hf⟩ := Option.bind_eq_some_iff.mp hf
  refine GX37_135 b6 dX37_measure_11 rfl ?_
  refine w_icmp_le 21 dX37_measure_14 (by decide) (fun c7 => ?_) (fun c7 => ?_)
  · replace hf := (if_pos (show p1 ≤ x5 from c7)).symm.trans hf
    refine w_aload_n dX37_measure_21 rfl rfl ?_
    obtain ⟨x8, b9, hf⟩ := Option.bind_eq_some_iff.mp hf
    refine GX37_135 b9 dX37_measure_22 rfl ?_
    exact (pX37_measure_b25 hd hf).to ⟨rfl, rfl, rfl, trivial⟩
  · replace hf := (if_neg (show ¬ (p1 ≤ x5) from c7)).symm.trans hf
    refine w_iload_n dX37_measure_17 rfl rfl ?_
    refine w_goto 25 dX37_measure_18 (by decide) ?_
    exact (pX37_measure_b25 hd hf).to ⟨rfl, rfl, rfl, trivial⟩
abbrev cX37_bad : ByteArray := prog_38_method_13_code
def yX37_bad : MethodName := ⟨RX37, "bad", "(JJ)I"⟩
def YX37_bad : eY := (yX37_bad, cX37_bad, 6, (Option.some FieldType.int), [])
theorem mX37_bad : e_ms YX37_bad 2 := ⟨q5827, q468, q5828, by decide, by decide +kernel, (e_sig (by decide +kernel))⟩
theorem dX37_bad_0 : decode cX37_bad 0 = .ok (.lload_n 0, 1) := dc_30 (by decide +kernel)
theorem dX37_bad_1 : decode cX37_bad 1 = .ok (.lconst 0, 1) := dc_9 (by decide +kernel)
theorem dX37_bad_2 : decode cX37_bad 2 = .ok (.lcmp, 1) := dc_148 (by decide +kernel)
theorem dX37_bad_3 : decode cX37_bad 3 = .ok (.ifCond .ne 5, 3) := dc_154 (a := 0) (b := 5) (v := 5) (by decide +kernel)
theorem dX37_bad_6 : decode cX37_bad 6 = .ok (.iconst 0, 1) := dc_3 (by decide +kernel)
theorem dX37_bad_7 : decode cX37_bad 7 = .ok (.ireturn, 1) := dc_172 (by decide +kernel)
theorem dX37_bad_8 : decode cX37_bad 8 = .ok (.lload_n 2, 1) := dc_32 (by decide +kernel)
theorem dX37_bad_9 : decode cX37_bad 9 = .ok (.lconst 0, 1) := dc_9 (by decide +kernel)
theorem dX37_bad_10 : decode cX37_bad 10 = .ok (.lcmp, 1) := dc_148 (by decide +kernel)
theorem dX37_bad_11 : decode cX37_bad 11 = .ok (.ifCond .ne 7, 3) := dc_154 (a := 0) (b := 7) (v := 7) (by decide +kernel)
theorem dX37_bad_14 : decode cX37_bad 14 = .ok (.sipush 10000, 3) := dc_17 (a := 39) (b := 16) (v := 10000) (by decide +kernel)
theorem dX37_bad_17 : decode cX37_bad 17 = .ok (.ireturn, 1) := dc_172 (by decide +kernel)
theorem dX37_bad_18 : decode cX37_bad 18 = .ok (.lload_n 0, 1) := dc_30 (by decide +kernel)
theorem dX37_bad_19 : decode cX37_bad 19 = .ok (.ldc2_w 147, 3) := dc_20 (a := 0) (b := 147) (n := 147) (by decide +kernel)
theorem dX37_bad_22 : decode cX37_bad 22 = .ok (.lcmp, 1) := dc_148 (by decide +kernel)
theorem dX37_bad_23 : decode cX37_bad 23 = .ok (.ifCond .gt 13, 3) := dc_157 (a := 0) (b := 13) (v := 13) (by decide +kernel)
theorem dX37_bad_26 : decode cX37_bad 26 = .ok (.ldc2_w 149, 3) := dc_20 (a := 0) (b := 149) (n := 149) (by decide +kernel)
theorem dX37_bad_29 : decode cX37_bad 29 = .ok (.lload_n 0, 1) := dc_30 (by decide +kernel)
theorem dX37_bad_30 : decode cX37_bad 30 = .ok (.lmul, 1) := dc_105 (by decide +kernel)
theorem dX37_bad_31 : decode cX37_bad 31 = .ok (.lload_n 2, 1) := dc_32 (by decide +kernel)
theorem dX37_bad_32 : decode cX37_bad 32 = .ok (.ldiv, 1) := dc_109 (by decide +kernel)
theorem dX37_bad_33 : decode cX37_bad 33 = .ok (.goto 22, 3) := dc_167 (a := 0) (b := 22) (v := 22) (by decide +kernel)
theorem dX37_bad_36 : decode cX37_bad 36 = .ok (.lload_n 2, 1) := dc_32 (by decide +kernel)
theorem dX37_bad_37 : decode cX37_bad 37 = .ok (.ldc2_w 151, 3) := dc_20 (a := 0) (b := 151) (n := 151) (by decide +kernel)
theorem dX37_bad_40 : decode cX37_bad 40 = .ok (.lcmp, 1) := dc_148 (by decide +kernel)
theorem dX37_bad_41 : decode cX37_bad 41 = .ok (.ifCond .lt 13, 3) := dc_155 (a := 0) (b := 13) (v := 13) (by decide +kernel)
theorem dX37_bad_44 : decode cX37_bad 44 = .ok (.lload_n 0, 1) := dc_30 (by decide +kernel)
theorem dX37_bad_45 : decode cX37_bad 45 = .ok (.lload_n 2, 1) := dc_32 (by decide +kernel)
theorem dX37_bad_46 : decode cX37_bad 46 = .ok (.ldc2_w 149, 3) := dc_20 (a := 0) (b := 149) (n := 149) (by decide +kernel)
theorem dX37_bad_49 : decode cX37_bad 49 = .ok (.ldiv, 1) := dc_109 (by decide +kernel)
theorem dX37_bad_50 : decode cX37_bad 50 = .ok (.ldiv, 1) := dc_109 (by decide +kernel)
theorem dX37_bad_51 : decode cX37_bad 51 = .ok (.goto 4, 3) := dc_167 (a := 0) (b := 4) (v := 4) (by decide +kernel)
theorem dX37_bad_54 : decode cX37_bad 54 = .ok (.lload_n 0, 1) := dc_30 (by decide +kernel)
theorem dX37_bad_55 : decode cX37_bad 55 = .ok (.lstore 4, 2) := dc_55 (a := 4) (by decide +kernel)
theorem dX37_bad_57 : decode cX37_bad 57 = .ok (.lload 4, 2) := dc_22 (a := 4) (by decide +kernel)
theorem dX37_bad_59 : decode cX37_bad 59 = .ok (.ldc2_w 153, 3) := dc_20 (a := 0) (b := 153) (n := 153) (by decide +kernel)
theorem dX37_bad_62 : decode cX37_bad 62 = .ok (.lcmp, 1) := dc_148 (by decide +kernel)
theorem dX37_bad_63 : decode cX37_bad 63 = .ok (.ifCond .le 9, 3) := dc_158 (a := 0) (b := 9) (v := 9) (by decide +kernel)
theorem dX37_bad_66 : decode cX37_bad 66 = .ok (.sipush 10000, 3) := dc_17 (a := 39) (b := 16) (v := 10000) (by decide +kernel)
theorem dX37_bad_69 : decode cX37_bad 69 = .ok (.goto 20, 3) := dc_167 (a := 0) (b := 20) (v := 20) (by decide +kernel)
theorem dX37_bad_72 : decode cX37_bad 72 = .ok (.lload 4, 2) := dc_22 (a := 4) (by decide +kernel)
theorem dX37_bad_74 : decode cX37_bad 74 = .ok (.lload 4, 2) := dc_22 (a := 4) (by decide +kernel)
theorem dX37_bad_76 : decode cX37_bad 76 = .ok (.lmul, 1) := dc_105 (by decide +kernel)
theorem dX37_bad_77 : decode cX37_bad 77 = .ok (.lload 4, 2) := dc_22 (a := 4) (by decide +kernel)
theorem dX37_bad_79 : decode cX37_bad 79 = .ok (.lmul, 1) := dc_105 (by decide +kernel)
theorem dX37_bad_80 : decode cX37_bad 80 = .ok (.ldc2_w 155, 3) := dc_20 (a := 0) (b := 155) (n := 155) (by decide +kernel)
theorem dX37_bad_83 : decode cX37_bad 83 = .ok (.ladd, 1) := dc_97 (by decide +kernel)
theorem dX37_bad_84 : decode cX37_bad 84 = .ok (.ldc2_w 157, 3) := dc_20 (a := 0) (b := 157) (n := 157) (by decide +kernel)
theorem dX37_bad_87 : decode cX37_bad 87 = .ok (.ldiv, 1) := dc_109 (by decide +kernel)
theorem dX37_bad_88 : decode cX37_bad 88 = .ok (.l2i, 1) := dc_136 (by decide +kernel)
theorem dX37_bad_89 : decode cX37_bad 89 = .ok (.ireturn, 1) := dc_172 (by decide +kernel)
def fX37_bad_b89 (s0 : Int32) (h : eH) : Option (Int32 × eH) :=
  some (s0, h)
theorem pX37_bad_b89 {w : eW} {d : Nat} (hd : 0 ≤ d) {s0 : Int32} {h : eH} {q} (hf : fX37_bad_b89 s0 h = some q) : wp w d YX37_bad 89 [none, none, none, none, none, none] [.int s0] h (e_is (e_rn c_I q)) := by
  unfold fX37_bad_b89 at hf
  cases hf
  exact w_iret dX37_bad_89 rfl rfl rfl
def fX37_bad_b55 (s0 : Int64) (h : eH) : Option (Int32 × eH) :=
  if (lg_cmp s0 (1290 : Int64)) ≤ 0 then
    fX37_bad_b89 (((((s0 * s0) * s0) + (131072 : Int64)) / (262144 : Int64))).toInt32 h
  else
    fX37_bad_b89 (10000 : Int32) h
theorem pX37_bad_b55 {w : eW} {d : Nat} (hd : 0 ≤ d) {s0 : Int64} {h : eH} {q} (hf : fX37_bad_b55 s0 h = some q) : wp w d YX37_bad 55 [none, none, none, none, none, none] [.long s0] h (e_is (e_rn c_I q)) := by
  unfold fX37_bad_b55 at hf
  refine w_lstore dX37_bad_55 (by decide) (ls' := [none, none, none, none, some (.long s0), none]) rfl ?_
  refine w_lload dX37_bad_57 rfl ?_
  refine w_ldc2 dX37_bad_59 q5832 ?_
  refine w_lcmp dX37_bad_62 ?_
  refine w_if_le 72 dX37_bad_63 (by decide) (fun c1 => ?_) (fun c1 => ?_)
  · replace hf := (if_pos (show (lg_cmp s0 (1290 : Int64)) ≤ 0 from c1)).symm.trans hf
    refine w_lload dX37_bad_72 rfl ?_
    refine w_lload dX37_bad_74 rfl ?_
    refine w_lmul dX37_bad_76 ?_
    refine w_lload dX37_bad_77 rfl ?_
    refine w_lmul dX37_bad_79 ?_
    refine w_ldc2 dX37_bad_80 q5833 ?_
    refine w_ladd dX37_bad_83 ?_
    refine w_ldc2 dX37_bad_84 q5834 ?_
    refine w_ldiv dX37_bad_87 (by decide) ?_
    refine w_l2i dX37_bad_88 ?_
    exact (pX37_bad_b89 hd hf).to trivial
  · replace hf := (if_neg (show ¬ ((lg_cmp s0 (1290 : Int64)) ≤ 0) from c1)).symm.trans hf
    refine w_sipush dX37_bad_66 (v := 10000) (by decide) ?_
    refine w_goto 89 dX37_bad_69 (by decide) ?_
    exact (pX37_bad_b89 hd hf).to trivial
def fX37_bad (p0 : Int64) (p1 : Int64) (h : eH) : Option (Int32 × eH) :=
  if ¬ (lg_cmp p0 (0 : Int64)) = 0 then
    if ¬ (lg_cmp p1 (0 : Int64)) = 0 then
      if 0 < (lg_cmp p0 (7230584 : Int64)) then
        if (lg_cmp p1 (1663497 : Int64)) < 0 then
          fX37_bad_b55 p0 h
        else
          if (p1 / (297 : Int64)) = 0 then none else
          fX37_bad_b55 (p0 / (p1 / (297 : Int64))) h
      else
        if p1 = 0 then none else
        fX37_bad_b55 (((297 : Int64) * p0) / p1) h
    else
      some ((10000 : Int32), h)
  else
    some ((0 : Int32), h)
theorem pX37_bad {w : eW} {d : Nat} (hd : 0 ≤ d) {p0 : Int64} {p1 : Int64} {h : eH} {q} (hf : fX37_bad p0 p1 h = some q) : wm w d YX37_bad [.long p0, .long p1] h (e_is (e_rn c_I q)) := by
  show wp w d YX37_bad 0 [some (.long p0), none, some (.long p1), none, none, none] [] h _
  unfold fX37_bad at hf
  refine w_lload_n dX37_bad_0 rfl rfl ?_
  refine w_lconst dX37_bad_1 (v := 0) (by decide) ?_
  refine w_lcmp dX37_bad_2 ?_
  refine w_if_ne 8 dX37_bad_3 (by decide) (fun c1 => ?_) (fun c1 => ?_)
  · replace hf := (if_pos (show ¬ (lg_cmp p0 (0 : Int64)) = 0 from c1)).symm.trans hf
    refine w_lload_n dX37_bad_8 rfl rfl ?_
    refine w_lconst dX37_bad_9 (v := 0) (by decide) ?_
    refine w_lcmp dX37_bad_10 ?_
    refine w_if_ne 18 dX37_bad_11 (by decide) (fun c2 => ?_) (fun c2 => ?_)
    · replace hf := (if_pos (show ¬ (lg_cmp p1 (0 : Int64)) = 0 from c2)).symm.trans hf
      refine w_lload_n dX37_bad_18 rfl rfl ?_
      refine w_ldc2 dX37_bad_19 q5829 ?_
      refine w_lcmp dX37_bad_22 ?_
      refine w_if_gt 36 dX37_bad_23 (by decide) (fun c3 => ?_) (fun c3 => ?_)
      · replace hf := (if_pos (show 0 < (lg_cmp p0 (7230584 : Int64)) from c3)).symm.trans hf
        refine w_lload_n dX37_bad_36 rfl rfl ?_
        refine w_ldc2 dX37_bad_37 q5831 ?_
        refine w_lcmp dX37_bad_40 ?_
        refine w_if_lt 54 dX37_bad_41 (by decide) (fun c4 => ?_) (fun c4 => ?_)
        · replace hf := (if_pos (show (lg_cmp p1 (1663497 : Int64)) < 0 from c4)).symm.trans hf
          refine w_lload_n dX37_bad_54 rfl rfl ?_
          exact (pX37_bad_b55 hd hf).to trivial
        · replace hf := (if_neg (show ¬ ((lg_cmp p1 (1663497 : Int64)) < 0) from c4)).symm.trans hf
          refine w_lload_n dX37_bad_44 rfl rfl ?_
          refine w_lload_n dX37_bad_45 rfl rfl ?_
          refine w_ldc2 dX37_bad_46 q5830 ?_
          refine w_ldiv dX37_bad_49 (by decide) ?_
          by_cases c5 : (p1 / (297 : Int64)) = 0
          · exact absurd ((if_pos c5).symm.trans hf) (by simp)
          replace hf := (if_neg c5).symm.trans hf
          refine w_ldiv dX37_bad_50 c5 ?_
          refine w_goto 55 dX37_bad_51 (by decide) ?_
          exact (pX37_bad_b55 hd hf).to trivial
      · replace hf := (if_neg (show ¬ (0 < (lg_cmp p0 (7230584 : Int64))) from c3)).symm.trans hf
        refine w_ldc2 dX37_bad_26 q5830 ?_
        refine w_lload_n dX37_bad_29 rfl rfl ?_
        refine w_lmul dX37_bad_30 ?_
        refine w_lload_n dX37_bad_31 rfl rfl ?_
        by_cases c6 : p1 = 0
        · exact absurd ((if_pos c6).symm.trans hf) (by simp)
        replace hf := (if_neg c6).symm.trans hf
        refine w_ldiv dX37_bad_32 c6 ?_
        refine w_goto 55 dX37_bad_33 (by decide) ?_
        exact (pX37_bad_b55 hd hf).to trivial
    · replace hf := (if_neg (show ¬ (¬ (lg_cmp p1 (0 : Int64)) = 0) from (fun z => z c2))).symm.trans hf
      refine w_sipush dX37_bad_14 (v := 10000) (by decide) ?_
      cases hf
      exact w_iret dX37_bad_17 rfl rfl rfl
  · replace hf := (if_neg (show ¬ (¬ (lg_cmp p0 (0 : Int64)) = 0) from (fun z => z c1))).symm.trans hf
    refine w_iconst dX37_bad_6 (v := 0) (by decide) ?_
    cases hf
    exact w_iret dX37_bad_7 rfl rfl rfl
abbrev cX37_judge : ByteArray := prog_38_method_14_code
def yX37_judge : MethodName := ⟨RX37, "judge", "(I)V"⟩
def YX37_judge : eY := (yX37_judge, cX37_judge, 5, none, [])
theorem mX37_judge : e_mv YX37_judge RX37 1 := ⟨q5824, qs381, q5825, by decide, by decide +kernel, (e_sig (by decide +kernel))⟩
theorem dX37_judge_0 : decode cX37_judge 0 = .ok (.aload_n 0, 1) := dc_42 (by decide +kernel)
theorem dX37_judge_1 : decode cX37_judge 1 = .ok (.getfield 159, 3) := dc_180 (a := 0) (b := 159) (n := 159) (by decide +kernel)
theorem dX37_judge_4 : decode cX37_judge 4 = .ok (.i2l, 1) := dc_133 (by decide +kernel)
theorem dX37_judge_5 : decode cX37_judge 5 = .ok (.aload_n 0, 1) := dc_42 (by decide +kernel)
theorem dX37_judge_6 : decode cX37_judge 6 = .ok (.getfield 138, 3) := dc_180 (a := 0) (b := 138) (n := 138) (by decide +kernel)
theorem dX37_judge_9 : decode cX37_judge 9 = .ok (.i2l, 1) := dc_133 (by decide +kernel)
theorem dX37_judge_10 : decode cX37_judge 10 = .ok (.lsub, 1) := dc_101 (by decide +kernel)
theorem dX37_judge_11 : decode cX37_judge 11 = .ok (.lstore_n 2, 1) := dc_65 (by decide +kernel)
theorem dX37_judge_12 : decode cX37_judge 12 = .ok (.aload_n 0, 1) := dc_42 (by decide +kernel)
theorem dX37_judge_13 : decode cX37_judge 13 = .ok (.lload_n 2, 1) := dc_32 (by decide +kernel)
theorem dX37_judge_14 : decode cX37_judge 14 = .ok (.l2i, 1) := dc_136 (by decide +kernel)
theorem dX37_judge_15 : decode cX37_judge 15 = .ok (.putfield 162, 3) := dc_181 (a := 0) (b := 162) (n := 162) (by decide +kernel)
theorem dX37_judge_18 : decode cX37_judge 18 = .ok (.lload_n 2, 1) := dc_32 (by decide +kernel)
theorem dX37_judge_19 : decode cX37_judge 19 = .ok (.lconst 0, 1) := dc_9 (by decide +kernel)
theorem dX37_judge_20 : decode cX37_judge 20 = .ok (.lcmp, 1) := dc_148 (by decide +kernel)
theorem dX37_judge_21 : decode cX37_judge 21 = .ok (.ifCond .le 95, 3) := dc_158 (a := 0) (b := 95) (v := 95) (by decide +kernel)
theorem dX37_judge_24 : decode cX37_judge 24 = .ok (.aload_n 0, 1) := dc_42 (by decide +kernel)
theorem dX37_judge_25 : decode cX37_judge 25 = .ok (.getfield 69, 3) := dc_180 (a := 0) (b := 69) (n := 69) (by decide +kernel)
theorem dX37_judge_28 : decode cX37_judge 28 = .ok (.iconst 1, 1) := dc_4 (by decide +kernel)
theorem dX37_judge_29 : decode cX37_judge 29 = .ok (.iaload, 1) := dc_46 (by decide +kernel)
theorem dX37_judge_30 : decode cX37_judge 30 = .ok (.ifCond .gt 21, 3) := dc_157 (a := 0) (b := 21) (v := 21) (by decide +kernel)
theorem dX37_judge_33 : decode cX37_judge 33 = .ok (.aload_n 0, 1) := dc_42 (by decide +kernel)
theorem dX37_judge_34 : decode cX37_judge 34 = .ok (.getfield 69, 3) := dc_180 (a := 0) (b := 69) (n := 69) (by decide +kernel)
theorem dX37_judge_37 : decode cX37_judge 37 = .ok (.iconst 2, 1) := dc_5 (by decide +kernel)
theorem dX37_judge_38 : decode cX37_judge 38 = .ok (.iaload, 1) := dc_46 (by decide +kernel)
theorem dX37_judge_39 : decode cX37_judge 39 = .ok (.ifCond .gt 12, 3) := dc_157 (a := 0) (b := 12) (v := 12) (by decide +kernel)
theorem dX37_judge_42 : decode cX37_judge 42 = .ok (.aload_n 0, 1) := dc_42 (by decide +kernel)
theorem dX37_judge_43 : decode cX37_judge 43 = .ok (.getfield 69, 3) := dc_180 (a := 0) (b := 69) (n := 69) (by decide +kernel)
theorem dX37_judge_46 : decode cX37_judge 46 = .ok (.iconst 3, 1) := dc_6 (by decide +kernel)
theorem dX37_judge_47 : decode cX37_judge 47 = .ok (.iaload, 1) := dc_46 (by decide +kernel)
theorem dX37_judge_48 : decode cX37_judge 48 = .ok (.ifCond .le 7, 3) := dc_158 (a := 0) (b := 7) (v := 7) (by decide +kernel)
theorem dX37_judge_51 : decode cX37_judge 51 = .ok (.iconst 1, 1) := dc_4 (by decide +kernel)
theorem dX37_judge_52 : decode cX37_judge 52 = .ok (.goto 4, 3) := dc_167 (a := 0) (b := 4) (v := 4) (by decide +kernel)
theorem dX37_judge_55 : decode cX37_judge 55 = .ok (.iconst 0, 1) := dc_3 (by decide +kernel)
theorem dX37_judge_56 : decode cX37_judge 56 = .ok (.istore 4, 2) := dc_54 (a := 4) (by decide +kernel)
theorem dX37_judge_58 : decode cX37_judge 58 = .ok (.aload_n 0, 1) := dc_42 (by decide +kernel)
theorem dX37_judge_59 : decode cX37_judge 59 = .ok (.iload 4, 2) := dc_21 (a := 4) (by decide +kernel)
theorem dX37_judge_61 : decode cX37_judge 61 = .ok (.ifCond .eq 7, 3) := dc_153 (a := 0) (b := 7) (v := 7) (by decide +kernel)
theorem dX37_judge_64 : decode cX37_judge 64 = .ok (.iconst 0, 1) := dc_3 (by decide +kernel)
theorem dX37_judge_65 : decode cX37_judge 65 = .ok (.goto 14, 3) := dc_167 (a := 0) (b := 14) (v := 14) (by decide +kernel)
theorem dX37_judge_68 : decode cX37_judge 68 = .ok (.lload_n 2, 1) := dc_32 (by decide +kernel)
theorem dX37_judge_69 : decode cX37_judge 69 = .ok (.aload_n 0, 1) := dc_42 (by decide +kernel)
theorem dX37_judge_70 : decode cX37_judge 70 = .ok (.getfield 69, 3) := dc_180 (a := 0) (b := 69) (n := 69) (by decide +kernel)
theorem dX37_judge_73 : decode cX37_judge 73 = .ok (.iconst 0, 1) := dc_3 (by decide +kernel)
theorem dX37_judge_74 : decode cX37_judge 74 = .ok (.iaload, 1) := dc_46 (by decide +kernel)
theorem dX37_judge_75 : decode cX37_judge 75 = .ok (.i2l, 1) := dc_133 (by decide +kernel)
theorem dX37_judge_76 : decode cX37_judge 76 = .ok (.invokestatic 165, 3) := dc_184 (a := 0) (b := 165) (n := 165) (by decide +kernel)
theorem dX37_judge_79 : decode cX37_judge 79 = .ok (.putfield 169, 3) := dc_181 (a := 0) (b := 169) (n := 169) (by decide +kernel)
theorem dX37_judge_82 : decode cX37_judge 82 = .ok (.aload_n 0, 1) := dc_42 (by decide +kernel)
theorem dX37_judge_83 : decode cX37_judge 83 = .ok (.aload_n 0, 1) := dc_42 (by decide +kernel)
theorem dX37_judge_84 : decode cX37_judge 84 = .ok (.getfield 169, 3) := dc_180 (a := 0) (b := 169) (n := 169) (by decide +kernel)
theorem dX37_judge_87 : decode cX37_judge 87 = .ok (.bipush 99, 2) := dc_16 (a := 99) (v := 99) (by decide +kernel)
theorem dX37_judge_89 : decode cX37_judge 89 = .ok (.if_icmp .le 7, 3) := dc_164 (a := 0) (b := 7) (v := 7) (by decide +kernel)
theorem dX37_judge_92 : decode cX37_judge 92 = .ok (.iconst 0, 1) := dc_3 (by decide +kernel)
theorem dX37_judge_93 : decode cX37_judge 93 = .ok (.goto 17, 3) := dc_167 (a := 0) (b := 17) (v := 17) (by decide +kernel)
theorem dX37_judge_96 : decode cX37_judge 96 = .ok (.aload_n 0, 1) := dc_42 (by decide +kernel)
theorem dX37_judge_97 : decode cX37_judge 97 = .ok (.getfield 169, 3) := dc_180 (a := 0) (b := 169) (n := 169) (by decide +kernel)
theorem dX37_judge_100 : decode cX37_judge 100 = .ok (.bipush 12, 2) := dc_16 (a := 12) (v := 12) (by decide +kernel)
theorem dX37_judge_102 : decode cX37_judge 102 = .ok (.if_icmp .le 7, 3) := dc_164 (a := 0) (b := 7) (v := 7) (by decide +kernel)
theorem dX37_judge_105 : decode cX37_judge 105 = .ok (.iconst 1, 1) := dc_4 (by decide +kernel)
theorem dX37_judge_106 : decode cX37_judge 106 = .ok (.goto 4, 3) := dc_167 (a := 0) (b := 4) (v := 4) (by decide +kernel)
theorem dX37_judge_109 : decode cX37_judge 109 = .ok (.iconst 2, 1) := dc_5 (by decide +kernel)
theorem dX37_judge_110 : decode cX37_judge 110 = .ok (.putfield 172, 3) := dc_181 (a := 0) (b := 172) (n := 172) (by decide +kernel)
theorem dX37_judge_113 : decode cX37_judge 113 = .ok (.goto 61, 3) := dc_167 (a := 0) (b := 61) (v := 61) (by decide +kernel)
theorem dX37_judge_116 : decode cX37_judge 116 = .ok (.aload_n 0, 1) := dc_42 (by decide +kernel)
theorem dX37_judge_117 : decode cX37_judge 117 = .ok (.getfield 141, 3) := dc_180 (a := 0) (b := 141) (n := 141) (by decide +kernel)
theorem dX37_judge_120 : decode cX37_judge 120 = .ok (.i2l, 1) := dc_133 (by decide +kernel)
theorem dX37_judge_121 : decode cX37_judge 121 = .ok (.lload_n 2, 1) := dc_32 (by decide +kernel)
theorem dX37_judge_122 : decode cX37_judge 122 = .ok (.lneg, 1) := dc_117 (by decide +kernel)
theorem dX37_judge_123 : decode cX37_judge 123 = .ok (.lcmp, 1) := dc_148 (by decide +kernel)
theorem dX37_judge_124 : decode cX37_judge 124 = .ok (.ifCond .ge 18, 3) := dc_156 (a := 0) (b := 18) (v := 18) (by decide +kernel)
theorem dX37_judge_127 : decode cX37_judge 127 = .ok (.aload_n 0, 1) := dc_42 (by decide +kernel)
theorem dX37_judge_128 : decode cX37_judge 128 = .ok (.sipush 10001, 3) := dc_17 (a := 39) (b := 17) (v := 10001) (by decide +kernel)
theorem dX37_judge_131 : decode cX37_judge 131 = .ok (.putfield 169, 3) := dc_181 (a := 0) (b := 169) (n := 169) (by decide +kernel)
theorem dX37_judge_134 : decode cX37_judge 134 = .ok (.aload_n 0, 1) := dc_42 (by decide +kernel)
theorem dX37_judge_135 : decode cX37_judge 135 = .ok (.iconst 3, 1) := dc_6 (by decide +kernel)
theorem dX37_judge_136 : decode cX37_judge 136 = .ok (.putfield 172, 3) := dc_181 (a := 0) (b := 172) (n := 172) (by decide +kernel)
theorem dX37_judge_139 : decode cX37_judge 139 = .ok (.goto 35, 3) := dc_167 (a := 0) (b := 35) (v := 35) (by decide +kernel)
theorem dX37_judge_142 : decode cX37_judge 142 = .ok (.aload_n 0, 1) := dc_42 (by decide +kernel)
theorem dX37_judge_143 : decode cX37_judge 143 = .ok (.lload_n 2, 1) := dc_32 (by decide +kernel)
theorem dX37_judge_144 : decode cX37_judge 144 = .ok (.lneg, 1) := dc_117 (by decide +kernel)
theorem dX37_judge_145 : decode cX37_judge 145 = .ok (.aload_n 0, 1) := dc_42 (by decide +kernel)
theorem dX37_judge_146 : decode cX37_judge 146 = .ok (.getfield 141, 3) := dc_180 (a := 0) (b := 141) (n := 141) (by decide +kernel)
theorem dX37_judge_149 : decode cX37_judge 149 = .ok (.i2l, 1) := dc_133 (by decide +kernel)
theorem dX37_judge_150 : decode cX37_judge 150 = .ok (.invokestatic 165, 3) := dc_184 (a := 0) (b := 165) (n := 165) (by decide +kernel)
theorem dX37_judge_153 : decode cX37_judge 153 = .ok (.putfield 169, 3) := dc_181 (a := 0) (b := 169) (n := 169) (by decide +kernel)
theorem dX37_judge_156 : decode cX37_judge 156 = .ok (.aload_n 0, 1) := dc_42 (by decide +kernel)
theorem dX37_judge_157 : decode cX37_judge 157 = .ok (.aload_n 0, 1) := dc_42 (by decide +kernel)
theorem dX37_judge_158 : decode cX37_judge 158 = .ok (.getfield 169, 3) := dc_180 (a := 0) (b := 169) (n := 169) (by decide +kernel)
theorem dX37_judge_161 : decode cX37_judge 161 = .ok (.bipush 12, 2) := dc_16 (a := 12) (v := 12) (by decide +kernel)
theorem dX37_judge_163 : decode cX37_judge 163 = .ok (.if_icmp .le 7, 3) := dc_164 (a := 0) (b := 7) (v := 7) (by decide +kernel)
theorem dX37_judge_166 : decode cX37_judge 166 = .ok (.iconst 3, 1) := dc_6 (by decide +kernel)
theorem dX37_judge_167 : decode cX37_judge 167 = .ok (.goto 4, 3) := dc_167 (a := 0) (b := 4) (v := 4) (by decide +kernel)
theorem dX37_judge_170 : decode cX37_judge 170 = .ok (.iconst 2, 1) := dc_5 (by decide +kernel)
theorem dX37_judge_171 : decode cX37_judge 171 = .ok (.putfield 172, 3) := dc_181 (a := 0) (b := 172) (n := 172) (by decide +kernel)
theorem dX37_judge_174 : decode cX37_judge 174 = .ok (.return_, 1) := dc_177 (by decide +kernel)
theorem GX37_141 {w : eW} {d : Nat} {Y : eY} {pc : Nat} {ls : eL} {st : List Value} {h : eH} {Q : eO → eH → Prop} {a : Nat} {x : Int32} (hf : g_I 36 h a 32 = some x) (hd : decode Y.2.1 pc = .ok (.getfield 141, 3)) (hY : Y.1.cls = RX37) (kk : wp w d Y (pc + 3) ls (.int x :: st) h Q) : wp w d Y pc ls (.ref a :: st) h Q := x_gI (ci := 36) (k := 32) hf hd rfl (by decide) (by rw [hY]; exact q4267) kk
theorem GX37_159 {w : eW} {d : Nat} {Y : eY} {pc : Nat} {ls : eL} {st : List Value} {h : eH} {Q : eO → eH → Prop} {a : Nat} {x : Int32} (hf : g_I 36 h a 11 = some x) (hd : decode Y.2.1 pc = .ok (.getfield 159, 3)) (hY : Y.1.cls = RX37) (kk : wp w d Y (pc + 3) ls (.int x :: st) h Q) : wp w d Y pc ls (.ref a :: st) h Q := x_gI (ci := 36) (k := 11) hf hd rfl (by decide) (by rw [hY]; exact q4240) kk
theorem GX37_169 {w : eW} {d : Nat} {Y : eY} {pc : Nat} {ls : eL} {st : List Value} {h : eH} {Q : eO → eH → Prop} {a : Nat} {x : Int32} (hf : g_I 36 h a 34 = some x) (hd : decode Y.2.1 pc = .ok (.getfield 169, 3)) (hY : Y.1.cls = RX37) (kk : wp w d Y (pc + 3) ls (.int x :: st) h Q) : wp w d Y pc ls (.ref a :: st) h Q := x_gI (ci := 36) (k := 34) hf hd rfl (by decide) (by rw [hY]; exact q4269) kk
theorem SX37_162 {w : eW} {d : Nat} {Y : eY} {pc : Nat} {ls : eL} {st : List Value} {h : eH} {Q : eO → eH → Prop} {a : Nat} {h' : eH} {x : Int32} (hf : p_V 36 h a 33 (.int x) = some h') (hd : decode Y.2.1 pc = .ok (.putfield 162, 3)) (hY : Y.1.cls = RX37) (kk : wp w d Y (pc + 3) ls st h' Q) : wp w d Y pc ls (.int x :: .ref a :: st) h Q := x_pI (ci := 36) (k := 33) hf hd rfl (by decide) (by rw [hY]; exact q4268) rfl rfl kk
theorem SX37_169 {w : eW} {d : Nat} {Y : eY} {pc : Nat} {ls : eL} {st : List Value} {h : eH} {Q : eO → eH → Prop} {a : Nat} {h' : eH} {x : Int32} (hf : p_V 36 h a 34 (.int x) = some h') (hd : decode Y.2.1 pc = .ok (.putfield 169, 3)) (hY : Y.1.cls = RX37) (kk : wp w d Y (pc + 3) ls st h' Q) : wp w d Y pc ls (.int x :: .ref a :: st) h Q := x_pI (ci := 36) (k := 34) hf hd rfl (by decide) (by rw [hY]; exact q4269) rfl rfl kk
theorem SX37_172 {w : eW} {d : Nat} {Y : eY} {pc : Nat} {ls : eL} {st : List Value} {h : eH} {Q : eO → eH → Prop} {a : Nat} {h' : eH} {x : Int32} (hf : p_V 36 h a 35 (.int x) = some h') (hd : decode Y.2.1 pc = .ok (.putfield 172, 3)) (hY : Y.1.cls = RX37) (kk : wp w d Y (pc + 3) ls st h' Q) : wp w d Y pc ls (.int x :: .ref a :: st) h Q := x_pI (ci := 36) (k := 35) hf hd rfl (by decide) (by rw [hY]; exact q4270) rfl rfl kk
def fX37_judge_b174  (h : eH) : Option (Unit × eH) :=
  some ((), h)
theorem pX37_judge_b174 {w : eW} {d : Nat} (hd : 1 ≤ d + 1)  {h : eH} {q} (hf : fX37_judge_b174  h = some q) : wp w (d + 1) YX37_judge 174 [none, none, none, none, none] [] h (e_is (e_rn c_V q)) := by
  unfold fX37_judge_b174 at hf
  cases hf
  exact w_vret dX37_judge_174 rfl rfl
def fX37_judge_b110 (s0 : Nat) (s1 : Int32) (h : eH) : Option (Unit × eH) :=
  (p_V 36 h s0 35 (.int s1)).bind fun h1 =>
  fX37_judge_b174 h1
theorem pX37_judge_b110 {w : eW} {d : Nat} (hd : 1 ≤ d + 1) {s0 : Nat} {s1 : Int32} {h : eH} {q} (hf : fX37_judge_b110 s0 s1 h = some q) : wp w (d + 1) YX37_judge 110 [none, none, none, none, none] [.int s1, .ref s0] h (e_is (e_rn c_V q)) := by
  unfold fX37_judge_b110 at hf
  obtain ⟨h1, b2, hf⟩ := Option.bind_eq_some_iff.mp hf
  refine SX37_172 b2 dX37_judge_110 rfl ?_
  refine w_goto 174 dX37_judge_113 (by decide) ?_
  exact (pX37_judge_b174 hd hf).to trivial
def fX37_judge_b79 (l0 : Nat) (s0 : Nat) (s1 : Int32) (h : eH) : Option (Unit × eH) :=
  (p_V 36 h s0 34 (.int s1)).bind fun h1 =>
  (g_I 36 h1 l0 34).bind fun x3 =>
  if x3 ≤ (99 : Int32) then
    (g_I 36 h1 l0 34).bind fun x6 =>
    if x6 ≤ (12 : Int32) then
      fX37_judge_b110 l0 (2 : Int32) h1
    else
      fX37_judge_b110 l0 (1 : Int32) h1
  else
    fX37_judge_b110 l0 (0 : Int32) h1
theorem pX37_judge_b79 {w : eW} {d : Nat} (hd : 1 ≤ d + 1) {l0 : Nat} {s0 : Nat} {s1 : Int32} {h : eH} {q} (hf : fX37_judge_b79 l0 s0 s1 h = some q) : wp w (d + 1) YX37_judge 79 [some (.ref l0), none, none, none, none] [.int s1, .ref s0] h (e_is (e_rn c_V q)) := by
  unfold fX37_judge_b79 at hf
  obtain ⟨h1, b2, hf⟩ := Option.bind_eq_some_iff.mp hf
  refine SX37_169 b2 dX37_judge_79 rfl ?_
  refine w_aload_n dX37_judge_82 rfl rfl ?_
  refine w_aload_n dX37_judge_83 rfl rfl ?_
  obtain ⟨x3, b4, hf⟩ := Option.bind_eq_some_iff.mp hf
  refine GX37_169 b4 dX37_judge_84 rfl ?_
  refine w_bipush dX37_judge_87 (v := 99) (by decide) ?_
  refine w_icmp_le 96 dX37_judge_89 (by decide) (fun c5 => ?_) (fun c5 => ?_)
  · replace hf := (if_pos (show x3 ≤ (99 : Int32) from c5)).symm.trans hf
    refine w_aload_n dX37_judge_96 rfl rfl ?_
    obtain ⟨x6, b7, hf⟩ := Option.bind_eq_some_iff.mp hf
    refine GX37_169 b7 dX37_judge_97 rfl ?_
    refine w_bipush dX37_judge_100 (v := 12) (by decide) ?_
    refine w_icmp_le 109 dX37_judge_102 (by decide) (fun c8 => ?_) (fun c8 => ?_)
    · replace hf := (if_pos (show x6 ≤ (12 : Int32) from c8)).symm.trans hf
      refine w_iconst dX37_judge_109 (v := 2) (by decide) ?_
      exact (pX37_judge_b110 hd hf).to trivial
    · replace hf := (if_neg (show ¬ (x6 ≤ (12 : Int32)) from c8)).symm.trans hf
      refine w_iconst dX37_judge_105 (v := 1) (by decide) ?_
      refine w_goto 110 dX37_judge_106 (by decide) ?_
      exact (pX37_judge_b110 hd hf).to trivial
  · replace hf := (if_neg (show ¬ (x3 ≤ (99 : Int32)) from c5)).symm.trans hf
    refine w_iconst dX37_judge_92 (v := 0) (by decide) ?_
    refine w_goto 110 dX37_judge_93 (by decide) ?_
    exact (pX37_judge_b110 hd hf).to trivial
def fX37_judge_b56 (l0 : Nat) (l2 : Int64) (s0 : Int32) (h : eH) : Option (Unit × eH) :=
  if s0 = 0 then
    (g_A 36 h l0 31).bind fun a2 =>
    (r_I 100 h a2 (0 : Int32)).bind fun x4 =>
    (fX37_bad l2 (x4).toInt64 h).bind fun q6 =>
    fX37_judge_b79 l0 l0 q6.1 q6.2
  else
    fX37_judge_b79 l0 l0 (0 : Int32) h
theorem pX37_judge_b56 {w : eW} {d : Nat} (hd : 1 ≤ d + 1) {l0 : Nat} {l2 : Int64} {s0 : Int32} {h : eH} {q} (hf : fX37_judge_b56 l0 l2 s0 h = some q) : wp w (d + 1) YX37_judge 56 [some (.ref l0), none, some (.long l2), none, none] [.int s0] h (e_is (e_rn c_V q)) := by
  unfold fX37_judge_b56 at hf
  refine w_istore dX37_judge_56 (by decide) (ls' := [some (.ref l0), none, some (.long l2), none, some (.int s0)]) rfl ?_
  refine w_aload_n dX37_judge_58 rfl rfl ?_
  refine w_iload dX37_judge_59 rfl ?_
  refine w_if_eq 68 dX37_judge_61 (by decide) (fun c1 => ?_) (fun c1 => ?_)
  · replace hf := (if_pos (show s0 = 0 from c1)).symm.trans hf
    refine w_lload_n dX37_judge_68 rfl rfl ?_
    refine w_aload_n dX37_judge_69 rfl rfl ?_
    obtain ⟨a2, b3, hf⟩ := Option.bind_eq_some_iff.mp hf
    refine GX37_69 b3 dX37_judge_70 rfl ?_
    refine w_iconst dX37_judge_73 (v := 0) (by decide) ?_
    obtain ⟨x4, b5, hf⟩ := Option.bind_eq_some_iff.mp hf
    refine x_rI b5 dX37_judge_74 ?_
    refine w_i2l dX37_judge_75 ?_
    refine x_cnI hf (e_stS (Yc := YX37_bad) (av := [.long l2, .long (x4).toInt64]) (st := [.ref l0]) dX37_judge_76 q5826 mX37_bad) mX37_bad.2.2.1 mX37_bad.2.2.2.2.1 (Nat.le_of_ble_eq_true rfl) (Nat.le_of_ble_eq_true rfl) (fun q hq => pX37_bad (by omega) hq) (fun q6 hf => ?_)
    exact (pX37_judge_b79 hd hf).to ⟨rfl, trivial⟩
  · replace hf := (if_neg (show ¬ (s0 = 0) from c1)).symm.trans hf
    refine w_iconst dX37_judge_64 (v := 0) (by decide) ?_
    refine w_goto 79 dX37_judge_65 (by decide) ?_
    exact (pX37_judge_b79 hd hf).to ⟨rfl, trivial⟩
def fX37_judge_b51 (l0 : Nat) (l2 : Int64) (h : eH) : Option (Unit × eH) :=
  fX37_judge_b56 l0 l2 (1 : Int32) h
theorem pX37_judge_b51 {w : eW} {d : Nat} (hd : 1 ≤ d + 1) {l0 : Nat} {l2 : Int64} {h : eH} {q} (hf : fX37_judge_b51 l0 l2 h = some q) : wp w (d + 1) YX37_judge 51 [some (.ref l0), none, some (.long l2), none, none] [] h (e_is (e_rn c_V q)) := by
  unfold fX37_judge_b51 at hf
  refine w_iconst dX37_judge_51 (v := 1) (by decide) ?_
  refine w_goto 56 dX37_judge_52 (by decide) ?_
  exact (pX37_judge_b56 hd hf).to ⟨rfl, rfl, trivial⟩
def fX37_judge_b171 (s0 : Nat) (s1 : Int32) (h : eH) : Option (Unit × eH) :=
  (p_V 36 h s0 35 (.int s1)).bind fun h1 =>
  fX37_judge_b174 h1
theorem pX37_judge_b171 {w : eW} {d : Nat} (hd : 1 ≤ d + 1) {s0 : Nat} {s1 : Int32} {h : eH} {q} (hf : fX37_judge_b171 s0 s1 h = some q) : wp w (d + 1) YX37_judge 171 [none, none, none, none, none] [.int s1, .ref s0] h (e_is (e_rn c_V q)) := by
  unfold fX37_judge_b171 at hf
  obtain ⟨h1, b2, hf⟩ := Option.bind_eq_some_iff.mp hf
  refine SX37_172 b2 dX37_judge_171 rfl ?_
  exact (pX37_judge_b174 hd hf).to trivial
def fX37_judge (this : Nat) (p0 : Int32) (h : eH) : Option (Unit × eH) :=
  (g_I 36 h this 11).bind fun x1 =>
  (g_I 36 h this 30).bind fun x3 =>
  (p_V 36 h this 33 (.int (((x1).toInt64 - (x3).toInt64)).toInt32)).bind fun h5 =>
  if (lg_cmp ((x1).toInt64 - (x3).toInt64) (0 : Int64)) ≤ 0 then
    (g_I 36 h5 this 32).bind fun x8 =>
    if 0 ≤ (lg_cmp (x8).toInt64 (-((x1).toInt64 - (x3).toInt64))) then
      (g_I 36 h5 this 32).bind fun x11 =>
      (fX37_bad (-((x1).toInt64 - (x3).toInt64)) (x11).toInt64 h5).bind fun q13 =>
      (p_V 36 q13.2 this 34 (.int q13.1)).bind fun h14 =>
      (g_I 36 h14 this 34).bind fun x16 =>
      if x16 ≤ (12 : Int32) then
        fX37_judge_b171 this (2 : Int32) h14
      else
        fX37_judge_b171 this (3 : Int32) h14
    else
      (p_V 36 h5 this 34 (.int (10001 : Int32))).bind fun h19 =>
      (p_V 36 h19 this 35 (.int (3 : Int32))).bind fun h21 =>
      fX37_judge_b174 h21
  else
    (g_A 36 h5 this 31).bind fun a23 =>
    (r_I 100 h5 a23 (1 : Int32)).bind fun x25 =>
    if 0 < x25 then
      fX37_judge_b51 this ((x1).toInt64 - (x3).toInt64) h5
    else
      (g_A 36 h5 this 31).bind fun a28 =>
      (r_I 100 h5 a28 (2 : Int32)).bind fun x30 =>
      if 0 < x30 then
        fX37_judge_b51 this ((x1).toInt64 - (x3).toInt64) h5
      else
        (g_A 36 h5 this 31).bind fun a33 =>
        (r_I 100 h5 a33 (3 : Int32)).bind fun x35 =>
        if x35 ≤ 0 then
          fX37_judge_b56 this ((x1).toInt64 - (x3).toInt64) (0 : Int32) h5
        else
          fX37_judge_b51 this ((x1).toInt64 - (x3).toInt64) h5
theorem pX37_judge {w : eW} {d : Nat} (hd : 1 ≤ d) {this : Nat} {p0 : Int32} {h : eH} {q} (hf : fX37_judge this p0 h = some q) : wm w d YX37_judge [.ref this, .int p0] h (e_is (e_rn c_V q)) := by
  obtain ⟨d, rfl⟩ : ∃ e, d = e + 1 := ⟨d - 1, by omega⟩
  show wp w (d + 1) YX37_judge 0 [some (.ref this), some (.int p0), none, none, none] [] h _
  unfold fX37_judge at hf
  refine w_aload_n dX37_judge_0 rfl rfl ?_
  obtain ⟨x1, b2, hf⟩ := Option.bind_eq_some_iff.mp hf
  refine GX37_159 b2 dX37_judge_1 rfl ?_
  refine w_i2l dX37_judge_4 ?_
  refine w_aload_n dX37_judge_5 rfl rfl ?_
  obtain ⟨x3, b4, hf⟩ := Option.bind_eq_some_iff.mp hf
  refine GX37_138 b4 dX37_judge_6 rfl ?_
  refine w_i2l dX37_judge_9 ?_
  refine w_lsub dX37_judge_10 ?_
  refine w_lstore_n dX37_judge_11 rfl (by decide) (ls' := [some (.ref this), some (.int p0), some (.long ((x1).toInt64 - (x3).toInt64)), none, none]) rfl ?_
  refine w_aload_n dX37_judge_12 rfl rfl ?_
  refine w_lload_n dX37_judge_13 rfl rfl ?_
  refine w_l2i dX37_judge_14 ?_
  obtain ⟨h5, b6, hf⟩ := Option.bind_eq_some_iff.mp hf
  refine SX37_162 b6 dX37_judge_15 rfl ?_
  refine w_lload_n dX37_judge_18 rfl rfl ?_
  refine w_lconst dX37_judge_19 (v := 0) (by decide) ?_
  refine w_lcmp dX37_judge_20 ?_
  refine w_if_le 116 dX37_judge_21 (by decide) (fun c7 => ?_) (fun c7 => ?_)
  · replace hf := (if_pos (show (lg_cmp ((x1).toInt64 - (x3).toInt64) (0 : Int64)) ≤ 0 from c7)).symm.trans hf
    refine w_aload_n dX37_judge_116 rfl rfl ?_
    obtain ⟨x8, b9, hf⟩ := Option.bind_eq_some_iff.mp hf
    refine GX37_141 b9 dX37_judge_117 rfl ?_
    refine w_i2l dX37_judge_120 ?_
    refine w_lload_n dX37_judge_121 rfl rfl ?_
    refine w_lneg dX37_judge_122 ?_
    refine w_lcmp dX37_judge_123 ?_
    refine w_if_ge 142 dX37_judge_124 (by decide) (fun c10 => ?_) (fun c10 => ?_)
    · replace hf := (if_pos (show 0 ≤ (lg_cmp (x8).toInt64 (-((x1).toInt64 - (x3).toInt64))) from c10)).symm.trans hf
      refine w_aload_n dX37_judge_142 rfl rfl ?_
      refine w_lload_n dX37_judge_143 rfl rfl ?_
      refine w_lneg dX37_judge_144 ?_
      refine w_aload_n dX37_judge_145 rfl rfl ?_
      obtain ⟨x11, b12, hf⟩ := Option.bind_eq_some_iff.mp hf
      refine GX37_141 b12 dX37_judge_146 rfl ?_
      refine w_i2l dX37_judge_149 ?_
      refine x_cnI hf (e_stS (Yc := YX37_bad) (av := [.long (-((x1).toInt64 - (x3).toInt64)), .long (x11).toInt64]) (st := [.ref this]) dX37_judge_150 q5826 mX37_bad) mX37_bad.2.2.1 mX37_bad.2.2.2.2.1 (Nat.le_of_ble_eq_true rfl) (Nat.le_of_ble_eq_true rfl) (fun q hq => pX37_bad (by omega) hq) (fun q13 hf => ?_)
      obtain ⟨h14, b15, hf⟩ := Option.bind_eq_some_iff.mp hf
      refine SX37_169 b15 dX37_judge_153 rfl ?_
      refine w_aload_n dX37_judge_156 rfl rfl ?_
      refine w_aload_n dX37_judge_157 rfl rfl ?_
      obtain ⟨x16, b17, hf⟩ := Option.bind_eq_some_iff.mp hf
      refine GX37_169 b17 dX37_judge_158 rfl ?_
      refine w_bipush dX37_judge_161 (v := 12) (by decide) ?_
      refine w_icmp_le 170 dX37_judge_163 (by decide) (fun c18 => ?_) (fun c18 => ?_)
      · replace hf := (if_pos (show x16 ≤ (12 : Int32) from c18)).symm.trans hf
        refine w_iconst dX37_judge_170 (v := 2) (by decide) ?_
        exact (pX37_judge_b171 hd hf).to trivial
      · replace hf := (if_neg (show ¬ (x16 ≤ (12 : Int32)) from c18)).symm.trans hf
        refine w_iconst dX37_judge_166 (v := 3) (by decide) ?_
        refine w_goto 171 dX37_judge_167 (by decide) ?_
        exact (pX37_judge_b171 hd hf).to trivial
    · replace hf := (if_neg (show ¬ (0 ≤ (lg_cmp (x8).toInt64 (-((x1).toInt64 - (x3).toInt64)))) from c10)).symm.trans hf
      refine w_aload_n dX37_judge_127 rfl rfl ?_
      refine w_sipush dX37_judge_128 (v := 10001) (by decide) ?_
      obtain ⟨h19, b20, hf⟩ := Option.bind_eq_some_iff.mp hf
      refine SX37_169 b20 dX37_judge_131 rfl ?_
      refine w_aload_n dX37_judge_134 rfl rfl ?_
      refine w_iconst dX37_judge_135 (v := 3) (by decide) ?_
      obtain ⟨h21, b22, hf⟩ := Option.bind_eq_some_iff.mp hf
      refine SX37_172 b22 dX37_judge_136 rfl ?_
      refine w_goto 174 dX37_judge_139 (by decide) ?_
      exact (pX37_judge_b174 hd hf).to trivial
  · replace hf := (if_neg (show ¬ ((lg_cmp ((x1).toInt64 - (x3).toInt64) (0 : Int64)) ≤ 0) from c7)).symm.trans hf
    refine w_aload_n dX37_judge_24 rfl rfl ?_
    obtain ⟨a23, b24, hf⟩ := Option.bind_eq_some_iff.mp hf
    refine GX37_69 b24 dX37_judge_25 rfl ?_
    refine w_iconst dX37_judge_28 (v := 1) (by decide) ?_
    obtain ⟨x25, b26, hf⟩ := Option.bind_eq_some_iff.mp hf
    refine x_rI b26 dX37_judge_29 ?_
    refine w_if_gt 51 dX37_judge_30 (by decide) (fun c27 => ?_) (fun c27 => ?_)
    · replace hf := (if_pos (show 0 < x25 from c27)).symm.trans hf
      exact (pX37_judge_b51 hd hf).to ⟨rfl, rfl, trivial⟩
    · replace hf := (if_neg (show ¬ (0 < x25) from c27)).symm.trans hf
      refine w_aload_n dX37_judge_33 rfl rfl ?_
      obtain ⟨a28, b29, hf⟩ := Option.bind_eq_some_iff.mp hf
      refine GX37_69 b29 dX37_judge_34 rfl ?_
      refine w_iconst dX37_judge_37 (v := 2) (by decide) ?_
      obtain ⟨x30, b31, hf⟩ := Option.bind_eq_some_iff.mp hf
      refine x_rI b31 dX37_judge_38 ?_
      refine w_if_gt 51 dX37_judge_39 (by decide) (fun c32 => ?_) (fun c32 => ?_)
      · replace hf := (if_pos (show 0 < x30 from c32)).symm.trans hf
        exact (pX37_judge_b51 hd hf).to ⟨rfl, rfl, trivial⟩
      · replace hf := (if_neg (show ¬ (0 < x30) from c32)).symm.trans hf
        refine w_aload_n dX37_judge_42 rfl rfl ?_
        obtain ⟨a33, b34, hf⟩ := Option.bind_eq_some_iff.mp hf
        refine GX37_69 b34 dX37_judge_43 rfl ?_
        refine w_iconst dX37_judge_46 (v := 3) (by decide) ?_
        obtain ⟨x35, b36, hf⟩ := Option.bind_eq_some_iff.mp hf
        refine x_rI b36 dX37_judge_47 ?_
        refine w_if_le 55 dX37_judge_48 (by decide) (fun c37 => ?_) (fun c37 => ?_)
        · replace hf := (if_pos (show x35 ≤ 0 from c37)).symm.trans hf
          refine w_iconst dX37_judge_55 (v := 0) (by decide) ?_
          exact (pX37_judge_b56 hd hf).to ⟨rfl, rfl, trivial⟩
        · replace hf := (if_neg (show ¬ (x35 ≤ 0) from c37)).symm.trans hf
          exact (pX37_judge_b51 hd hf).to ⟨rfl, rfl, trivial⟩
abbrev cX37_demerits : ByteArray := prog_38_method_15_code
def yX37_demerits : MethodName := ⟨RX37, "demerits", "(II)J"⟩
def YX37_demerits : eY := (yX37_demerits, cX37_demerits, 11, (Option.some FieldType.long), [])
theorem mX37_demerits : e_mv YX37_demerits RX37 2 := ⟨q5841, qs383, q5842, by decide, by decide +kernel, (e_sig (by decide +kernel))⟩
theorem dX37_demerits_0 : decode cX37_demerits 0 = .ok (.aload_n 0, 1) := dc_42 (by decide +kernel)
theorem dX37_demerits_1 : decode cX37_demerits 1 = .ok (.getfield 34, 3) := dc_180 (a := 0) (b := 34) (n := 34) (by decide +kernel)
theorem dX37_demerits_4 : decode cX37_demerits 4 = .ok (.iconst 2, 1) := dc_5 (by decide +kernel)
theorem dX37_demerits_5 : decode cX37_demerits 5 = .ok (.iaload, 1) := dc_46 (by decide +kernel)
theorem dX37_demerits_6 : decode cX37_demerits 6 = .ok (.aload_n 0, 1) := dc_42 (by decide +kernel)
theorem dX37_demerits_7 : decode cX37_demerits 7 = .ok (.getfield 169, 3) := dc_180 (a := 0) (b := 169) (n := 169) (by decide +kernel)
theorem dX37_demerits_10 : decode cX37_demerits 10 = .ok (.iadd, 1) := dc_96 (by decide +kernel)
theorem dX37_demerits_11 : decode cX37_demerits 11 = .ok (.i2l, 1) := dc_133 (by decide +kernel)
theorem dX37_demerits_12 : decode cX37_demerits 12 = .ok (.lstore_n 3, 1) := dc_66 (by decide +kernel)
theorem dX37_demerits_13 : decode cX37_demerits 13 = .ok (.lload_n 3, 1) := dc_33 (by decide +kernel)
theorem dX37_demerits_14 : decode cX37_demerits 14 = .ok (.ldc2_w 175, 3) := dc_20 (a := 0) (b := 175) (n := 175) (by decide +kernel)
theorem dX37_demerits_17 : decode cX37_demerits 17 = .ok (.lcmp, 1) := dc_148 (by decide +kernel)
theorem dX37_demerits_18 : decode cX37_demerits 18 = .ok (.ifCond .lt 9, 3) := dc_155 (a := 0) (b := 9) (v := 9) (by decide +kernel)
theorem dX37_demerits_21 : decode cX37_demerits 21 = .ok (.ldc2_w 177, 3) := dc_20 (a := 0) (b := 177) (n := 177) (by decide +kernel)
theorem dX37_demerits_24 : decode cX37_demerits 24 = .ok (.goto 6, 3) := dc_167 (a := 0) (b := 6) (v := 6) (by decide +kernel)
theorem dX37_demerits_27 : decode cX37_demerits 27 = .ok (.lload_n 3, 1) := dc_33 (by decide +kernel)
theorem dX37_demerits_28 : decode cX37_demerits 28 = .ok (.lload_n 3, 1) := dc_33 (by decide +kernel)
theorem dX37_demerits_29 : decode cX37_demerits 29 = .ok (.lmul, 1) := dc_105 (by decide +kernel)
theorem dX37_demerits_30 : decode cX37_demerits 30 = .ok (.lstore 5, 2) := dc_55 (a := 5) (by decide +kernel)
theorem dX37_demerits_32 : decode cX37_demerits 32 = .ok (.aload_n 0, 1) := dc_42 (by decide +kernel)
theorem dX37_demerits_33 : decode cX37_demerits 33 = .ok (.iload_n 2, 1) := dc_28 (by decide +kernel)
theorem dX37_demerits_34 : decode cX37_demerits 34 = .ok (.invokevirtual 116, 3) := dc_182 (a := 0) (b := 116) (n := 116) (by decide +kernel)
theorem dX37_demerits_37 : decode cX37_demerits 37 = .ok (.i2l, 1) := dc_133 (by decide +kernel)
theorem dX37_demerits_38 : decode cX37_demerits 38 = .ok (.lstore 7, 2) := dc_55 (a := 7) (by decide +kernel)
theorem dX37_demerits_40 : decode cX37_demerits 40 = .ok (.lload 7, 2) := dc_22 (a := 7) (by decide +kernel)
theorem dX37_demerits_42 : decode cX37_demerits 42 = .ok (.lconst 0, 1) := dc_9 (by decide +kernel)
theorem dX37_demerits_43 : decode cX37_demerits 43 = .ok (.lcmp, 1) := dc_148 (by decide +kernel)
theorem dX37_demerits_44 : decode cX37_demerits 44 = .ok (.ifCond .le 14, 3) := dc_158 (a := 0) (b := 14) (v := 14) (by decide +kernel)
theorem dX37_demerits_47 : decode cX37_demerits 47 = .ok (.lload 5, 2) := dc_22 (a := 5) (by decide +kernel)
theorem dX37_demerits_49 : decode cX37_demerits 49 = .ok (.lload 7, 2) := dc_22 (a := 7) (by decide +kernel)
theorem dX37_demerits_51 : decode cX37_demerits 51 = .ok (.lload 7, 2) := dc_22 (a := 7) (by decide +kernel)
theorem dX37_demerits_53 : decode cX37_demerits 53 = .ok (.lmul, 1) := dc_105 (by decide +kernel)
theorem dX37_demerits_54 : decode cX37_demerits 54 = .ok (.ladd, 1) := dc_97 (by decide +kernel)
theorem dX37_demerits_55 : decode cX37_demerits 55 = .ok (.goto 25, 3) := dc_167 (a := 0) (b := 25) (v := 25) (by decide +kernel)
theorem dX37_demerits_58 : decode cX37_demerits 58 = .ok (.lload 7, 2) := dc_22 (a := 7) (by decide +kernel)
theorem dX37_demerits_60 : decode cX37_demerits 60 = .ok (.ldc2_w 179, 3) := dc_20 (a := 0) (b := 179) (n := 179) (by decide +kernel)
theorem dX37_demerits_63 : decode cX37_demerits 63 = .ok (.lcmp, 1) := dc_148 (by decide +kernel)
theorem dX37_demerits_64 : decode cX37_demerits 64 = .ok (.ifCond .le 14, 3) := dc_158 (a := 0) (b := 14) (v := 14) (by decide +kernel)
theorem dX37_demerits_67 : decode cX37_demerits 67 = .ok (.lload 5, 2) := dc_22 (a := 5) (by decide +kernel)
theorem dX37_demerits_69 : decode cX37_demerits 69 = .ok (.lload 7, 2) := dc_22 (a := 7) (by decide +kernel)
theorem dX37_demerits_71 : decode cX37_demerits 71 = .ok (.lload 7, 2) := dc_22 (a := 7) (by decide +kernel)
theorem dX37_demerits_73 : decode cX37_demerits 73 = .ok (.lmul, 1) := dc_105 (by decide +kernel)
theorem dX37_demerits_74 : decode cX37_demerits 74 = .ok (.lsub, 1) := dc_101 (by decide +kernel)
theorem dX37_demerits_75 : decode cX37_demerits 75 = .ok (.goto 5, 3) := dc_167 (a := 0) (b := 5) (v := 5) (by decide +kernel)
theorem dX37_demerits_78 : decode cX37_demerits 78 = .ok (.lload 5, 2) := dc_22 (a := 5) (by decide +kernel)
theorem dX37_demerits_80 : decode cX37_demerits 80 = .ok (.lstore 5, 2) := dc_55 (a := 5) (by decide +kernel)
theorem dX37_demerits_82 : decode cX37_demerits 82 = .ok (.aload_n 0, 1) := dc_42 (by decide +kernel)
theorem dX37_demerits_83 : decode cX37_demerits 83 = .ok (.aload_n 0, 1) := dc_42 (by decide +kernel)
theorem dX37_demerits_84 : decode cX37_demerits 84 = .ok (.getfield 49, 3) := dc_180 (a := 0) (b := 49) (n := 49) (by decide +kernel)
theorem dX37_demerits_87 : decode cX37_demerits 87 = .ok (.iload_n 1, 1) := dc_27 (by decide +kernel)
theorem dX37_demerits_88 : decode cX37_demerits 88 = .ok (.iaload, 1) := dc_46 (by decide +kernel)
theorem dX37_demerits_89 : decode cX37_demerits 89 = .ok (.invokevirtual 125, 3) := dc_182 (a := 0) (b := 125) (n := 125) (by decide +kernel)
theorem dX37_demerits_92 : decode cX37_demerits 92 = .ok (.istore 9, 2) := dc_54 (a := 9) (by decide +kernel)
theorem dX37_demerits_94 : decode cX37_demerits 94 = .ok (.iload 9, 2) := dc_21 (a := 9) (by decide +kernel)
theorem dX37_demerits_96 : decode cX37_demerits 96 = .ok (.ifCond .eq 24, 3) := dc_153 (a := 0) (b := 24) (v := 24) (by decide +kernel)
theorem dX37_demerits_99 : decode cX37_demerits 99 = .ok (.aload_n 0, 1) := dc_42 (by decide +kernel)
theorem dX37_demerits_100 : decode cX37_demerits 100 = .ok (.iload_n 2, 1) := dc_28 (by decide +kernel)
theorem dX37_demerits_101 : decode cX37_demerits 101 = .ok (.invokevirtual 125, 3) := dc_182 (a := 0) (b := 125) (n := 125) (by decide +kernel)
theorem dX37_demerits_104 : decode cX37_demerits 104 = .ok (.ifCond .eq 16, 3) := dc_153 (a := 0) (b := 16) (v := 16) (by decide +kernel)
theorem dX37_demerits_107 : decode cX37_demerits 107 = .ok (.lload 5, 2) := dc_22 (a := 5) (by decide +kernel)
theorem dX37_demerits_109 : decode cX37_demerits 109 = .ok (.aload_n 0, 1) := dc_42 (by decide +kernel)
theorem dX37_demerits_110 : decode cX37_demerits 110 = .ok (.getfield 34, 3) := dc_180 (a := 0) (b := 34) (n := 34) (by decide +kernel)
theorem dX37_demerits_113 : decode cX37_demerits 113 = .ok (.iconst 5, 1) := dc_8 (by decide +kernel)
theorem dX37_demerits_114 : decode cX37_demerits 114 = .ok (.iaload, 1) := dc_46 (by decide +kernel)
theorem dX37_demerits_115 : decode cX37_demerits 115 = .ok (.i2l, 1) := dc_133 (by decide +kernel)
theorem dX37_demerits_116 : decode cX37_demerits 116 = .ok (.ladd, 1) := dc_97 (by decide +kernel)
theorem dX37_demerits_117 : decode cX37_demerits 117 = .ok (.goto 5, 3) := dc_167 (a := 0) (b := 5) (v := 5) (by decide +kernel)
theorem dX37_demerits_120 : decode cX37_demerits 120 = .ok (.lload 5, 2) := dc_22 (a := 5) (by decide +kernel)
theorem dX37_demerits_122 : decode cX37_demerits 122 = .ok (.lstore 5, 2) := dc_55 (a := 5) (by decide +kernel)
theorem dX37_demerits_124 : decode cX37_demerits 124 = .ok (.iload 9, 2) := dc_21 (a := 9) (by decide +kernel)
theorem dX37_demerits_126 : decode cX37_demerits 126 = .ok (.ifCond .eq 25, 3) := dc_153 (a := 0) (b := 25) (v := 25) (by decide +kernel)
theorem dX37_demerits_129 : decode cX37_demerits 129 = .ok (.iload_n 2, 1) := dc_28 (by decide +kernel)
theorem dX37_demerits_130 : decode cX37_demerits 130 = .ok (.aload_n 0, 1) := dc_42 (by decide +kernel)
theorem dX37_demerits_131 : decode cX37_demerits 131 = .ok (.getfield 119, 3) := dc_180 (a := 0) (b := 119) (n := 119) (by decide +kernel)
theorem dX37_demerits_134 : decode cX37_demerits 134 = .ok (.if_icmp .ne 17, 3) := dc_160 (a := 0) (b := 17) (v := 17) (by decide +kernel)
theorem dX37_demerits_137 : decode cX37_demerits 137 = .ok (.lload 5, 2) := dc_22 (a := 5) (by decide +kernel)
theorem dX37_demerits_139 : decode cX37_demerits 139 = .ok (.aload_n 0, 1) := dc_42 (by decide +kernel)
theorem dX37_demerits_140 : decode cX37_demerits 140 = .ok (.getfield 34, 3) := dc_180 (a := 0) (b := 34) (n := 34) (by decide +kernel)
theorem dX37_demerits_143 : decode cX37_demerits 143 = .ok (.bipush 6, 2) := dc_16 (a := 6) (v := 6) (by decide +kernel)
theorem dX37_demerits_145 : decode cX37_demerits 145 = .ok (.iaload, 1) := dc_46 (by decide +kernel)
theorem dX37_demerits_146 : decode cX37_demerits 146 = .ok (.i2l, 1) := dc_133 (by decide +kernel)
theorem dX37_demerits_147 : decode cX37_demerits 147 = .ok (.ladd, 1) := dc_97 (by decide +kernel)
theorem dX37_demerits_148 : decode cX37_demerits 148 = .ok (.goto 5, 3) := dc_167 (a := 0) (b := 5) (v := 5) (by decide +kernel)
theorem dX37_demerits_151 : decode cX37_demerits 151 = .ok (.lload 5, 2) := dc_22 (a := 5) (by decide +kernel)
theorem dX37_demerits_153 : decode cX37_demerits 153 = .ok (.lstore 5, 2) := dc_55 (a := 5) (by decide +kernel)
theorem dX37_demerits_155 : decode cX37_demerits 155 = .ok (.aload_n 0, 1) := dc_42 (by decide +kernel)
theorem dX37_demerits_156 : decode cX37_demerits 156 = .ok (.getfield 55, 3) := dc_180 (a := 0) (b := 55) (n := 55) (by decide +kernel)
theorem dX37_demerits_159 : decode cX37_demerits 159 = .ok (.iload_n 1, 1) := dc_27 (by decide +kernel)
theorem dX37_demerits_160 : decode cX37_demerits 160 = .ok (.iaload, 1) := dc_46 (by decide +kernel)
theorem dX37_demerits_161 : decode cX37_demerits 161 = .ok (.aload_n 0, 1) := dc_42 (by decide +kernel)
theorem dX37_demerits_162 : decode cX37_demerits 162 = .ok (.getfield 172, 3) := dc_180 (a := 0) (b := 172) (n := 172) (by decide +kernel)
theorem dX37_demerits_165 : decode cX37_demerits 165 = .ok (.if_icmp .le 17, 3) := dc_164 (a := 0) (b := 17) (v := 17) (by decide +kernel)
theorem dX37_demerits_168 : decode cX37_demerits 168 = .ok (.aload_n 0, 1) := dc_42 (by decide +kernel)
theorem dX37_demerits_169 : decode cX37_demerits 169 = .ok (.getfield 55, 3) := dc_180 (a := 0) (b := 55) (n := 55) (by decide +kernel)
theorem dX37_demerits_172 : decode cX37_demerits 172 = .ok (.iload_n 1, 1) := dc_27 (by decide +kernel)
theorem dX37_demerits_173 : decode cX37_demerits 173 = .ok (.iaload, 1) := dc_46 (by decide +kernel)
theorem dX37_demerits_174 : decode cX37_demerits 174 = .ok (.aload_n 0, 1) := dc_42 (by decide +kernel)
theorem dX37_demerits_175 : decode cX37_demerits 175 = .ok (.getfield 172, 3) := dc_180 (a := 0) (b := 172) (n := 172) (by decide +kernel)
theorem dX37_demerits_178 : decode cX37_demerits 178 = .ok (.isub, 1) := dc_100 (by decide +kernel)
theorem dX37_demerits_179 : decode cX37_demerits 179 = .ok (.goto 14, 3) := dc_167 (a := 0) (b := 14) (v := 14) (by decide +kernel)
theorem dX37_demerits_182 : decode cX37_demerits 182 = .ok (.aload_n 0, 1) := dc_42 (by decide +kernel)
theorem dX37_demerits_183 : decode cX37_demerits 183 = .ok (.getfield 172, 3) := dc_180 (a := 0) (b := 172) (n := 172) (by decide +kernel)
theorem dX37_demerits_186 : decode cX37_demerits 186 = .ok (.aload_n 0, 1) := dc_42 (by decide +kernel)
theorem dX37_demerits_187 : decode cX37_demerits 187 = .ok (.getfield 55, 3) := dc_180 (a := 0) (b := 55) (n := 55) (by decide +kernel)
theorem dX37_demerits_190 : decode cX37_demerits 190 = .ok (.iload_n 1, 1) := dc_27 (by decide +kernel)
theorem dX37_demerits_191 : decode cX37_demerits 191 = .ok (.iaload, 1) := dc_46 (by decide +kernel)
theorem dX37_demerits_192 : decode cX37_demerits 192 = .ok (.isub, 1) := dc_100 (by decide +kernel)
theorem dX37_demerits_193 : decode cX37_demerits 193 = .ok (.istore 10, 2) := dc_54 (a := 10) (by decide +kernel)
theorem dX37_demerits_195 : decode cX37_demerits 195 = .ok (.iload 10, 2) := dc_21 (a := 10) (by decide +kernel)
theorem dX37_demerits_197 : decode cX37_demerits 197 = .ok (.iconst 1, 1) := dc_4 (by decide +kernel)
theorem dX37_demerits_198 : decode cX37_demerits 198 = .ok (.if_icmp .le 17, 3) := dc_164 (a := 0) (b := 17) (v := 17) (by decide +kernel)
theorem dX37_demerits_201 : decode cX37_demerits 201 = .ok (.lload 5, 2) := dc_22 (a := 5) (by decide +kernel)
theorem dX37_demerits_203 : decode cX37_demerits 203 = .ok (.aload_n 0, 1) := dc_42 (by decide +kernel)
theorem dX37_demerits_204 : decode cX37_demerits 204 = .ok (.getfield 34, 3) := dc_180 (a := 0) (b := 34) (n := 34) (by decide +kernel)
theorem dX37_demerits_207 : decode cX37_demerits 207 = .ok (.bipush 7, 2) := dc_16 (a := 7) (v := 7) (by decide +kernel)
theorem dX37_demerits_209 : decode cX37_demerits 209 = .ok (.iaload, 1) := dc_46 (by decide +kernel)
theorem dX37_demerits_210 : decode cX37_demerits 210 = .ok (.i2l, 1) := dc_133 (by decide +kernel)
theorem dX37_demerits_211 : decode cX37_demerits 211 = .ok (.ladd, 1) := dc_97 (by decide +kernel)
theorem dX37_demerits_212 : decode cX37_demerits 212 = .ok (.goto 5, 3) := dc_167 (a := 0) (b := 5) (v := 5) (by decide +kernel)
theorem dX37_demerits_215 : decode cX37_demerits 215 = .ok (.lload 5, 2) := dc_22 (a := 5) (by decide +kernel)
theorem dX37_demerits_217 : decode cX37_demerits 217 = .ok (.lreturn, 1) := dc_173 (by decide +kernel)
theorem GX37_172 {w : eW} {d : Nat} {Y : eY} {pc : Nat} {ls : eL} {st : List Value} {h : eH} {Q : eO → eH → Prop} {a : Nat} {x : Int32} (hf : g_I 36 h a 35 = some x) (hd : decode Y.2.1 pc = .ok (.getfield 172, 3)) (hY : Y.1.cls = RX37) (kk : wp w d Y (pc + 3) ls (.int x :: st) h Q) : wp w d Y pc ls (.ref a :: st) h Q := x_gI (ci := 36) (k := 35) hf hd rfl (by decide) (by rw [hY]; exact q4270) kk
theorem GX37_49 {w : eW} {d : Nat} {Y : eY} {pc : Nat} {ls : eL} {st : List Value} {h : eH} {Q : eO → eH → Prop} {a : Nat} {x : Nat} (hf : g_A 36 h a 23 = some x) (hd : decode Y.2.1 pc = .ok (.getfield 49, 3)) (hY : Y.1.cls = RX37) (kk : wp w d Y (pc + 3) ls (.ref x :: st) h Q) : wp w d Y pc ls (.ref a :: st) h Q := x_gA (ci := 36) (k := 23) hf hd rfl (by decide) (by rw [hY]; exact q4258) kk
theorem GX37_55 {w : eW} {d : Nat} {Y : eY} {pc : Nat} {ls : eL} {st : List Value} {h : eH} {Q : eO → eH → Prop} {a : Nat} {x : Nat} (hf : g_A 36 h a 25 = some x) (hd : decode Y.2.1 pc = .ok (.getfield 55, 3)) (hY : Y.1.cls = RX37) (kk : wp w d Y (pc + 3) ls (.ref x :: st) h Q) : wp w d Y pc ls (.ref a :: st) h Q := x_gA (ci := 36) (k := 25) hf hd rfl (by decide) (by rw [hY]; exact q4260) kk
def fX37_demerits_b217 (s0 : Int64) (h : eH) : Option (Int64 × eH) :=
  some (s0, h)
theorem pX37_demerits_b217 {w : eW} {d : Nat} (hd : 1 ≤ d + 1) {s0 : Int64} {h : eH} {q} (hf : fX37_demerits_b217 s0 h = some q) : wp w (d + 1) YX37_demerits 217 [none, none, none, none, none, none, none, none, none, none, none] [.long s0] h (e_is (e_rn c_J q)) := by
  unfold fX37_demerits_b217 at hf
  cases hf
  exact w_lret dX37_demerits_217 rfl rfl
def fX37_demerits_b193 (l0 : Nat) (l5 : Int64) (s0 : Int32) (h : eH) : Option (Int64 × eH) :=
  if s0 ≤ (1 : Int32) then
    fX37_demerits_b217 l5 h
  else
    (g_A 36 h l0 10).bind fun a2 =>
    (r_I 100 h a2 (7 : Int32)).bind fun x4 =>
    fX37_demerits_b217 (l5 + (x4).toInt64) h
theorem pX37_demerits_b193 {w : eW} {d : Nat} (hd : 1 ≤ d + 1) {l0 : Nat} {l5 : Int64} {s0 : Int32} {h : eH} {q} (hf : fX37_demerits_b193 l0 l5 s0 h = some q) : wp w (d + 1) YX37_demerits 193 [some (.ref l0), none, none, none, none, some (.long l5), none, none, none, none, none] [.int s0] h (e_is (e_rn c_J q)) := by
  unfold fX37_demerits_b193 at hf
  refine w_istore dX37_demerits_193 (by decide) (ls' := [some (.ref l0), none, none, none, none, some (.long l5), none, none, none, none, some (.int s0)]) rfl ?_
  refine w_iload dX37_demerits_195 rfl ?_
  refine w_iconst dX37_demerits_197 (v := 1) (by decide) ?_
  refine w_icmp_le 215 dX37_demerits_198 (by decide) (fun c1 => ?_) (fun c1 => ?_)
  · replace hf := (if_pos (show s0 ≤ (1 : Int32) from c1)).symm.trans hf
    refine w_lload dX37_demerits_215 rfl ?_
    exact (pX37_demerits_b217 hd hf).to trivial
  · replace hf := (if_neg (show ¬ (s0 ≤ (1 : Int32)) from c1)).symm.trans hf
    refine w_lload dX37_demerits_201 rfl ?_
    refine w_aload_n dX37_demerits_203 rfl rfl ?_
    obtain ⟨a2, b3, hf⟩ := Option.bind_eq_some_iff.mp hf
    refine GX37_34 b3 dX37_demerits_204 rfl ?_
    refine w_bipush dX37_demerits_207 (v := 7) (by decide) ?_
    obtain ⟨x4, b5, hf⟩ := Option.bind_eq_some_iff.mp hf
    refine x_rI b5 dX37_demerits_209 ?_
    refine w_i2l dX37_demerits_210 ?_
    refine w_ladd dX37_demerits_211 ?_
    refine w_goto 217 dX37_demerits_212 (by decide) ?_
    exact (pX37_demerits_b217 hd hf).to trivial
def fX37_demerits_b153 (l0 : Nat) (l1 : Int32) (s0 : Int64) (h : eH) : Option (Int64 × eH) :=
  (g_A 36 h l0 25).bind fun a1 =>
  (r_I 100 h a1 l1).bind fun x3 =>
  (g_I 36 h l0 35).bind fun x5 =>
  if x3 ≤ x5 then
    (g_I 36 h l0 35).bind fun x8 =>
    (g_A 36 h l0 25).bind fun a10 =>
    (r_I 100 h a10 l1).bind fun x12 =>
    fX37_demerits_b193 l0 s0 (x8 - x12) h
  else
    (g_A 36 h l0 25).bind fun a14 =>
    (r_I 100 h a14 l1).bind fun x16 =>
    (g_I 36 h l0 35).bind fun x18 =>
    fX37_demerits_b193 l0 s0 (x16 - x18) h
theorem pX37_demerits_b153 {w : eW} {d : Nat} (hd : 1 ≤ d + 1) {l0 : Nat} {l1 : Int32} {s0 : Int64} {h : eH} {q} (hf : fX37_demerits_b153 l0 l1 s0 h = some q) : wp w (d + 1) YX37_demerits 153 [some (.ref l0), some (.int l1), none, none, none, none, none, none, none, none, none] [.long s0] h (e_is (e_rn c_J q)) := by
  unfold fX37_demerits_b153 at hf
  refine w_lstore dX37_demerits_153 (by decide) (ls' := [some (.ref l0), some (.int l1), none, none, none, some (.long s0), none, none, none, none, none]) rfl ?_
  refine w_aload_n dX37_demerits_155 rfl rfl ?_
  obtain ⟨a1, b2, hf⟩ := Option.bind_eq_some_iff.mp hf
  refine GX37_55 b2 dX37_demerits_156 rfl ?_
  refine w_iload_n dX37_demerits_159 rfl rfl ?_
  obtain ⟨x3, b4, hf⟩ := Option.bind_eq_some_iff.mp hf
  refine x_rI b4 dX37_demerits_160 ?_
  refine w_aload_n dX37_demerits_161 rfl rfl ?_
  obtain ⟨x5, b6, hf⟩ := Option.bind_eq_some_iff.mp hf
  refine GX37_172 b6 dX37_demerits_162 rfl ?_
  refine w_icmp_le 182 dX37_demerits_165 (by decide) (fun c7 => ?_) (fun c7 => ?_)
  · replace hf := (if_pos (show x3 ≤ x5 from c7)).symm.trans hf
    refine w_aload_n dX37_demerits_182 rfl rfl ?_
    obtain ⟨x8, b9, hf⟩ := Option.bind_eq_some_iff.mp hf
    refine GX37_172 b9 dX37_demerits_183 rfl ?_
    refine w_aload_n dX37_demerits_186 rfl rfl ?_
    obtain ⟨a10, b11, hf⟩ := Option.bind_eq_some_iff.mp hf
    refine GX37_55 b11 dX37_demerits_187 rfl ?_
    refine w_iload_n dX37_demerits_190 rfl rfl ?_
    obtain ⟨x12, b13, hf⟩ := Option.bind_eq_some_iff.mp hf
    refine x_rI b13 dX37_demerits_191 ?_
    refine w_isub dX37_demerits_192 ?_
    exact (pX37_demerits_b193 hd hf).to ⟨rfl, rfl, trivial⟩
  · replace hf := (if_neg (show ¬ (x3 ≤ x5) from c7)).symm.trans hf
    refine w_aload_n dX37_demerits_168 rfl rfl ?_
    obtain ⟨a14, b15, hf⟩ := Option.bind_eq_some_iff.mp hf
    refine GX37_55 b15 dX37_demerits_169 rfl ?_
    refine w_iload_n dX37_demerits_172 rfl rfl ?_
    obtain ⟨x16, b17, hf⟩ := Option.bind_eq_some_iff.mp hf
    refine x_rI b17 dX37_demerits_173 ?_
    refine w_aload_n dX37_demerits_174 rfl rfl ?_
    obtain ⟨x18, b19, hf⟩ := Option.bind_eq_some_iff.mp hf
    refine GX37_172 b19 dX37_demerits_175 rfl ?_
    refine w_isub dX37_demerits_178 ?_
    refine w_goto 193 dX37_demerits_179 (by decide) ?_
    exact (pX37_demerits_b193 hd hf).to ⟨rfl, rfl, trivial⟩
def fX37_demerits_b151 (l0 : Nat) (l1 : Int32) (l5 : Int64) (h : eH) : Option (Int64 × eH) :=
  fX37_demerits_b153 l0 l1 l5 h
theorem pX37_demerits_b151 {w : eW} {d : Nat} (hd : 1 ≤ d + 1) {l0 : Nat} {l1 : Int32} {l5 : Int64} {h : eH} {q} (hf : fX37_demerits_b151 l0 l1 l5 h = some q) : wp w (d + 1) YX37_demerits 151 [some (.ref l0), some (.int l1), none, none, none, some (.long l5), none, none, none, none, none] [] h (e_is (e_rn c_J q)) := by
  unfold fX37_demerits_b151 at hf
  refine w_lload dX37_demerits_151 rfl ?_
  exact (pX37_demerits_b153 hd hf).to ⟨rfl, rfl, trivial⟩
def fX37_demerits_b122 (l0 : Nat) (l1 : Int32) (l2 : Int32) (l9 : Int32) (s0 : Int64) (h : eH) : Option (Int64 × eH) :=
  if l9 = 0 then
    fX37_demerits_b151 l0 l1 s0 h
  else
    (g_I 36 h l0 17).bind fun x2 =>
    if ¬ l2 = x2 then
      fX37_demerits_b151 l0 l1 s0 h
    else
      (g_A 36 h l0 10).bind fun a5 =>
      (r_I 100 h a5 (6 : Int32)).bind fun x7 =>
      fX37_demerits_b153 l0 l1 (s0 + (x7).toInt64) h
theorem pX37_demerits_b122 {w : eW} {d : Nat} (hd : 1 ≤ d + 1) {l0 : Nat} {l1 : Int32} {l2 : Int32} {l9 : Int32} {s0 : Int64} {h : eH} {q} (hf : fX37_demerits_b122 l0 l1 l2 l9 s0 h = some q) : wp w (d + 1) YX37_demerits 122 [some (.ref l0), some (.int l1), some (.int l2), none, none, none, none, none, none, some (.int l9), none] [.long s0] h (e_is (e_rn c_J q)) := by
  unfold fX37_demerits_b122 at hf
  refine w_lstore dX37_demerits_122 (by decide) (ls' := [some (.ref l0), some (.int l1), some (.int l2), none, none, some (.long s0), none, none, none, some (.int l9), none]) rfl ?_
  refine w_iload dX37_demerits_124 rfl ?_
  refine w_if_eq 151 dX37_demerits_126 (by decide) (fun c1 => ?_) (fun c1 => ?_)
  · replace hf := (if_pos (show l9 = 0 from c1)).symm.trans hf
    exact (pX37_demerits_b151 hd hf).to ⟨rfl, rfl, rfl, trivial⟩
  · replace hf := (if_neg (show ¬ (l9 = 0) from c1)).symm.trans hf
    refine w_iload_n dX37_demerits_129 rfl rfl ?_
    refine w_aload_n dX37_demerits_130 rfl rfl ?_
    obtain ⟨x2, b3, hf⟩ := Option.bind_eq_some_iff.mp hf
    refine GX37_119 b3 dX37_demerits_131 rfl ?_
    refine w_icmp_ne 151 dX37_demerits_134 (by decide) (fun c4 => ?_) (fun c4 => ?_)
    · replace hf := (if_pos (show ¬ l2 = x2 from c4)).symm.trans hf
      exact (pX37_demerits_b151 hd hf).to ⟨rfl, rfl, rfl, trivial⟩
    · replace hf := (if_neg (show ¬ (¬ l2 = x2) from (fun z => z c4))).symm.trans hf
      refine w_lload dX37_demerits_137 rfl ?_
      refine w_aload_n dX37_demerits_139 rfl rfl ?_
      obtain ⟨a5, b6, hf⟩ := Option.bind_eq_some_iff.mp hf
      refine GX37_34 b6 dX37_demerits_140 rfl ?_
      refine w_bipush dX37_demerits_143 (v := 6) (by decide) ?_
      obtain ⟨x7, b8, hf⟩ := Option.bind_eq_some_iff.mp hf
      refine x_rI b8 dX37_demerits_145 ?_
      refine w_i2l dX37_demerits_146 ?_
      refine w_ladd dX37_demerits_147 ?_
      refine w_goto 153 dX37_demerits_148 (by decide) ?_
      exact (pX37_demerits_b153 hd hf).to ⟨rfl, rfl, trivial⟩
def fX37_demerits_b120 (l0 : Nat) (l1 : Int32) (l2 : Int32) (l5 : Int64) (l9 : Int32) (h : eH) : Option (Int64 × eH) :=
  fX37_demerits_b122 l0 l1 l2 l9 l5 h
theorem pX37_demerits_b120 {w : eW} {d : Nat} (hd : 1 ≤ d + 1) {l0 : Nat} {l1 : Int32} {l2 : Int32} {l5 : Int64} {l9 : Int32} {h : eH} {q} (hf : fX37_demerits_b120 l0 l1 l2 l5 l9 h = some q) : wp w (d + 1) YX37_demerits 120 [some (.ref l0), some (.int l1), some (.int l2), none, none, some (.long l5), none, none, none, some (.int l9), none] [] h (e_is (e_rn c_J q)) := by
  unfold fX37_demerits_b120 at hf
  refine w_lload dX37_demerits_120 rfl ?_
  exact (pX37_demerits_b122 hd hf).to ⟨rfl, rfl, rfl, rfl, trivial⟩
def fX37_demerits_b80 (l0 : Nat) (l1 : Int32) (l2 : Int32) (s0 : Int64) (h : eH) : Option (Int64 × eH) :=
  (g_A 36 h l0 23).bind fun a1 =>
  (r_I 100 h a1 l1).bind fun x3 =>
  (k_ok 36 h l0).bind fun _ =>
  (fX37_isHyphen l0 x3 h).bind fun q6 =>
  if q6.1 = 0 then
    fX37_demerits_b120 l0 l1 l2 s0 q6.1 q6.2
  else
    (k_ok 36 q6.2 l0).bind fun _ =>
    (fX37_isHyphen l0 l2 q6.2).bind fun q9 =>
    if q9.1 = 0 then
      fX37_demerits_b120 l0 l1 l2 s0 q6.1 q9.2
    else
      (g_A 36 q9.2 l0 10).bind fun a11 =>
      (r_I 100 q9.2 a11 (5 : Int32)).bind fun x13 =>
      fX37_demerits_b122 l0 l1 l2 q6.1 (s0 + (x13).toInt64) q9.2
theorem pX37_demerits_b80 {w : eW} {d : Nat} (hd : 1 ≤ d + 1) {l0 : Nat} {l1 : Int32} {l2 : Int32} {s0 : Int64} {h : eH} {q} (hf : fX37_demerits_b80 l0 l1 l2 s0 h = some q) : wp w (d + 1) YX37_demerits 80 [some (.ref l0), some (.int l1), some (.int l2), none, none, none, none, none, none, none, none] [.long s0] h (e_is (e_rn c_J q)) := by
  unfold fX37_demerits_b80 at hf
  refine w_lstore dX37_demerits_80 (by decide) (ls' := [some (.ref l0), some (.int l1), some (.int l2), none, none, some (.long s0), none, none, none, none, none]) rfl ?_
  refine w_aload_n dX37_demerits_82 rfl rfl ?_
  refine w_aload_n dX37_demerits_83 rfl rfl ?_
  obtain ⟨a1, b2, hf⟩ := Option.bind_eq_some_iff.mp hf
  refine GX37_49 b2 dX37_demerits_84 rfl ?_
  refine w_iload_n dX37_demerits_87 rfl rfl ?_
  obtain ⟨x3, b4, hf⟩ := Option.bind_eq_some_iff.mp hf
  refine x_rI b4 dX37_demerits_88 ?_
  obtain ⟨_, b5, hf⟩ := Option.bind_eq_some_iff.mp hf
  refine x_cnI hf (e_stV (Yc := YX37_isHyphen) (ci := 36) (av := [.int x3]) (st := []) dX37_demerits_89 q5814 mX37_isHyphen rfl (k_ok_some b5).1 (k_ok_some b5).2) mX37_isHyphen.2.2.1 mX37_isHyphen.2.2.2.2.1 (Nat.le_of_ble_eq_true rfl) (Nat.le_of_ble_eq_true rfl) (fun q hq => pX37_isHyphen (by omega) hq) (fun q6 hf => ?_)
  refine w_istore dX37_demerits_92 (by decide) (ls' := [some (.ref l0), some (.int l1), some (.int l2), none, none, some (.long s0), none, none, none, some (.int q6.1), none]) rfl ?_
  refine w_iload dX37_demerits_94 rfl ?_
  refine w_if_eq 120 dX37_demerits_96 (by decide) (fun c7 => ?_) (fun c7 => ?_)
  · replace hf := (if_pos (show q6.1 = 0 from c7)).symm.trans hf
    exact (pX37_demerits_b120 hd hf).to ⟨rfl, rfl, rfl, rfl, rfl, trivial⟩
  · replace hf := (if_neg (show ¬ (q6.1 = 0) from c7)).symm.trans hf
    refine w_aload_n dX37_demerits_99 rfl rfl ?_
    refine w_iload_n dX37_demerits_100 rfl rfl ?_
    obtain ⟨_, b8, hf⟩ := Option.bind_eq_some_iff.mp hf
    refine x_cnI hf (e_stV (Yc := YX37_isHyphen) (ci := 36) (av := [.int l2]) (st := []) dX37_demerits_101 q5814 mX37_isHyphen rfl (k_ok_some b8).1 (k_ok_some b8).2) mX37_isHyphen.2.2.1 mX37_isHyphen.2.2.2.2.1 (Nat.le_of_ble_eq_true rfl) (Nat.le_of_ble_eq_true rfl) (fun q hq => pX37_isHyphen (by omega) hq) (fun q9 hf => ?_)
    refine w_if_eq 120 dX37_demerits_104 (by decide) (fun c10 => ?_) (fun c10 => ?_)
    · replace hf := (if_pos (show q9.1 = 0 from c10)).symm.trans hf
      exact (pX37_demerits_b120 hd hf).to ⟨rfl, rfl, rfl, rfl, rfl, trivial⟩
    · replace hf := (if_neg (show ¬ (q9.1 = 0) from c10)).symm.trans hf
      refine w_lload dX37_demerits_107 rfl ?_
      refine w_aload_n dX37_demerits_109 rfl rfl ?_
      obtain ⟨a11, b12, hf⟩ := Option.bind_eq_some_iff.mp hf
      refine GX37_34 b12 dX37_demerits_110 rfl ?_
      refine w_iconst dX37_demerits_113 (v := 5) (by decide) ?_
      obtain ⟨x13, b14, hf⟩ := Option.bind_eq_some_iff.mp hf
      refine x_rI b14 dX37_demerits_114 ?_
      refine w_i2l dX37_demerits_115 ?_
      refine w_ladd dX37_demerits_116 ?_
      refine w_goto 122 dX37_demerits_117 (by decide) ?_
      exact (pX37_demerits_b122 hd hf).to ⟨rfl, rfl, rfl, rfl, trivial⟩
def fX37_demerits_b30 (l0 : Nat) (l1 : Int32) (l2 : Int32) (s0 : Int64) (h : eH) : Option (Int64 × eH) :=
  (k_ok 36 h l0).bind fun _ =>
  (fX37_fine l0 l2 h).bind fun q2 =>
  if (lg_cmp (q2.1).toInt64 (0 : Int64)) ≤ 0 then
    if (lg_cmp (q2.1).toInt64 (-10000 : Int64)) ≤ 0 then
      fX37_demerits_b80 l0 l1 l2 s0 q2.2
    else
      fX37_demerits_b80 l0 l1 l2 (s0 - ((q2.1).toInt64 * (q2.1).toInt64)) q2.2
  else
    fX37_demerits_b80 l0 l1 l2 (s0 + ((q2.1).toInt64 * (q2.1).toInt64)) q2.2
theorem pX37_demerits_b30 {w : eW} {d : Nat} (hd : 1 ≤ d + 1) {l0 : Nat} {l1 : Int32} {l2 : Int32} {s0 : Int64} {h : eH} {q} (hf : fX37_demerits_b30 l0 l1 l2 s0 h = some q) : wp w (d + 1) YX37_demerits 30 [some (.ref l0), some (.int l1), some (.int l2), none, none, none, none, none, none, none, none] [.long s0] h (e_is (e_rn c_J q)) := by
  unfold fX37_demerits_b30 at hf
  refine w_lstore dX37_demerits_30 (by decide) (ls' := [some (.ref l0), some (.int l1), some (.int l2), none, none, some (.long s0), none, none, none, none, none]) rfl ?_
  refine w_aload_n dX37_demerits_32 rfl rfl ?_
  refine w_iload_n dX37_demerits_33 rfl rfl ?_
  obtain ⟨_, b1, hf⟩ := Option.bind_eq_some_iff.mp hf
  refine x_cnI hf (e_stV (Yc := YX37_fine) (ci := 36) (av := [.int l2]) (st := []) dX37_demerits_34 q5798 mX37_fine rfl (k_ok_some b1).1 (k_ok_some b1).2) mX37_fine.2.2.1 mX37_fine.2.2.2.2.1 (Nat.le_of_ble_eq_true rfl) (Nat.le_of_ble_eq_true rfl) (fun q hq => pX37_fine (by omega) hq) (fun q2 hf => ?_)
  refine w_i2l dX37_demerits_37 ?_
  refine w_lstore dX37_demerits_38 (by decide) (ls' := [some (.ref l0), some (.int l1), some (.int l2), none, none, some (.long s0), none, some (.long (q2.1).toInt64), none, none, none]) rfl ?_
  refine w_lload dX37_demerits_40 rfl ?_
  refine w_lconst dX37_demerits_42 (v := 0) (by decide) ?_
  refine w_lcmp dX37_demerits_43 ?_
  refine w_if_le 58 dX37_demerits_44 (by decide) (fun c3 => ?_) (fun c3 => ?_)
  · replace hf := (if_pos (show (lg_cmp (q2.1).toInt64 (0 : Int64)) ≤ 0 from c3)).symm.trans hf
    refine w_lload dX37_demerits_58 rfl ?_
    refine w_ldc2 dX37_demerits_60 q5845 ?_
    refine w_lcmp dX37_demerits_63 ?_
    refine w_if_le 78 dX37_demerits_64 (by decide) (fun c4 => ?_) (fun c4 => ?_)
    · replace hf := (if_pos (show (lg_cmp (q2.1).toInt64 (-10000 : Int64)) ≤ 0 from c4)).symm.trans hf
      refine w_lload dX37_demerits_78 rfl ?_
      exact (pX37_demerits_b80 hd hf).to ⟨rfl, rfl, rfl, trivial⟩
    · replace hf := (if_neg (show ¬ ((lg_cmp (q2.1).toInt64 (-10000 : Int64)) ≤ 0) from c4)).symm.trans hf
      refine w_lload dX37_demerits_67 rfl ?_
      refine w_lload dX37_demerits_69 rfl ?_
      refine w_lload dX37_demerits_71 rfl ?_
      refine w_lmul dX37_demerits_73 ?_
      refine w_lsub dX37_demerits_74 ?_
      refine w_goto 80 dX37_demerits_75 (by decide) ?_
      exact (pX37_demerits_b80 hd hf).to ⟨rfl, rfl, rfl, trivial⟩
  · replace hf := (if_neg (show ¬ ((lg_cmp (q2.1).toInt64 (0 : Int64)) ≤ 0) from c3)).symm.trans hf
    refine w_lload dX37_demerits_47 rfl ?_
    refine w_lload dX37_demerits_49 rfl ?_
    refine w_lload dX37_demerits_51 rfl ?_
    refine w_lmul dX37_demerits_53 ?_
    refine w_ladd dX37_demerits_54 ?_
    refine w_goto 80 dX37_demerits_55 (by decide) ?_
    exact (pX37_demerits_b80 hd hf).to ⟨rfl, rfl, rfl, trivial⟩
def fX37_demerits (this : Nat) (p0 : Int32) (p1 : Int32) (h : eH) : Option (Int64 × eH) :=
  (g_A 36 h this 10).bind fun a1 =>
  (r_I 100 h a1 (2 : Int32)).bind fun x3 =>
  (g_I 36 h this 34).bind fun x5 =>
  if (lg_cmp ((x3 + x5)).toInt64 (10000 : Int64)) < 0 then
    fX37_demerits_b30 this p0 p1 (((x3 + x5)).toInt64 * ((x3 + x5)).toInt64) h
  else
    fX37_demerits_b30 this p0 p1 (100000000 : Int64) h
theorem pX37_demerits {w : eW} {d : Nat} (hd : 1 ≤ d) {this : Nat} {p0 : Int32} {p1 : Int32} {h : eH} {q} (hf : fX37_demerits this p0 p1 h = some q) : wm w d YX37_demerits [.ref this, .int p0, .int p1] h (e_is (e_rn c_J q)) := by
  obtain ⟨d, rfl⟩ : ∃ e, d = e + 1 := ⟨d - 1, by omega⟩
  show wp w (d + 1) YX37_demerits 0 [some (.ref this), some (.int p0), some (.int p1), none, none, none, none, none, none, none, none] [] h _
  unfold fX37_demerits at hf
  refine w_aload_n dX37_demerits_0 rfl rfl ?_
  obtain ⟨a1, b2, hf⟩ := Option.bind_eq_some_iff.mp hf
  refine GX37_34 b2 dX37_demerits_1 rfl ?_
  refine w_iconst dX37_demerits_4 (v := 2) (by decide) ?_
  obtain ⟨x3, b4, hf⟩ := Option.bind_eq_some_iff.mp hf
  refine x_rI b4 dX37_demerits_5 ?_
  refine w_aload_n dX37_demerits_6 rfl rfl ?_
  obtain ⟨x5, b6, hf⟩ := Option.bind_eq_some_iff.mp hf
  refine GX37_169 b6 dX37_demerits_7 rfl ?_
  refine w_iadd dX37_demerits_10 ?_
  refine w_i2l dX37_demerits_11 ?_
  refine w_lstore_n dX37_demerits_12 rfl (by decide) (ls' := [some (.ref this), some (.int p0), some (.int p1), some (.long ((x3 + x5)).toInt64), none, none, none, none, none, none, none]) rfl ?_
  refine w_lload_n dX37_demerits_13 rfl rfl ?_
  refine w_ldc2 dX37_demerits_14 q5843 ?_
  refine w_lcmp dX37_demerits_17 ?_
  refine w_if_lt 27 dX37_demerits_18 (by decide) (fun c7 => ?_) (fun c7 => ?_)
  · replace hf := (if_pos (show (lg_cmp ((x3 + x5)).toInt64 (10000 : Int64)) < 0 from c7)).symm.trans hf
    refine w_lload_n dX37_demerits_27 rfl rfl ?_
    refine w_lload_n dX37_demerits_28 rfl rfl ?_
    refine w_lmul dX37_demerits_29 ?_
    exact (pX37_demerits_b30 hd hf).to ⟨rfl, rfl, rfl, trivial⟩
  · replace hf := (if_neg (show ¬ ((lg_cmp ((x3 + x5)).toInt64 (10000 : Int64)) < 0) from c7)).symm.trans hf
    refine w_ldc2 dX37_demerits_21 q5844 ?_
    refine w_goto 30 dX37_demerits_24 (by decide) ?_
    exact (pX37_demerits_b30 hd hf).to ⟨rfl, rfl, rfl, trivial⟩
abbrev cX37_write : ByteArray := prog_38_method_16_code
def yX37_write : MethodName := ⟨RX37, "write", "(IIIJ)V"⟩
def YX37_write : eY := (yX37_write, cX37_write, 6, none, [])
theorem mX37_write : e_mv YX37_write RX37 4 := ⟨q5848, qs384, q5849, by decide, by decide +kernel, (e_sig (by decide +kernel))⟩
theorem dX37_write_0 : decode cX37_write 0 = .ok (.aload_n 0, 1) := dc_42 (by decide +kernel)
theorem dX37_write_1 : decode cX37_write 1 = .ok (.getfield 49, 3) := dc_180 (a := 0) (b := 49) (n := 49) (by decide +kernel)
theorem dX37_write_4 : decode cX37_write 4 = .ok (.iload_n 1, 1) := dc_27 (by decide +kernel)
theorem dX37_write_5 : decode cX37_write 5 = .ok (.iload_n 2, 1) := dc_28 (by decide +kernel)
theorem dX37_write_6 : decode cX37_write 6 = .ok (.iastore, 1) := dc_79 (by decide +kernel)
theorem dX37_write_7 : decode cX37_write 7 = .ok (.aload_n 0, 1) := dc_42 (by decide +kernel)
theorem dX37_write_8 : decode cX37_write 8 = .ok (.getfield 52, 3) := dc_180 (a := 0) (b := 52) (n := 52) (by decide +kernel)
theorem dX37_write_11 : decode cX37_write 11 = .ok (.iload_n 1, 1) := dc_27 (by decide +kernel)
theorem dX37_write_12 : decode cX37_write 12 = .ok (.aload_n 0, 1) := dc_42 (by decide +kernel)
theorem dX37_write_13 : decode cX37_write 13 = .ok (.getfield 52, 3) := dc_180 (a := 0) (b := 52) (n := 52) (by decide +kernel)
theorem dX37_write_16 : decode cX37_write 16 = .ok (.iload_n 3, 1) := dc_29 (by decide +kernel)
theorem dX37_write_17 : decode cX37_write 17 = .ok (.iaload, 1) := dc_46 (by decide +kernel)
theorem dX37_write_18 : decode cX37_write 18 = .ok (.iconst 1, 1) := dc_4 (by decide +kernel)
theorem dX37_write_19 : decode cX37_write 19 = .ok (.iadd, 1) := dc_96 (by decide +kernel)
theorem dX37_write_20 : decode cX37_write 20 = .ok (.iastore, 1) := dc_79 (by decide +kernel)
theorem dX37_write_21 : decode cX37_write 21 = .ok (.aload_n 0, 1) := dc_42 (by decide +kernel)
theorem dX37_write_22 : decode cX37_write 22 = .ok (.getfield 55, 3) := dc_180 (a := 0) (b := 55) (n := 55) (by decide +kernel)
theorem dX37_write_25 : decode cX37_write 25 = .ok (.iload_n 1, 1) := dc_27 (by decide +kernel)
theorem dX37_write_26 : decode cX37_write 26 = .ok (.aload_n 0, 1) := dc_42 (by decide +kernel)
theorem dX37_write_27 : decode cX37_write 27 = .ok (.getfield 172, 3) := dc_180 (a := 0) (b := 172) (n := 172) (by decide +kernel)
theorem dX37_write_30 : decode cX37_write 30 = .ok (.iastore, 1) := dc_79 (by decide +kernel)
theorem dX37_write_31 : decode cX37_write 31 = .ok (.aload_n 0, 1) := dc_42 (by decide +kernel)
theorem dX37_write_32 : decode cX37_write 32 = .ok (.getfield 58, 3) := dc_180 (a := 0) (b := 58) (n := 58) (by decide +kernel)
theorem dX37_write_35 : decode cX37_write 35 = .ok (.iload_n 1, 1) := dc_27 (by decide +kernel)
theorem dX37_write_36 : decode cX37_write 36 = .ok (.lload 4, 2) := dc_22 (a := 4) (by decide +kernel)
theorem dX37_write_38 : decode cX37_write 38 = .ok (.lastore, 1) := dc_80 (by decide +kernel)
theorem dX37_write_39 : decode cX37_write 39 = .ok (.aload_n 0, 1) := dc_42 (by decide +kernel)
theorem dX37_write_40 : decode cX37_write 40 = .ok (.getfield 62, 3) := dc_180 (a := 0) (b := 62) (n := 62) (by decide +kernel)
theorem dX37_write_43 : decode cX37_write 43 = .ok (.iload_n 1, 1) := dc_27 (by decide +kernel)
theorem dX37_write_44 : decode cX37_write 44 = .ok (.iload_n 3, 1) := dc_29 (by decide +kernel)
theorem dX37_write_45 : decode cX37_write 45 = .ok (.iastore, 1) := dc_79 (by decide +kernel)
theorem dX37_write_46 : decode cX37_write 46 = .ok (.aload_n 0, 1) := dc_42 (by decide +kernel)
theorem dX37_write_47 : decode cX37_write 47 = .ok (.getfield 65, 3) := dc_180 (a := 0) (b := 65) (n := 65) (by decide +kernel)
theorem dX37_write_50 : decode cX37_write 50 = .ok (.iload_n 1, 1) := dc_27 (by decide +kernel)
theorem dX37_write_51 : decode cX37_write 51 = .ok (.iconst 0, 1) := dc_3 (by decide +kernel)
theorem dX37_write_52 : decode cX37_write 52 = .ok (.bastore, 1) := dc_84 (by decide +kernel)
theorem dX37_write_53 : decode cX37_write 53 = .ok (.return_, 1) := dc_177 (by decide +kernel)
theorem GX37_52 {w : eW} {d : Nat} {Y : eY} {pc : Nat} {ls : eL} {st : List Value} {h : eH} {Q : eO → eH → Prop} {a : Nat} {x : Nat} (hf : g_A 36 h a 24 = some x) (hd : decode Y.2.1 pc = .ok (.getfield 52, 3)) (hY : Y.1.cls = RX37) (kk : wp w d Y (pc + 3) ls (.ref x :: st) h Q) : wp w d Y pc ls (.ref a :: st) h Q := x_gA (ci := 36) (k := 24) hf hd rfl (by decide) (by rw [hY]; exact q4259) kk
theorem GX37_58 {w : eW} {d : Nat} {Y : eY} {pc : Nat} {ls : eL} {st : List Value} {h : eH} {Q : eO → eH → Prop} {a : Nat} {x : Nat} (hf : g_A 36 h a 26 = some x) (hd : decode Y.2.1 pc = .ok (.getfield 58, 3)) (hY : Y.1.cls = RX37) (kk : wp w d Y (pc + 3) ls (.ref x :: st) h Q) : wp w d Y pc ls (.ref a :: st) h Q := x_gA (ci := 36) (k := 26) hf hd rfl (by decide) (by rw [hY]; exact q4261) kk
theorem GX37_62 {w : eW} {d : Nat} {Y : eY} {pc : Nat} {ls : eL} {st : List Value} {h : eH} {Q : eO → eH → Prop} {a : Nat} {x : Nat} (hf : g_A 36 h a 27 = some x) (hd : decode Y.2.1 pc = .ok (.getfield 62, 3)) (hY : Y.1.cls = RX37) (kk : wp w d Y (pc + 3) ls (.ref x :: st) h Q) : wp w d Y pc ls (.ref a :: st) h Q := x_gA (ci := 36) (k := 27) hf hd rfl (by decide) (by rw [hY]; exact q4262) kk
theorem GX37_65 {w : eW} {d : Nat} {Y : eY} {pc : Nat} {ls : eL} {st : List Value} {h : eH} {Q : eO → eH → Prop} {a : Nat} {x : Nat} (hf : g_A 36 h a 28 = some x) (hd : decode Y.2.1 pc = .ok (.getfield 65, 3)) (hY : Y.1.cls = RX37) (kk : wp w d Y (pc + 3) ls (.ref x :: st) h Q) : wp w d Y pc ls (.ref a :: st) h Q := x_gA (ci := 36) (k := 28) hf hd rfl (by decide) (by rw [hY]; exact q4263) kk
def fX37_write (this : Nat) (p0 : Int32) (p1 : Int32) (p2 : Int32) (p3 : Int64) (h : eH) : Option (Unit × eH) :=
  (g_A 36 h this 23).bind fun a1 =>
  (q_V 100 h a1 p0 (.int p1)).bind fun h3 =>
  (g_A 36 h3 this 24).bind fun a5 =>
  (g_A 36 h3 this 24).bind fun a7 =>
  (r_I 100 h3 a7 p2).bind fun x9 =>
  (q_V 100 h3 a5 p0 (.int (x9 + (1 : Int32)))).bind fun h11 =>
  (g_A 36 h11 this 25).bind fun a13 =>
  (g_I 36 h11 this 35).bind fun x15 =>
  (q_V 100 h11 a13 p0 (.int x15)).bind fun h17 =>
  (g_A 36 h17 this 26).bind fun a19 =>
  (q_V 101 h17 a19 p0 (.long p3)).bind fun h21 =>
  (g_A 36 h21 this 27).bind fun a23 =>
  (q_V 100 h21 a23 p0 (.int p2)).bind fun h25 =>
  (g_A 36 h25 this 28).bind fun a27 =>
  (q_V 103 h25 a27 p0 (.int ((0 : Int32) &&& 1))).bind fun h29 =>
  some ((), h29)
theorem pX37_write {w : eW} {d : Nat} (hd : 0 ≤ d) {this : Nat} {p0 : Int32} {p1 : Int32} {p2 : Int32} {p3 : Int64} {h : eH} {q} (hf : fX37_write this p0 p1 p2 p3 h = some q) : wm w d YX37_write [.ref this, .int p0, .int p1, .int p2, .long p3] h (e_is (e_rn c_V q)) := by
  show wp w d YX37_write 0 [some (.ref this), some (.int p0), some (.int p1), some (.int p2), some (.long p3), none] [] h _
  unfold fX37_write at hf
  refine w_aload_n dX37_write_0 rfl rfl ?_
  obtain ⟨a1, b2, hf⟩ := Option.bind_eq_some_iff.mp hf
  refine GX37_49 b2 dX37_write_1 rfl ?_
  refine w_iload_n dX37_write_4 rfl rfl ?_
  refine w_iload_n dX37_write_5 rfl rfl ?_
  obtain ⟨h3, b4, hf⟩ := Option.bind_eq_some_iff.mp hf
  refine x_qI b4 dX37_write_6 ?_
  refine w_aload_n dX37_write_7 rfl rfl ?_
  obtain ⟨a5, b6, hf⟩ := Option.bind_eq_some_iff.mp hf
  refine GX37_52 b6 dX37_write_8 rfl ?_
  refine w_iload_n dX37_write_11 rfl rfl ?_
  refine w_aload_n dX37_write_12 rfl rfl ?_
  obtain ⟨a7, b8, hf⟩ := Option.bind_eq_some_iff.mp hf
  refine GX37_52 b8 dX37_write_13 rfl ?_
  refine w_iload_n dX37_write_16 rfl rfl ?_
  obtain ⟨x9, b10, hf⟩ := Option.bind_eq_some_iff.mp hf
  refine x_rI b10 dX37_write_17 ?_
  refine w_iconst dX37_write_18 (v := 1) (by decide) ?_
  refine w_iadd dX37_write_19 ?_
  obtain ⟨h11, b12, hf⟩ := Option.bind_eq_some_iff.mp hf
  refine x_qI b12 dX37_write_20 ?_
  refine w_aload_n dX37_write_21 rfl rfl ?_
  obtain ⟨a13, b14, hf⟩ := Option.bind_eq_some_iff.mp hf
  refine GX37_55 b14 dX37_write_22 rfl ?_
  refine w_iload_n dX37_write_25 rfl rfl ?_
  refine w_aload_n dX37_write_26 rfl rfl ?_
  obtain ⟨x15, b16, hf⟩ := Option.bind_eq_some_iff.mp hf
  refine GX37_172 b16 dX37_write_27 rfl ?_
  obtain ⟨h17, b18, hf⟩ := Option.bind_eq_some_iff.mp hf
  refine x_qI b18 dX37_write_30 ?_
  refine w_aload_n dX37_write_31 rfl rfl ?_
  obtain ⟨a19, b20, hf⟩ := Option.bind_eq_some_iff.mp hf
  refine GX37_58 b20 dX37_write_32 rfl ?_
  refine w_iload_n dX37_write_35 rfl rfl ?_
  refine w_lload dX37_write_36 rfl ?_
  obtain ⟨h21, b22, hf⟩ := Option.bind_eq_some_iff.mp hf
  refine x_qJ b22 dX37_write_38 ?_
  refine w_aload_n dX37_write_39 rfl rfl ?_
  obtain ⟨a23, b24, hf⟩ := Option.bind_eq_some_iff.mp hf
  refine GX37_62 b24 dX37_write_40 rfl ?_
  refine w_iload_n dX37_write_43 rfl rfl ?_
  refine w_iload_n dX37_write_44 rfl rfl ?_
  obtain ⟨h25, b26, hf⟩ := Option.bind_eq_some_iff.mp hf
  refine x_qI b26 dX37_write_45 ?_
  refine w_aload_n dX37_write_46 rfl rfl ?_
  obtain ⟨a27, b28, hf⟩ := Option.bind_eq_some_iff.mp hf
  refine GX37_65 b28 dX37_write_47 rfl ?_
  refine w_iload_n dX37_write_50 rfl rfl ?_
  refine w_iconst dX37_write_51 (v := 0) (by decide) ?_
  obtain ⟨h29, b30, hf⟩ := Option.bind_eq_some_iff.mp hf
  refine x_qZ b30 dX37_write_52 ?_
  cases hf
  exact w_vret dX37_write_53 rfl rfl
abbrev cX37_isBefore : ByteArray := prog_38_method_17_code
def yX37_isBefore : MethodName := ⟨RX37, "isBefore", "(II)Z"⟩
def YX37_isBefore : eY := (yX37_isBefore, cX37_isBefore, 3, (Option.some FieldType.boolean), [])
theorem mX37_isBefore : e_mv YX37_isBefore RX37 2 := ⟨q5852, qs385, q5853, by decide, by decide +kernel, (e_sig (by decide +kernel))⟩
theorem dX37_isBefore_0 : decode cX37_isBefore 0 = .ok (.aload_n 0, 1) := dc_42 (by decide +kernel)
theorem dX37_isBefore_1 : decode cX37_isBefore 1 = .ok (.getfield 49, 3) := dc_180 (a := 0) (b := 49) (n := 49) (by decide +kernel)
theorem dX37_isBefore_4 : decode cX37_isBefore 4 = .ok (.iload_n 1, 1) := dc_27 (by decide +kernel)
theorem dX37_isBefore_5 : decode cX37_isBefore 5 = .ok (.iaload, 1) := dc_46 (by decide +kernel)
theorem dX37_isBefore_6 : decode cX37_isBefore 6 = .ok (.aload_n 0, 1) := dc_42 (by decide +kernel)
theorem dX37_isBefore_7 : decode cX37_isBefore 7 = .ok (.getfield 49, 3) := dc_180 (a := 0) (b := 49) (n := 49) (by decide +kernel)
theorem dX37_isBefore_10 : decode cX37_isBefore 10 = .ok (.iload_n 2, 1) := dc_28 (by decide +kernel)
theorem dX37_isBefore_11 : decode cX37_isBefore 11 = .ok (.iaload, 1) := dc_46 (by decide +kernel)
theorem dX37_isBefore_12 : decode cX37_isBefore 12 = .ok (.if_icmp .lt 33, 3) := dc_161 (a := 0) (b := 33) (v := 33) (by decide +kernel)
theorem dX37_isBefore_15 : decode cX37_isBefore 15 = .ok (.aload_n 0, 1) := dc_42 (by decide +kernel)
theorem dX37_isBefore_16 : decode cX37_isBefore 16 = .ok (.getfield 49, 3) := dc_180 (a := 0) (b := 49) (n := 49) (by decide +kernel)
theorem dX37_isBefore_19 : decode cX37_isBefore 19 = .ok (.iload_n 1, 1) := dc_27 (by decide +kernel)
theorem dX37_isBefore_20 : decode cX37_isBefore 20 = .ok (.iaload, 1) := dc_46 (by decide +kernel)
theorem dX37_isBefore_21 : decode cX37_isBefore 21 = .ok (.aload_n 0, 1) := dc_42 (by decide +kernel)
theorem dX37_isBefore_22 : decode cX37_isBefore 22 = .ok (.getfield 49, 3) := dc_180 (a := 0) (b := 49) (n := 49) (by decide +kernel)
theorem dX37_isBefore_25 : decode cX37_isBefore 25 = .ok (.iload_n 2, 1) := dc_28 (by decide +kernel)
theorem dX37_isBefore_26 : decode cX37_isBefore 26 = .ok (.iaload, 1) := dc_46 (by decide +kernel)
theorem dX37_isBefore_27 : decode cX37_isBefore 27 = .ok (.if_icmp .ne 22, 3) := dc_160 (a := 0) (b := 22) (v := 22) (by decide +kernel)
theorem dX37_isBefore_30 : decode cX37_isBefore 30 = .ok (.aload_n 0, 1) := dc_42 (by decide +kernel)
theorem dX37_isBefore_31 : decode cX37_isBefore 31 = .ok (.getfield 55, 3) := dc_180 (a := 0) (b := 55) (n := 55) (by decide +kernel)
theorem dX37_isBefore_34 : decode cX37_isBefore 34 = .ok (.iload_n 1, 1) := dc_27 (by decide +kernel)
theorem dX37_isBefore_35 : decode cX37_isBefore 35 = .ok (.iaload, 1) := dc_46 (by decide +kernel)
theorem dX37_isBefore_36 : decode cX37_isBefore 36 = .ok (.aload_n 0, 1) := dc_42 (by decide +kernel)
theorem dX37_isBefore_37 : decode cX37_isBefore 37 = .ok (.getfield 55, 3) := dc_180 (a := 0) (b := 55) (n := 55) (by decide +kernel)
theorem dX37_isBefore_40 : decode cX37_isBefore 40 = .ok (.iload_n 2, 1) := dc_28 (by decide +kernel)
theorem dX37_isBefore_41 : decode cX37_isBefore 41 = .ok (.iaload, 1) := dc_46 (by decide +kernel)
theorem dX37_isBefore_42 : decode cX37_isBefore 42 = .ok (.if_icmp .le 7, 3) := dc_164 (a := 0) (b := 7) (v := 7) (by decide +kernel)
theorem dX37_isBefore_45 : decode cX37_isBefore 45 = .ok (.iconst 1, 1) := dc_4 (by decide +kernel)
theorem dX37_isBefore_46 : decode cX37_isBefore 46 = .ok (.goto 4, 3) := dc_167 (a := 0) (b := 4) (v := 4) (by decide +kernel)
theorem dX37_isBefore_49 : decode cX37_isBefore 49 = .ok (.iconst 0, 1) := dc_3 (by decide +kernel)
theorem dX37_isBefore_50 : decode cX37_isBefore 50 = .ok (.ireturn, 1) := dc_172 (by decide +kernel)
def fX37_isBefore_b50 (s0 : Int32) (h : eH) : Option (Int32 × eH) :=
  z_r s0 (s0, h)
theorem pX37_isBefore_b50 {w : eW} {d : Nat} (hd : 0 ≤ d) {s0 : Int32} {h : eH} {q} (hf : fX37_isBefore_b50 s0 h = some q) : wp w d YX37_isBefore 50 [none, none, none] [.int s0] h (e_is (e_rn c_I q)) := by
  unfold fX37_isBefore_b50 at hf
  obtain ⟨b1, rfl⟩ := z_r_some hf
  exact w_iret dX37_isBefore_50 rfl b1 rfl
def fX37_isBefore_b45  (h : eH) : Option (Int32 × eH) :=
  fX37_isBefore_b50 (1 : Int32) h
theorem pX37_isBefore_b45 {w : eW} {d : Nat} (hd : 0 ≤ d)  {h : eH} {q} (hf : fX37_isBefore_b45  h = some q) : wp w d YX37_isBefore 45 [none, none, none] [] h (e_is (e_rn c_I q)) := by
  unfold fX37_isBefore_b45 at hf
  refine w_iconst dX37_isBefore_45 (v := 1) (by decide) ?_
  refine w_goto 50 dX37_isBefore_46 (by decide) ?_
  exact (pX37_isBefore_b50 hd hf).to trivial
def fX37_isBefore_b49  (h : eH) : Option (Int32 × eH) :=
  fX37_isBefore_b50 (0 : Int32) h
theorem pX37_isBefore_b49 {w : eW} {d : Nat} (hd : 0 ≤ d)  {h : eH} {q} (hf : fX37_isBefore_b49  h = some q) : wp w d YX37_isBefore 49 [none, none, none] [] h (e_is (e_rn c_I q)) := by
  unfold fX37_isBefore_b49 at hf
  refine w_iconst dX37_isBefore_49 (v := 0) (by decide) ?_
  exact (pX37_isBefore_b50 hd hf).to trivial
def fX37_isBefore (this : Nat) (p0 : Int32) (p1 : Int32) (h : eH) : Option (Int32 × eH) :=
  (g_A 36 h this 23).bind fun a1 =>
  (r_I 100 h a1 p0).bind fun x3 =>
  (g_A 36 h this 23).bind fun a5 =>
  (r_I 100 h a5 p1).bind fun x7 =>
  if x3 < x7 then
    fX37_isBefore_b45 h
  else
    (g_A 36 h this 23).bind fun a10 =>
    (r_I 100 h a10 p0).bind fun x12 =>
    (g_A 36 h this 23).bind fun a14 =>
    (r_I 100 h a14 p1).bind fun x16 =>
    if ¬ x12 = x16 then
      fX37_isBefore_b49 h
    else
      (g_A 36 h this 25).bind fun a19 =>
      (r_I 100 h a19 p0).bind fun x21 =>
      (g_A 36 h this 25).bind fun a23 =>
      (r_I 100 h a23 p1).bind fun x25 =>
      if x21 ≤ x25 then
        fX37_isBefore_b49 h
      else
        fX37_isBefore_b45 h
theorem pX37_isBefore {w : eW} {d : Nat} (hd : 0 ≤ d) {this : Nat} {p0 : Int32} {p1 : Int32} {h : eH} {q} (hf : fX37_isBefore this p0 p1 h = some q) : wm w d YX37_isBefore [.ref this, .int p0, .int p1] h (e_is (e_rn c_I q)) := by
  show wp w d YX37_isBefore 0 [some (.ref this), some (.int p0), some (.int p1)] [] h _
  unfold fX37_isBefore at hf
  refine w_aload_n dX37_isBefore_0 rfl rfl ?_
  obtain ⟨a1, b2, hf⟩ := Option.bind_eq_some_iff.mp hf
  refine GX37_49 b2 dX37_isBefore_1 rfl ?_
  refine w_iload_n dX37_isBefore_4 rfl rfl ?_
  obtain ⟨x3, b4, hf⟩ := Option.bind_eq_some_iff.mp hf
  refine x_rI b4 dX37_isBefore_5 ?_
  refine w_aload_n dX37_isBefore_6 rfl rfl ?_
  obtain ⟨a5, b6, hf⟩ := Option.bind_eq_some_iff.mp hf
  refine GX37_49 b6 dX37_isBefore_7 rfl ?_
  refine w_iload_n dX37_isBefore_10 rfl rfl ?_
  obtain ⟨x7, b8, hf⟩ := Option.bind_eq_some_iff.mp hf
  refine x_rI b8 dX37_isBefore_11 ?_
  refine w_icmp_lt 45 dX37_isBefore_12 (by decide) (fun c9 => ?_) (fun c9 => ?_)
  · replace hf := (if_pos (show x3 < x7 from c9)).symm.trans hf
    exact (pX37_isBefore_b45 hd hf).to trivial
  · replace hf := (if_neg (show ¬ (x3 < x7) from c9)).symm.trans hf
    refine w_aload_n dX37_isBefore_15 rfl rfl ?_
    obtain ⟨a10, b11, hf⟩ := Option.bind_eq_some_iff.mp hf
    refine GX37_49 b11 dX37_isBefore_16 rfl ?_
    refine w_iload_n dX37_isBefore_19 rfl rfl ?_
    obtain ⟨x12, b13, hf⟩ := Option.bind_eq_some_iff.mp hf
    refine x_rI b13 dX37_isBefore_20 ?_
    refine w_aload_n dX37_isBefore_21 rfl rfl ?_
    obtain ⟨a14, b15, hf⟩ := Option.bind_eq_some_iff.mp hf
    refine GX37_49 b15 dX37_isBefore_22 rfl ?_
    refine w_iload_n dX37_isBefore_25 rfl rfl ?_
    obtain ⟨x16, b17, hf⟩ := Option.bind_eq_some_iff.mp hf
    refine x_rI b17 dX37_isBefore_26 ?_
    refine w_icmp_ne 49 dX37_isBefore_27 (by decide) (fun c18 => ?_) (fun c18 => ?_)
    · replace hf := (if_pos (show ¬ x12 = x16 from c18)).symm.trans hf
      exact (pX37_isBefore_b49 hd hf).to trivial
    · replace hf := (if_neg (show ¬ (¬ x12 = x16) from (fun z => z c18))).symm.trans hf
      refine w_aload_n dX37_isBefore_30 rfl rfl ?_
      obtain ⟨a19, b20, hf⟩ := Option.bind_eq_some_iff.mp hf
      refine GX37_55 b20 dX37_isBefore_31 rfl ?_
      refine w_iload_n dX37_isBefore_34 rfl rfl ?_
      obtain ⟨x21, b22, hf⟩ := Option.bind_eq_some_iff.mp hf
      refine x_rI b22 dX37_isBefore_35 ?_
      refine w_aload_n dX37_isBefore_36 rfl rfl ?_
      obtain ⟨a23, b24, hf⟩ := Option.bind_eq_some_iff.mp hf
      refine GX37_55 b24 dX37_isBefore_37 rfl ?_
      refine w_iload_n dX37_isBefore_40 rfl rfl ?_
      obtain ⟨x25, b26, hf⟩ := Option.bind_eq_some_iff.mp hf
      refine x_rI b26 dX37_isBefore_41 ?_
      refine w_icmp_le 49 dX37_isBefore_42 (by decide) (fun c27 => ?_) (fun c27 => ?_)
      · replace hf := (if_pos (show x21 ≤ x25 from c27)).symm.trans hf
        exact (pX37_isBefore_b49 hd hf).to trivial
      · replace hf := (if_neg (show ¬ (x21 ≤ x25) from c27)).symm.trans hf
        exact (pX37_isBefore_b45 hd hf).to trivial
abbrev cX37_reach : ByteArray := prog_38_method_18_code
def yX37_reach : MethodName := ⟨RX37, "reach", "(III)Z"⟩
def YX37_reach : eY := (yX37_reach, cX37_reach, 7, (Option.some FieldType.boolean), [])
theorem mX37_reach : e_mv YX37_reach RX37 3 := ⟨q5837, qs382, q5838, by decide, by decide +kernel, (e_sig (by decide +kernel))⟩
theorem dX37_reach_0 : decode cX37_reach 0 = .ok (.aload_n 0, 1) := dc_42 (by decide +kernel)
theorem dX37_reach_1 : decode cX37_reach 1 = .ok (.getfield 58, 3) := dc_180 (a := 0) (b := 58) (n := 58) (by decide +kernel)
theorem dX37_reach_4 : decode cX37_reach 4 = .ok (.iload_n 3, 1) := dc_29 (by decide +kernel)
theorem dX37_reach_5 : decode cX37_reach 5 = .ok (.laload, 1) := dc_47 (by decide +kernel)
theorem dX37_reach_6 : decode cX37_reach 6 = .ok (.aload_n 0, 1) := dc_42 (by decide +kernel)
theorem dX37_reach_7 : decode cX37_reach 7 = .ok (.iload_n 3, 1) := dc_29 (by decide +kernel)
theorem dX37_reach_8 : decode cX37_reach 8 = .ok (.iload_n 2, 1) := dc_28 (by decide +kernel)
theorem dX37_reach_9 : decode cX37_reach 9 = .ok (.invokevirtual 181, 3) := dc_182 (a := 0) (b := 181) (n := 181) (by decide +kernel)
theorem dX37_reach_12 : decode cX37_reach 12 = .ok (.ladd, 1) := dc_97 (by decide +kernel)
theorem dX37_reach_13 : decode cX37_reach 13 = .ok (.lstore 4, 2) := dc_55 (a := 4) (by decide +kernel)
theorem dX37_reach_15 : decode cX37_reach 15 = .ok (.iload_n 1, 1) := dc_27 (by decide +kernel)
theorem dX37_reach_16 : decode cX37_reach 16 = .ok (.istore 6, 2) := dc_54 (a := 6) (by decide +kernel)
theorem dX37_reach_18 : decode cX37_reach 18 = .ok (.iload 6, 2) := dc_21 (a := 6) (by decide +kernel)
theorem dX37_reach_20 : decode cX37_reach 20 = .ok (.aload_n 0, 1) := dc_42 (by decide +kernel)
theorem dX37_reach_21 : decode cX37_reach 21 = .ok (.getfield 185, 3) := dc_180 (a := 0) (b := 185) (n := 185) (by decide +kernel)
theorem dX37_reach_24 : decode cX37_reach 24 = .ok (.if_icmp .gt 41, 3) := dc_163 (a := 0) (b := 41) (v := 41) (by decide +kernel)
theorem dX37_reach_27 : decode cX37_reach 27 = .ok (.aload_n 0, 1) := dc_42 (by decide +kernel)
theorem dX37_reach_28 : decode cX37_reach 28 = .ok (.getfield 52, 3) := dc_180 (a := 0) (b := 52) (n := 52) (by decide +kernel)
theorem dX37_reach_31 : decode cX37_reach 31 = .ok (.iload 6, 2) := dc_21 (a := 6) (by decide +kernel)
theorem dX37_reach_33 : decode cX37_reach 33 = .ok (.iaload, 1) := dc_46 (by decide +kernel)
theorem dX37_reach_34 : decode cX37_reach 34 = .ok (.aload_n 0, 1) := dc_42 (by decide +kernel)
theorem dX37_reach_35 : decode cX37_reach 35 = .ok (.getfield 52, 3) := dc_180 (a := 0) (b := 52) (n := 52) (by decide +kernel)
theorem dX37_reach_38 : decode cX37_reach 38 = .ok (.iload_n 3, 1) := dc_29 (by decide +kernel)
theorem dX37_reach_39 : decode cX37_reach 39 = .ok (.iaload, 1) := dc_46 (by decide +kernel)
theorem dX37_reach_40 : decode cX37_reach 40 = .ok (.iconst 1, 1) := dc_4 (by decide +kernel)
theorem dX37_reach_41 : decode cX37_reach 41 = .ok (.iadd, 1) := dc_96 (by decide +kernel)
theorem dX37_reach_42 : decode cX37_reach 42 = .ok (.if_icmp .ne 17, 3) := dc_160 (a := 0) (b := 17) (v := 17) (by decide +kernel)
theorem dX37_reach_45 : decode cX37_reach 45 = .ok (.aload_n 0, 1) := dc_42 (by decide +kernel)
theorem dX37_reach_46 : decode cX37_reach 46 = .ok (.getfield 55, 3) := dc_180 (a := 0) (b := 55) (n := 55) (by decide +kernel)
theorem dX37_reach_49 : decode cX37_reach 49 = .ok (.iload 6, 2) := dc_21 (a := 6) (by decide +kernel)
theorem dX37_reach_51 : decode cX37_reach 51 = .ok (.iaload, 1) := dc_46 (by decide +kernel)
theorem dX37_reach_52 : decode cX37_reach 52 = .ok (.aload_n 0, 1) := dc_42 (by decide +kernel)
theorem dX37_reach_53 : decode cX37_reach 53 = .ok (.getfield 172, 3) := dc_180 (a := 0) (b := 172) (n := 172) (by decide +kernel)
theorem dX37_reach_56 : decode cX37_reach 56 = .ok (.if_icmp .eq 9, 3) := dc_159 (a := 0) (b := 9) (v := 9) (by decide +kernel)
theorem dX37_reach_59 : decode cX37_reach 59 = .ok (.iinc 6 1, 3) := dc_132 (a := 6) (b := 1) (v := 1) (by decide +kernel)
theorem dX37_reach_62 : decode cX37_reach 62 = .ok (.goto (-44), 3) := dc_167 (a := 255) (b := 212) (v := -44) (by decide +kernel)
theorem dX37_reach_65 : decode cX37_reach 65 = .ok (.iload 6, 2) := dc_21 (a := 6) (by decide +kernel)
theorem dX37_reach_67 : decode cX37_reach 67 = .ok (.aload_n 0, 1) := dc_42 (by decide +kernel)
theorem dX37_reach_68 : decode cX37_reach 68 = .ok (.getfield 185, 3) := dc_180 (a := 0) (b := 185) (n := 185) (by decide +kernel)
theorem dX37_reach_71 : decode cX37_reach 71 = .ok (.if_icmp .le 38, 3) := dc_164 (a := 0) (b := 38) (v := 38) (by decide +kernel)
theorem dX37_reach_74 : decode cX37_reach 74 = .ok (.aload_n 0, 1) := dc_42 (by decide +kernel)
theorem dX37_reach_75 : decode cX37_reach 75 = .ok (.getfield 185, 3) := dc_180 (a := 0) (b := 185) (n := 185) (by decide +kernel)
theorem dX37_reach_78 : decode cX37_reach 78 = .ok (.sipush 8000, 3) := dc_17 (a := 31) (b := 64) (v := 8000) (by decide +kernel)
theorem dX37_reach_81 : decode cX37_reach 81 = .ok (.if_icmp .ne 5, 3) := dc_160 (a := 0) (b := 5) (v := 5) (by decide +kernel)
theorem dX37_reach_84 : decode cX37_reach 84 = .ok (.iconst 0, 1) := dc_3 (by decide +kernel)
theorem dX37_reach_85 : decode cX37_reach 85 = .ok (.ireturn, 1) := dc_172 (by decide +kernel)
theorem dX37_reach_86 : decode cX37_reach 86 = .ok (.aload_n 0, 1) := dc_42 (by decide +kernel)
theorem dX37_reach_87 : decode cX37_reach 87 = .ok (.dup, 1) := dc_89 (by decide +kernel)
theorem dX37_reach_88 : decode cX37_reach 88 = .ok (.getfield 185, 3) := dc_180 (a := 0) (b := 185) (n := 185) (by decide +kernel)
theorem dX37_reach_91 : decode cX37_reach 91 = .ok (.iconst 1, 1) := dc_4 (by decide +kernel)
theorem dX37_reach_92 : decode cX37_reach 92 = .ok (.iadd, 1) := dc_96 (by decide +kernel)
theorem dX37_reach_93 : decode cX37_reach 93 = .ok (.putfield 185, 3) := dc_181 (a := 0) (b := 185) (n := 185) (by decide +kernel)
theorem dX37_reach_96 : decode cX37_reach 96 = .ok (.aload_n 0, 1) := dc_42 (by decide +kernel)
theorem dX37_reach_97 : decode cX37_reach 97 = .ok (.iload 6, 2) := dc_21 (a := 6) (by decide +kernel)
theorem dX37_reach_99 : decode cX37_reach 99 = .ok (.iload_n 2, 1) := dc_28 (by decide +kernel)
theorem dX37_reach_100 : decode cX37_reach 100 = .ok (.iload_n 3, 1) := dc_29 (by decide +kernel)
theorem dX37_reach_101 : decode cX37_reach 101 = .ok (.lload 4, 2) := dc_22 (a := 4) (by decide +kernel)
theorem dX37_reach_103 : decode cX37_reach 103 = .ok (.invokevirtual 188, 3) := dc_182 (a := 0) (b := 188) (n := 188) (by decide +kernel)
theorem dX37_reach_106 : decode cX37_reach 106 = .ok (.goto 54, 3) := dc_167 (a := 0) (b := 54) (v := 54) (by decide +kernel)
theorem dX37_reach_109 : decode cX37_reach 109 = .ok (.lload 4, 2) := dc_22 (a := 4) (by decide +kernel)
theorem dX37_reach_111 : decode cX37_reach 111 = .ok (.aload_n 0, 1) := dc_42 (by decide +kernel)
theorem dX37_reach_112 : decode cX37_reach 112 = .ok (.getfield 58, 3) := dc_180 (a := 0) (b := 58) (n := 58) (by decide +kernel)
theorem dX37_reach_115 : decode cX37_reach 115 = .ok (.iload 6, 2) := dc_21 (a := 6) (by decide +kernel)
theorem dX37_reach_117 : decode cX37_reach 117 = .ok (.laload, 1) := dc_47 (by decide +kernel)
theorem dX37_reach_118 : decode cX37_reach 118 = .ok (.lcmp, 1) := dc_148 (by decide +kernel)
theorem dX37_reach_119 : decode cX37_reach 119 = .ok (.ifCond .lt 31, 3) := dc_155 (a := 0) (b := 31) (v := 31) (by decide +kernel)
theorem dX37_reach_122 : decode cX37_reach 122 = .ok (.lload 4, 2) := dc_22 (a := 4) (by decide +kernel)
theorem dX37_reach_124 : decode cX37_reach 124 = .ok (.aload_n 0, 1) := dc_42 (by decide +kernel)
theorem dX37_reach_125 : decode cX37_reach 125 = .ok (.getfield 58, 3) := dc_180 (a := 0) (b := 58) (n := 58) (by decide +kernel)
theorem dX37_reach_128 : decode cX37_reach 128 = .ok (.iload 6, 2) := dc_21 (a := 6) (by decide +kernel)
theorem dX37_reach_130 : decode cX37_reach 130 = .ok (.laload, 1) := dc_47 (by decide +kernel)
theorem dX37_reach_131 : decode cX37_reach 131 = .ok (.lcmp, 1) := dc_148 (by decide +kernel)
theorem dX37_reach_132 : decode cX37_reach 132 = .ok (.ifCond .ne 28, 3) := dc_154 (a := 0) (b := 28) (v := 28) (by decide +kernel)
theorem dX37_reach_135 : decode cX37_reach 135 = .ok (.aload_n 0, 1) := dc_42 (by decide +kernel)
theorem dX37_reach_136 : decode cX37_reach 136 = .ok (.iload_n 3, 1) := dc_29 (by decide +kernel)
theorem dX37_reach_137 : decode cX37_reach 137 = .ok (.aload_n 0, 1) := dc_42 (by decide +kernel)
theorem dX37_reach_138 : decode cX37_reach 138 = .ok (.getfield 62, 3) := dc_180 (a := 0) (b := 62) (n := 62) (by decide +kernel)
theorem dX37_reach_141 : decode cX37_reach 141 = .ok (.iload 6, 2) := dc_21 (a := 6) (by decide +kernel)
theorem dX37_reach_143 : decode cX37_reach 143 = .ok (.iaload, 1) := dc_46 (by decide +kernel)
theorem dX37_reach_144 : decode cX37_reach 144 = .ok (.invokevirtual 192, 3) := dc_182 (a := 0) (b := 192) (n := 192) (by decide +kernel)
theorem dX37_reach_147 : decode cX37_reach 147 = .ok (.ifCond .eq 13, 3) := dc_153 (a := 0) (b := 13) (v := 13) (by decide +kernel)
theorem dX37_reach_150 : decode cX37_reach 150 = .ok (.aload_n 0, 1) := dc_42 (by decide +kernel)
theorem dX37_reach_151 : decode cX37_reach 151 = .ok (.iload 6, 2) := dc_21 (a := 6) (by decide +kernel)
theorem dX37_reach_153 : decode cX37_reach 153 = .ok (.iload_n 2, 1) := dc_28 (by decide +kernel)
theorem dX37_reach_154 : decode cX37_reach 154 = .ok (.iload_n 3, 1) := dc_29 (by decide +kernel)
theorem dX37_reach_155 : decode cX37_reach 155 = .ok (.lload 4, 2) := dc_22 (a := 4) (by decide +kernel)
theorem dX37_reach_157 : decode cX37_reach 157 = .ok (.invokevirtual 188, 3) := dc_182 (a := 0) (b := 188) (n := 188) (by decide +kernel)
theorem dX37_reach_160 : decode cX37_reach 160 = .ok (.iconst 1, 1) := dc_4 (by decide +kernel)
theorem dX37_reach_161 : decode cX37_reach 161 = .ok (.ireturn, 1) := dc_172 (by decide +kernel)
theorem GX37_185 {w : eW} {d : Nat} {Y : eY} {pc : Nat} {ls : eL} {st : List Value} {h : eH} {Q : eO → eH → Prop} {a : Nat} {x : Int32} (hf : g_I 36 h a 20 = some x) (hd : decode Y.2.1 pc = .ok (.getfield 185, 3)) (hY : Y.1.cls = RX37) (kk : wp w d Y (pc + 3) ls (.int x :: st) h Q) : wp w d Y pc ls (.ref a :: st) h Q := x_gI (ci := 36) (k := 20) hf hd rfl (by decide) (by rw [hY]; exact q4254) kk
theorem SX37_185 {w : eW} {d : Nat} {Y : eY} {pc : Nat} {ls : eL} {st : List Value} {h : eH} {Q : eO → eH → Prop} {a : Nat} {h' : eH} {x : Int32} (hf : p_V 36 h a 20 (.int x) = some h') (hd : decode Y.2.1 pc = .ok (.putfield 185, 3)) (hY : Y.1.cls = RX37) (kk : wp w d Y (pc + 3) ls st h' Q) : wp w d Y pc ls (.int x :: .ref a :: st) h Q := x_pI (ci := 36) (k := 20) hf hd rfl (by decide) (by rw [hY]; exact q4254) rfl rfl kk
def fX37_reach_b59 (N : Nat) (k18 : Nat → Int32 → Int32 → Int64 → Int32 → eH → Option (Int32 × eH)) (l0 : Nat) (l2 : Int32) (l3 : Int32) (l4 : Int64) (l6 : Int32) (h : eH) : Option (Int32 × eH) :=
  k18 l0 l2 l3 l4 (l6 + (1 : Int32)) h
theorem pX37_reach_b59 {w : eW} {d : Nat} (hd : 2 ≤ d + 1) {N : Nat} {k18 : Nat → Int32 → Int32 → Int64 → Int32 → eH → Option (Int32 × eH)} (hk18 : ∀ l0 l2 l3 l4 l6 h q, k18 l0 l2 l3 l4 l6 h = some q → wp w (d + 1) YX37_reach 18 [some (.ref l0), none, some (.int l2), some (.int l3), some (.long l4), none, some (.int l6)] [] h (e_is (e_rn c_I q))) {l0 : Nat} {l2 : Int32} {l3 : Int32} {l4 : Int64} {l6 : Int32} {h : eH} {q} (hf : fX37_reach_b59 N k18 l0 l2 l3 l4 l6 h = some q) : wp w (d + 1) YX37_reach 59 [some (.ref l0), none, some (.int l2), some (.int l3), some (.long l4), none, some (.int l6)] [] h (e_is (e_rn c_I q)) := by
  unfold fX37_reach_b59 at hf
  refine w_iinc dX37_reach_59 (v := (l6 + (1 : Int32))) rfl rfl (by decide) (ls' := [some (.ref l0), none, some (.int l2), some (.int l3), some (.long l4), none, some (.int (l6 + (1 : Int32)))]) rfl ?_
  refine w_goto 18 dX37_reach_62 (by decide) ?_
  exact (hk18 _ _ _ _ _ _ _ hf).to ⟨rfl, rfl, rfl, rfl, rfl, trivial⟩
def fX37_reach_b160 (N : Nat)  (h : eH) : Option (Int32 × eH) :=
  some ((1 : Int32), h)
theorem pX37_reach_b160 {w : eW} {d : Nat} (hd : 2 ≤ d + 1) {N : Nat}  {h : eH} {q} (hf : fX37_reach_b160 N h = some q) : wp w (d + 1) YX37_reach 160 [none, none, none, none, none, none, none] [] h (e_is (e_rn c_I q)) := by
  unfold fX37_reach_b160 at hf
  refine w_iconst dX37_reach_160 (v := 1) (by decide) ?_
  cases hf
  exact w_iret dX37_reach_161 rfl rfl rfl
def fX37_reach_b150 (N : Nat) (l0 : Nat) (l2 : Int32) (l3 : Int32) (l4 : Int64) (l6 : Int32) (h : eH) : Option (Int32 × eH) :=
  (k_ok 36 h l0).bind fun _ =>
  (fX37_write l0 l6 l2 l3 l4 h).bind fun q2 =>
  fX37_reach_b160 N q2.2
theorem pX37_reach_b150 {w : eW} {d : Nat} (hd : 2 ≤ d + 1) {N : Nat} {l0 : Nat} {l2 : Int32} {l3 : Int32} {l4 : Int64} {l6 : Int32} {h : eH} {q} (hf : fX37_reach_b150 N l0 l2 l3 l4 l6 h = some q) : wp w (d + 1) YX37_reach 150 [some (.ref l0), none, some (.int l2), some (.int l3), some (.long l4), none, some (.int l6)] [] h (e_is (e_rn c_I q)) := by
  unfold fX37_reach_b150 at hf
  refine w_aload_n dX37_reach_150 rfl rfl ?_
  refine w_iload dX37_reach_151 rfl ?_
  refine w_iload_n dX37_reach_153 rfl rfl ?_
  refine w_iload_n dX37_reach_154 rfl rfl ?_
  refine w_lload dX37_reach_155 rfl ?_
  obtain ⟨_, b1, hf⟩ := Option.bind_eq_some_iff.mp hf
  refine x_cnV hf (e_stV (Yc := YX37_write) (ci := 36) (av := [.int l6, .int l2, .int l3, .long l4]) (st := []) dX37_reach_157 q5846 mX37_write rfl (k_ok_some b1).1 (k_ok_some b1).2) mX37_write.2.2.1 mX37_write.2.2.2.2.1 (Nat.le_of_ble_eq_true rfl) (Nat.le_of_ble_eq_true rfl) (fun q hq => pX37_write (by omega) hq) (fun q2 hf => ?_)
  exact (pX37_reach_b160 hd hf).to trivial
def fX37_reach_b65 (N : Nat) (l0 : Nat) (l2 : Int32) (l3 : Int32) (l4 : Int64) (l6 : Int32) (h : eH) : Option (Int32 × eH) :=
  (g_I 36 h l0 20).bind fun x1 =>
  if l6 ≤ x1 then
    (g_A 36 h l0 26).bind fun a4 =>
    (r_J h a4 l6).bind fun x6 =>
    if (lg_cmp l4 x6) < 0 then
      fX37_reach_b150 N l0 l2 l3 l4 l6 h
    else
      (g_A 36 h l0 26).bind fun a9 =>
      (r_J h a9 l6).bind fun x11 =>
      if ¬ (lg_cmp l4 x11) = 0 then
        fX37_reach_b160 N h
      else
        (g_A 36 h l0 27).bind fun a14 =>
        (r_I 100 h a14 l6).bind fun x16 =>
        (k_ok 36 h l0).bind fun _ =>
        (fX37_isBefore l0 l3 x16 h).bind fun q19 =>
        if q19.1 = 0 then
          fX37_reach_b160 N q19.2
        else
          fX37_reach_b150 N l0 l2 l3 l4 l6 q19.2
  else
    (g_I 36 h l0 20).bind fun x21 =>
    if ¬ x21 = (8000 : Int32) then
      (g_I 36 h l0 20).bind fun x24 =>
      (p_V 36 h l0 20 (.int (x24 + (1 : Int32)))).bind fun h26 =>
      (k_ok 36 h26 l0).bind fun _ =>
      (fX37_write l0 l6 l2 l3 l4 h26).bind fun q29 =>
      fX37_reach_b160 N q29.2
    else
      some ((0 : Int32), h)
theorem pX37_reach_b65 {w : eW} {d : Nat} (hd : 2 ≤ d + 1) {N : Nat} {l0 : Nat} {l2 : Int32} {l3 : Int32} {l4 : Int64} {l6 : Int32} {h : eH} {q} (hf : fX37_reach_b65 N l0 l2 l3 l4 l6 h = some q) : wp w (d + 1) YX37_reach 65 [some (.ref l0), none, some (.int l2), some (.int l3), some (.long l4), none, some (.int l6)] [] h (e_is (e_rn c_I q)) := by
  unfold fX37_reach_b65 at hf
  refine w_iload dX37_reach_65 rfl ?_
  refine w_aload_n dX37_reach_67 rfl rfl ?_
  obtain ⟨x1, b2, hf⟩ := Option.bind_eq_some_iff.mp hf
  refine GX37_185 b2 dX37_reach_68 rfl ?_
  refine w_icmp_le 109 dX37_reach_71 (by decide) (fun c3 => ?_) (fun c3 => ?_)
  · replace hf := (if_pos (show l6 ≤ x1 from c3)).symm.trans hf
    refine w_lload dX37_reach_109 rfl ?_
    refine w_aload_n dX37_reach_111 rfl rfl ?_
    obtain ⟨a4, b5, hf⟩ := Option.bind_eq_some_iff.mp hf
    refine GX37_58 b5 dX37_reach_112 rfl ?_
    refine w_iload dX37_reach_115 rfl ?_
    obtain ⟨x6, b7, hf⟩ := Option.bind_eq_some_iff.mp hf
    refine x_rJ b7 dX37_reach_117 ?_
    refine w_lcmp dX37_reach_118 ?_
    refine w_if_lt 150 dX37_reach_119 (by decide) (fun c8 => ?_) (fun c8 => ?_)
    · replace hf := (if_pos (show (lg_cmp l4 x6) < 0 from c8)).symm.trans hf
      exact (pX37_reach_b150 hd hf).to ⟨rfl, rfl, rfl, rfl, rfl, trivial⟩
    · replace hf := (if_neg (show ¬ ((lg_cmp l4 x6) < 0) from c8)).symm.trans hf
      refine w_lload dX37_reach_122 rfl ?_
      refine w_aload_n dX37_reach_124 rfl rfl ?_
      obtain ⟨a9, b10, hf⟩ := Option.bind_eq_some_iff.mp hf
      refine GX37_58 b10 dX37_reach_125 rfl ?_
      refine w_iload dX37_reach_128 rfl ?_
      obtain ⟨x11, b12, hf⟩ := Option.bind_eq_some_iff.mp hf
      refine x_rJ b12 dX37_reach_130 ?_
      refine w_lcmp dX37_reach_131 ?_
      refine w_if_ne 160 dX37_reach_132 (by decide) (fun c13 => ?_) (fun c13 => ?_)
      · replace hf := (if_pos (show ¬ (lg_cmp l4 x11) = 0 from c13)).symm.trans hf
        exact (pX37_reach_b160 hd hf).to trivial
      · replace hf := (if_neg (show ¬ (¬ (lg_cmp l4 x11) = 0) from (fun z => z c13))).symm.trans hf
        refine w_aload_n dX37_reach_135 rfl rfl ?_
        refine w_iload_n dX37_reach_136 rfl rfl ?_
        refine w_aload_n dX37_reach_137 rfl rfl ?_
        obtain ⟨a14, b15, hf⟩ := Option.bind_eq_some_iff.mp hf
        refine GX37_62 b15 dX37_reach_138 rfl ?_
        refine w_iload dX37_reach_141 rfl ?_
        obtain ⟨x16, b17, hf⟩ := Option.bind_eq_some_iff.mp hf
        refine x_rI b17 dX37_reach_143 ?_
        obtain ⟨_, b18, hf⟩ := Option.bind_eq_some_iff.mp hf
        refine x_cnI hf (e_stV (Yc := YX37_isBefore) (ci := 36) (av := [.int l3, .int x16]) (st := []) dX37_reach_144 q5850 mX37_isBefore rfl (k_ok_some b18).1 (k_ok_some b18).2) mX37_isBefore.2.2.1 mX37_isBefore.2.2.2.2.1 (Nat.le_of_ble_eq_true rfl) (Nat.le_of_ble_eq_true rfl) (fun q hq => pX37_isBefore (by omega) hq) (fun q19 hf => ?_)
        refine w_if_eq 160 dX37_reach_147 (by decide) (fun c20 => ?_) (fun c20 => ?_)
        · replace hf := (if_pos (show q19.1 = 0 from c20)).symm.trans hf
          exact (pX37_reach_b160 hd hf).to trivial
        · replace hf := (if_neg (show ¬ (q19.1 = 0) from c20)).symm.trans hf
          exact (pX37_reach_b150 hd hf).to ⟨rfl, rfl, rfl, rfl, rfl, trivial⟩
  · replace hf := (if_neg (show ¬ (l6 ≤ x1) from c3)).symm.trans hf
    refine w_aload_n dX37_reach_74 rfl rfl ?_
    obtain ⟨x21, b22, hf⟩ := Option.bind_eq_some_iff.mp hf
    refine GX37_185 b22 dX37_reach_75 rfl ?_
    refine w_sipush dX37_reach_78 (v := 8000) (by decide) ?_
    refine w_icmp_ne 86 dX37_reach_81 (by decide) (fun c23 => ?_) (fun c23 => ?_)
    · replace hf := (if_pos (show ¬ x21 = (8000 : Int32) from c23)).symm.trans hf
      refine w_aload_n dX37_reach_86 rfl rfl ?_
      refine w_dup dX37_reach_87 rfl ?_
      obtain ⟨x24, b25, hf⟩ := Option.bind_eq_some_iff.mp hf
      refine GX37_185 b25 dX37_reach_88 rfl ?_
      refine w_iconst dX37_reach_91 (v := 1) (by decide) ?_
      refine w_iadd dX37_reach_92 ?_
      obtain ⟨h26, b27, hf⟩ := Option.bind_eq_some_iff.mp hf
      refine SX37_185 b27 dX37_reach_93 rfl ?_
      refine w_aload_n dX37_reach_96 rfl rfl ?_
      refine w_iload dX37_reach_97 rfl ?_
      refine w_iload_n dX37_reach_99 rfl rfl ?_
      refine w_iload_n dX37_reach_100 rfl rfl ?_
      refine w_lload dX37_reach_101 rfl ?_
      obtain ⟨_, b28, hf⟩ := Option.bind_eq_some_iff.mp hf
      refine x_cnV hf (e_stV (Yc := YX37_write) (ci := 36) (av := [.int l6, .int l2, .int l3, .long l4]) (st := []) dX37_reach_103 q5846 mX37_write rfl (k_ok_some b28).1 (k_ok_some b28).2) mX37_write.2.2.1 mX37_write.2.2.2.2.1 (Nat.le_of_ble_eq_true rfl) (Nat.le_of_ble_eq_true rfl) (fun q hq => pX37_write (by omega) hq) (fun q29 hf => ?_)
      refine w_goto 160 dX37_reach_106 (by decide) ?_
      exact (pX37_reach_b160 hd hf).to trivial
    · replace hf := (if_neg (show ¬ (¬ x21 = (8000 : Int32)) from (fun z => z c23))).symm.trans hf
      refine w_iconst dX37_reach_84 (v := 0) (by decide) ?_
      cases hf
      exact w_iret dX37_reach_85 rfl rfl rfl
def fX37_reach_b18 (N : Nat) : Nat → Nat → Int32 → Int32 → Int64 → Int32 → eH → Option (Int32 × eH)
  | 0, _, _, _, _, _, _ => none
  | n + 1, l0, l2, l3, l4, l6, h =>
    (g_I 36 h l0 20).bind fun x1 =>
    if x1 < l6 then
      fX37_reach_b65 N l0 l2 l3 l4 l6 h
    else
      (g_A 36 h l0 24).bind fun a4 =>
      (r_I 100 h a4 l6).bind fun x6 =>
      (g_A 36 h l0 24).bind fun a8 =>
      (r_I 100 h a8 l3).bind fun x10 =>
      if ¬ x6 = (x10 + (1 : Int32)) then
        fX37_reach_b59 N (fX37_reach_b18 N n) l0 l2 l3 l4 l6 h
      else
        (g_A 36 h l0 25).bind fun a13 =>
        (r_I 100 h a13 l6).bind fun x15 =>
        (g_I 36 h l0 35).bind fun x17 =>
        if x15 = x17 then
          fX37_reach_b65 N l0 l2 l3 l4 l6 h
        else
          fX37_reach_b59 N (fX37_reach_b18 N n) l0 l2 l3 l4 l6 h
theorem pX37_reach_b18 {w : eW} {d : Nat} (hd : 2 ≤ d + 1) {N : Nat} : ∀ (n : Nat) l0 l2 l3 l4 l6 h q, fX37_reach_b18 N n l0 l2 l3 l4 l6 h = some q → wp w (d + 1) YX37_reach 18 [some (.ref l0), none, some (.int l2), some (.int l3), some (.long l4), none, some (.int l6)] [] h (e_is (e_rn c_I q)) := by
  intro n
  induction n with
  | zero => intro l0 l2 l3 l4 l6 h q hf; simp [fX37_reach_b18] at hf
  | succ n ih =>
    intro l0 l2 l3 l4 l6 h q hf
    rw [fX37_reach_b18] at hf
    refine w_iload dX37_reach_18 rfl ?_
    refine w_aload_n dX37_reach_20 rfl rfl ?_
    obtain ⟨x1, b2, hf⟩ := Option.bind_eq_some_iff.mp hf
    refine GX37_185 b2 dX37_reach_21 rfl ?_
    refine w_icmp_gt 65 dX37_reach_24 (by decide) (fun c3 => ?_) (fun c3 => ?_)
    · replace hf := (if_pos (show x1 < l6 from c3)).symm.trans hf
      exact (pX37_reach_b65 hd hf).to ⟨rfl, rfl, rfl, rfl, rfl, trivial⟩
    · replace hf := (if_neg (show ¬ (x1 < l6) from c3)).symm.trans hf
      refine w_aload_n dX37_reach_27 rfl rfl ?_
      obtain ⟨a4, b5, hf⟩ := Option.bind_eq_some_iff.mp hf
      refine GX37_52 b5 dX37_reach_28 rfl ?_
      refine w_iload dX37_reach_31 rfl ?_
      obtain ⟨x6, b7, hf⟩ := Option.bind_eq_some_iff.mp hf
      refine x_rI b7 dX37_reach_33 ?_
      refine w_aload_n dX37_reach_34 rfl rfl ?_
      obtain ⟨a8, b9, hf⟩ := Option.bind_eq_some_iff.mp hf
      refine GX37_52 b9 dX37_reach_35 rfl ?_
      refine w_iload_n dX37_reach_38 rfl rfl ?_
      obtain ⟨x10, b11, hf⟩ := Option.bind_eq_some_iff.mp hf
      refine x_rI b11 dX37_reach_39 ?_
      refine w_iconst dX37_reach_40 (v := 1) (by decide) ?_
      refine w_iadd dX37_reach_41 ?_
      refine w_icmp_ne 59 dX37_reach_42 (by decide) (fun c12 => ?_) (fun c12 => ?_)
      · replace hf := (if_pos (show ¬ x6 = (x10 + (1 : Int32)) from c12)).symm.trans hf
        exact (pX37_reach_b59 hd ih hf).to ⟨rfl, rfl, rfl, rfl, rfl, trivial⟩
      · replace hf := (if_neg (show ¬ (¬ x6 = (x10 + (1 : Int32))) from (fun z => z c12))).symm.trans hf
        refine w_aload_n dX37_reach_45 rfl rfl ?_
        obtain ⟨a13, b14, hf⟩ := Option.bind_eq_some_iff.mp hf
        refine GX37_55 b14 dX37_reach_46 rfl ?_
        refine w_iload dX37_reach_49 rfl ?_
        obtain ⟨x15, b16, hf⟩ := Option.bind_eq_some_iff.mp hf
        refine x_rI b16 dX37_reach_51 ?_
        refine w_aload_n dX37_reach_52 rfl rfl ?_
        obtain ⟨x17, b18, hf⟩ := Option.bind_eq_some_iff.mp hf
        refine GX37_172 b18 dX37_reach_53 rfl ?_
        refine w_icmp_eq 65 dX37_reach_56 (by decide) (fun c19 => ?_) (fun c19 => ?_)
        · replace hf := (if_pos (show x15 = x17 from c19)).symm.trans hf
          exact (pX37_reach_b65 hd hf).to ⟨rfl, rfl, rfl, rfl, rfl, trivial⟩
        · replace hf := (if_neg (show ¬ (x15 = x17) from c19)).symm.trans hf
          exact (pX37_reach_b59 hd ih hf).to ⟨rfl, rfl, rfl, rfl, rfl, trivial⟩
def fX37_reach (N : Nat) (this : Nat) (p0 : Int32) (p1 : Int32) (p2 : Int32) (h : eH) : Option (Int32 × eH) :=
  (g_A 36 h this 26).bind fun a1 =>
  (r_J h a1 p2).bind fun x3 =>
  (k_ok 36 h this).bind fun _ =>
  (fX37_demerits this p2 p1 h).bind fun q6 =>
  fX37_reach_b18 N N this p1 p2 (x3 + q6.1) p0 q6.2
theorem pX37_reach {w : eW} {d : Nat} (hd : 2 ≤ d) {N : Nat} {this : Nat} {p0 : Int32} {p1 : Int32} {p2 : Int32} {h : eH} {q} (hf : fX37_reach N this p0 p1 p2 h = some q) : wm w d YX37_reach [.ref this, .int p0, .int p1, .int p2] h (e_is (e_rn c_I q)) := by
  obtain ⟨d, rfl⟩ : ∃ e, d = e + 1 := ⟨d - 1, by omega⟩
  show wp w (d + 1) YX37_reach 0 [some (.ref this), some (.int p0), some (.int p1), some (.int p2), none, none, none] [] h _
  unfold fX37_reach at hf
  refine w_aload_n dX37_reach_0 rfl rfl ?_
  obtain ⟨a1, b2, hf⟩ := Option.bind_eq_some_iff.mp hf
  refine GX37_58 b2 dX37_reach_1 rfl ?_
  refine w_iload_n dX37_reach_4 rfl rfl ?_
  obtain ⟨x3, b4, hf⟩ := Option.bind_eq_some_iff.mp hf
  refine x_rJ b4 dX37_reach_5 ?_
  refine w_aload_n dX37_reach_6 rfl rfl ?_
  refine w_iload_n dX37_reach_7 rfl rfl ?_
  refine w_iload_n dX37_reach_8 rfl rfl ?_
  obtain ⟨_, b5, hf⟩ := Option.bind_eq_some_iff.mp hf
  refine x_cnJ hf (e_stV (Yc := YX37_demerits) (ci := 36) (av := [.int p2, .int p1]) (st := [.long x3]) dX37_reach_9 q5839 mX37_demerits rfl (k_ok_some b5).1 (k_ok_some b5).2) mX37_demerits.2.2.1 mX37_demerits.2.2.2.2.1 (Nat.le_of_ble_eq_true rfl) (Nat.le_of_ble_eq_true rfl) (fun q hq => pX37_demerits (by omega) hq) (fun q6 hf => ?_)
  refine w_ladd dX37_reach_12 ?_
  refine w_lstore dX37_reach_13 (by decide) (ls' := [some (.ref this), some (.int p0), some (.int p1), some (.int p2), some (.long (x3 + q6.1)), none, none]) rfl ?_
  refine w_iload_n dX37_reach_15 rfl rfl ?_
  refine w_istore dX37_reach_16 (by decide) (ls' := [some (.ref this), some (.int p0), some (.int p1), some (.int p2), some (.long (x3 + q6.1)), none, some (.int p0)]) rfl ?_
  exact (pX37_reach_b18 hd N _ _ _ _ _ _ _ hf).to ⟨rfl, rfl, rfl, rfl, rfl, trivial⟩
abbrev cX37_ask : ByteArray := prog_38_method_19_code
def yX37_ask : MethodName := ⟨RX37, "ask", "(I)Z"⟩
def YX37_ask : eY := (yX37_ask, cX37_ask, 10, (Option.some FieldType.boolean), [])
theorem mX37_ask : e_mv YX37_ask RX37 1 := ⟨q5804, qs376, q5805, by decide, by decide +kernel, (e_sig (by decide +kernel))⟩
theorem dX37_ask_0 : decode cX37_ask 0 = .ok (.aload_n 0, 1) := dc_42 (by decide +kernel)
theorem dX37_ask_1 : decode cX37_ask 1 = .ok (.getfield 185, 3) := dc_180 (a := 0) (b := 185) (n := 185) (by decide +kernel)
theorem dX37_ask_4 : decode cX37_ask 4 = .ok (.iconst 1, 1) := dc_4 (by decide +kernel)
theorem dX37_ask_5 : decode cX37_ask 5 = .ok (.iadd, 1) := dc_96 (by decide +kernel)
theorem dX37_ask_6 : decode cX37_ask 6 = .ok (.istore_n 2, 1) := dc_61 (by decide +kernel)
theorem dX37_ask_7 : decode cX37_ask 7 = .ok (.aload_n 0, 1) := dc_42 (by decide +kernel)
theorem dX37_ask_8 : decode cX37_ask 8 = .ok (.iload_n 1, 1) := dc_27 (by decide +kernel)
theorem dX37_ask_9 : decode cX37_ask 9 = .ok (.invokevirtual 116, 3) := dc_182 (a := 0) (b := 116) (n := 116) (by decide +kernel)
theorem dX37_ask_12 : decode cX37_ask 12 = .ok (.sipush (-10000), 3) := dc_17 (a := 216) (b := 240) (v := -10000) (by decide +kernel)
theorem dX37_ask_15 : decode cX37_ask 15 = .ok (.if_icmp .ne 7, 3) := dc_160 (a := 0) (b := 7) (v := 7) (by decide +kernel)
theorem dX37_ask_18 : decode cX37_ask 18 = .ok (.iconst 1, 1) := dc_4 (by decide +kernel)
theorem dX37_ask_19 : decode cX37_ask 19 = .ok (.goto 4, 3) := dc_167 (a := 0) (b := 4) (v := 4) (by decide +kernel)
theorem dX37_ask_22 : decode cX37_ask 22 = .ok (.iconst 0, 1) := dc_3 (by decide +kernel)
theorem dX37_ask_23 : decode cX37_ask 23 = .ok (.istore_n 3, 1) := dc_62 (by decide +kernel)
theorem dX37_ask_24 : decode cX37_ask 24 = .ok (.iconst 0, 1) := dc_3 (by decide +kernel)
theorem dX37_ask_25 : decode cX37_ask 25 = .ok (.istore 4, 2) := dc_54 (a := 4) (by decide +kernel)
theorem dX37_ask_27 : decode cX37_ask 27 = .ok (.iconst 0, 1) := dc_3 (by decide +kernel)
theorem dX37_ask_28 : decode cX37_ask 28 = .ok (.istore 5, 2) := dc_54 (a := 5) (by decide +kernel)
theorem dX37_ask_30 : decode cX37_ask 30 = .ok (.iconst (-1), 1) := dc_2 (by decide +kernel)
theorem dX37_ask_31 : decode cX37_ask 31 = .ok (.istore 6, 2) := dc_54 (a := 6) (by decide +kernel)
theorem dX37_ask_33 : decode cX37_ask 33 = .ok (.iconst 0, 1) := dc_3 (by decide +kernel)
theorem dX37_ask_34 : decode cX37_ask 34 = .ok (.istore 7, 2) := dc_54 (a := 7) (by decide +kernel)
theorem dX37_ask_36 : decode cX37_ask 36 = .ok (.iconst 0, 1) := dc_3 (by decide +kernel)
theorem dX37_ask_37 : decode cX37_ask 37 = .ok (.istore 8, 2) := dc_54 (a := 8) (by decide +kernel)
theorem dX37_ask_39 : decode cX37_ask 39 = .ok (.iload 8, 2) := dc_21 (a := 8) (by decide +kernel)
theorem dX37_ask_41 : decode cX37_ask 41 = .ok (.iload_n 2, 1) := dc_28 (by decide +kernel)
theorem dX37_ask_42 : decode cX37_ask 42 = .ok (.if_icmp .ge 168, 3) := dc_162 (a := 0) (b := 168) (v := 168) (by decide +kernel)
theorem dX37_ask_45 : decode cX37_ask 45 = .ok (.aload_n 0, 1) := dc_42 (by decide +kernel)
theorem dX37_ask_46 : decode cX37_ask 46 = .ok (.getfield 65, 3) := dc_180 (a := 0) (b := 65) (n := 65) (by decide +kernel)
theorem dX37_ask_49 : decode cX37_ask 49 = .ok (.iload 8, 2) := dc_21 (a := 8) (by decide +kernel)
theorem dX37_ask_51 : decode cX37_ask 51 = .ok (.baload, 1) := dc_51 (by decide +kernel)
theorem dX37_ask_52 : decode cX37_ask 52 = .ok (.ifCond .ne 152, 3) := dc_154 (a := 0) (b := 152) (v := 152) (by decide +kernel)
theorem dX37_ask_55 : decode cX37_ask 55 = .ok (.aload_n 0, 1) := dc_42 (by decide +kernel)
theorem dX37_ask_56 : decode cX37_ask 56 = .ok (.aload_n 0, 1) := dc_42 (by decide +kernel)
theorem dX37_ask_57 : decode cX37_ask 57 = .ok (.getfield 49, 3) := dc_180 (a := 0) (b := 49) (n := 49) (by decide +kernel)
theorem dX37_ask_60 : decode cX37_ask 60 = .ok (.iload 8, 2) := dc_21 (a := 8) (by decide +kernel)
theorem dX37_ask_62 : decode cX37_ask 62 = .ok (.iaload, 1) := dc_46 (by decide +kernel)
theorem dX37_ask_63 : decode cX37_ask 63 = .ok (.iload_n 1, 1) := dc_27 (by decide +kernel)
theorem dX37_ask_64 : decode cX37_ask 64 = .ok (.invokevirtual 196, 3) := dc_182 (a := 0) (b := 196) (n := 196) (by decide +kernel)
theorem dX37_ask_67 : decode cX37_ask 67 = .ok (.aload_n 0, 1) := dc_42 (by decide +kernel)
theorem dX37_ask_68 : decode cX37_ask 68 = .ok (.aload_n 0, 1) := dc_42 (by decide +kernel)
theorem dX37_ask_69 : decode cX37_ask 69 = .ok (.getfield 52, 3) := dc_180 (a := 0) (b := 52) (n := 52) (by decide +kernel)
theorem dX37_ask_72 : decode cX37_ask 72 = .ok (.iload 8, 2) := dc_21 (a := 8) (by decide +kernel)
theorem dX37_ask_74 : decode cX37_ask 74 = .ok (.iaload, 1) := dc_46 (by decide +kernel)
theorem dX37_ask_75 : decode cX37_ask 75 = .ok (.invokevirtual 200, 3) := dc_182 (a := 0) (b := 200) (n := 200) (by decide +kernel)
theorem dX37_ask_78 : decode cX37_ask 78 = .ok (.iinc 4 1, 3) := dc_132 (a := 4) (b := 1) (v := 1) (by decide +kernel)
theorem dX37_ask_81 : decode cX37_ask 81 = .ok (.aload_n 0, 1) := dc_42 (by decide +kernel)
theorem dX37_ask_82 : decode cX37_ask 82 = .ok (.getfield 169, 3) := dc_180 (a := 0) (b := 169) (n := 169) (by decide +kernel)
theorem dX37_ask_85 : decode cX37_ask 85 = .ok (.aload_n 0, 1) := dc_42 (by decide +kernel)
theorem dX37_ask_86 : decode cX37_ask 86 = .ok (.getfield 204, 3) := dc_180 (a := 0) (b := 204) (n := 204) (by decide +kernel)
theorem dX37_ask_89 : decode cX37_ask 89 = .ok (.if_icmp .gt 19, 3) := dc_163 (a := 0) (b := 19) (v := 19) (by decide +kernel)
theorem dX37_ask_92 : decode cX37_ask 92 = .ok (.iconst 1, 1) := dc_4 (by decide +kernel)
theorem dX37_ask_93 : decode cX37_ask 93 = .ok (.istore 7, 2) := dc_54 (a := 7) (by decide +kernel)
theorem dX37_ask_95 : decode cX37_ask 95 = .ok (.aload_n 0, 1) := dc_42 (by decide +kernel)
theorem dX37_ask_96 : decode cX37_ask 96 = .ok (.iload_n 2, 1) := dc_28 (by decide +kernel)
theorem dX37_ask_97 : decode cX37_ask 97 = .ok (.iload_n 1, 1) := dc_27 (by decide +kernel)
theorem dX37_ask_98 : decode cX37_ask 98 = .ok (.iload 8, 2) := dc_21 (a := 8) (by decide +kernel)
theorem dX37_ask_100 : decode cX37_ask 100 = .ok (.invokevirtual 207, 3) := dc_182 (a := 0) (b := 207) (n := 207) (by decide +kernel)
theorem dX37_ask_103 : decode cX37_ask 103 = .ok (.ifCond .ne 5, 3) := dc_154 (a := 0) (b := 5) (v := 5) (by decide +kernel)
theorem dX37_ask_106 : decode cX37_ask 106 = .ok (.iconst 0, 1) := dc_3 (by decide +kernel)
theorem dX37_ask_107 : decode cX37_ask 107 = .ok (.ireturn, 1) := dc_172 (by decide +kernel)
theorem dX37_ask_108 : decode cX37_ask 108 = .ok (.aload_n 0, 1) := dc_42 (by decide +kernel)
theorem dX37_ask_109 : decode cX37_ask 109 = .ok (.getfield 169, 3) := dc_180 (a := 0) (b := 169) (n := 169) (by decide +kernel)
theorem dX37_ask_112 : decode cX37_ask 112 = .ok (.sipush 10001, 3) := dc_17 (a := 39) (b := 17) (v := 10001) (by decide +kernel)
theorem dX37_ask_115 : decode cX37_ask 115 = .ok (.if_icmp .eq 7, 3) := dc_159 (a := 0) (b := 7) (v := 7) (by decide +kernel)
theorem dX37_ask_118 : decode cX37_ask 118 = .ok (.iload_n 3, 1) := dc_29 (by decide +kernel)
theorem dX37_ask_119 : decode cX37_ask 119 = .ok (.ifCond .eq 85, 3) := dc_153 (a := 0) (b := 85) (v := 85) (by decide +kernel)
theorem dX37_ask_122 : decode cX37_ask 122 = .ok (.iinc 5 1, 3) := dc_132 (a := 5) (b := 1) (v := 1) (by decide +kernel)
theorem dX37_ask_125 : decode cX37_ask 125 = .ok (.iload 6, 2) := dc_21 (a := 6) (by decide +kernel)
theorem dX37_ask_127 : decode cX37_ask 127 = .ok (.ifCond .lt 48, 3) := dc_155 (a := 0) (b := 48) (v := 48) (by decide +kernel)
theorem dX37_ask_130 : decode cX37_ask 130 = .ok (.aload_n 0, 1) := dc_42 (by decide +kernel)
theorem dX37_ask_131 : decode cX37_ask 131 = .ok (.getfield 52, 3) := dc_180 (a := 0) (b := 52) (n := 52) (by decide +kernel)
theorem dX37_ask_134 : decode cX37_ask 134 = .ok (.iload 8, 2) := dc_21 (a := 8) (by decide +kernel)
theorem dX37_ask_136 : decode cX37_ask 136 = .ok (.iaload, 1) := dc_46 (by decide +kernel)
theorem dX37_ask_137 : decode cX37_ask 137 = .ok (.aload_n 0, 1) := dc_42 (by decide +kernel)
theorem dX37_ask_138 : decode cX37_ask 138 = .ok (.getfield 52, 3) := dc_180 (a := 0) (b := 52) (n := 52) (by decide +kernel)
theorem dX37_ask_141 : decode cX37_ask 141 = .ok (.iload 6, 2) := dc_21 (a := 6) (by decide +kernel)
theorem dX37_ask_143 : decode cX37_ask 143 = .ok (.iaload, 1) := dc_46 (by decide +kernel)
theorem dX37_ask_144 : decode cX37_ask 144 = .ok (.if_icmp .gt 31, 3) := dc_163 (a := 0) (b := 31) (v := 31) (by decide +kernel)
theorem dX37_ask_147 : decode cX37_ask 147 = .ok (.aload_n 0, 1) := dc_42 (by decide +kernel)
theorem dX37_ask_148 : decode cX37_ask 148 = .ok (.getfield 52, 3) := dc_180 (a := 0) (b := 52) (n := 52) (by decide +kernel)
theorem dX37_ask_151 : decode cX37_ask 151 = .ok (.iload 8, 2) := dc_21 (a := 8) (by decide +kernel)
theorem dX37_ask_153 : decode cX37_ask 153 = .ok (.iaload, 1) := dc_46 (by decide +kernel)
theorem dX37_ask_154 : decode cX37_ask 154 = .ok (.aload_n 0, 1) := dc_42 (by decide +kernel)
theorem dX37_ask_155 : decode cX37_ask 155 = .ok (.getfield 52, 3) := dc_180 (a := 0) (b := 52) (n := 52) (by decide +kernel)
theorem dX37_ask_158 : decode cX37_ask 158 = .ok (.iload 6, 2) := dc_21 (a := 6) (by decide +kernel)
theorem dX37_ask_160 : decode cX37_ask 160 = .ok (.iaload, 1) := dc_46 (by decide +kernel)
theorem dX37_ask_161 : decode cX37_ask 161 = .ok (.if_icmp .ne 18, 3) := dc_160 (a := 0) (b := 18) (v := 18) (by decide +kernel)
theorem dX37_ask_164 : decode cX37_ask 164 = .ok (.aload_n 0, 1) := dc_42 (by decide +kernel)
theorem dX37_ask_165 : decode cX37_ask 165 = .ok (.iload 8, 2) := dc_21 (a := 8) (by decide +kernel)
theorem dX37_ask_167 : decode cX37_ask 167 = .ok (.iload 6, 2) := dc_21 (a := 6) (by decide +kernel)
theorem dX37_ask_169 : decode cX37_ask 169 = .ok (.invokevirtual 192, 3) := dc_182 (a := 0) (b := 192) (n := 192) (by decide +kernel)
theorem dX37_ask_172 : decode cX37_ask 172 = .ok (.ifCond .eq 7, 3) := dc_153 (a := 0) (b := 7) (v := 7) (by decide +kernel)
theorem dX37_ask_175 : decode cX37_ask 175 = .ok (.iconst 1, 1) := dc_4 (by decide +kernel)
theorem dX37_ask_176 : decode cX37_ask 176 = .ok (.goto 4, 3) := dc_167 (a := 0) (b := 4) (v := 4) (by decide +kernel)
theorem dX37_ask_179 : decode cX37_ask 179 = .ok (.iconst 0, 1) := dc_3 (by decide +kernel)
theorem dX37_ask_180 : decode cX37_ask 180 = .ok (.istore 9, 2) := dc_54 (a := 9) (by decide +kernel)
theorem dX37_ask_182 : decode cX37_ask 182 = .ok (.iload 9, 2) := dc_21 (a := 9) (by decide +kernel)
theorem dX37_ask_184 : decode cX37_ask 184 = .ok (.ifCond .eq 8, 3) := dc_153 (a := 0) (b := 8) (v := 8) (by decide +kernel)
theorem dX37_ask_187 : decode cX37_ask 187 = .ok (.iload 8, 2) := dc_21 (a := 8) (by decide +kernel)
theorem dX37_ask_189 : decode cX37_ask 189 = .ok (.goto 5, 3) := dc_167 (a := 0) (b := 5) (v := 5) (by decide +kernel)
theorem dX37_ask_192 : decode cX37_ask 192 = .ok (.iload 6, 2) := dc_21 (a := 6) (by decide +kernel)
theorem dX37_ask_194 : decode cX37_ask 194 = .ok (.istore 6, 2) := dc_54 (a := 6) (by decide +kernel)
theorem dX37_ask_196 : decode cX37_ask 196 = .ok (.aload_n 0, 1) := dc_42 (by decide +kernel)
theorem dX37_ask_197 : decode cX37_ask 197 = .ok (.getfield 65, 3) := dc_180 (a := 0) (b := 65) (n := 65) (by decide +kernel)
theorem dX37_ask_200 : decode cX37_ask 200 = .ok (.iload 8, 2) := dc_21 (a := 8) (by decide +kernel)
theorem dX37_ask_202 : decode cX37_ask 202 = .ok (.iconst 1, 1) := dc_4 (by decide +kernel)
theorem dX37_ask_203 : decode cX37_ask 203 = .ok (.bastore, 1) := dc_84 (by decide +kernel)
theorem dX37_ask_204 : decode cX37_ask 204 = .ok (.iinc 8 1, 3) := dc_132 (a := 8) (b := 1) (v := 1) (by decide +kernel)
theorem dX37_ask_207 : decode cX37_ask 207 = .ok (.goto (-168), 3) := dc_167 (a := 255) (b := 88) (v := -168) (by decide +kernel)
theorem dX37_ask_210 : decode cX37_ask 210 = .ok (.aload_n 0, 1) := dc_42 (by decide +kernel)
theorem dX37_ask_211 : decode cX37_ask 211 = .ok (.getfield 122, 3) := dc_180 (a := 0) (b := 122) (n := 122) (by decide +kernel)
theorem dX37_ask_214 : decode cX37_ask 214 = .ok (.aload_n 0, 1) := dc_42 (by decide +kernel)
theorem dX37_ask_215 : decode cX37_ask 215 = .ok (.getfield 34, 3) := dc_180 (a := 0) (b := 34) (n := 34) (by decide +kernel)
theorem dX37_ask_218 : decode cX37_ask 218 = .ok (.bipush 8, 2) := dc_16 (a := 8) (v := 8) (by decide +kernel)
theorem dX37_ask_220 : decode cX37_ask 220 = .ok (.iaload, 1) := dc_46 (by decide +kernel)
theorem dX37_ask_221 : decode cX37_ask 221 = .ok (.ifCond .le 7, 3) := dc_158 (a := 0) (b := 7) (v := 7) (by decide +kernel)
theorem dX37_ask_224 : decode cX37_ask 224 = .ok (.iconst 3, 1) := dc_6 (by decide +kernel)
theorem dX37_ask_225 : decode cX37_ask 225 = .ok (.goto 4, 3) := dc_167 (a := 0) (b := 4) (v := 4) (by decide +kernel)
theorem dX37_ask_228 : decode cX37_ask 228 = .ok (.iconst 2, 1) := dc_5 (by decide +kernel)
theorem dX37_ask_229 : decode cX37_ask 229 = .ok (.if_icmp .ne 7, 3) := dc_160 (a := 0) (b := 7) (v := 7) (by decide +kernel)
theorem dX37_ask_232 : decode cX37_ask 232 = .ok (.iconst 1, 1) := dc_4 (by decide +kernel)
theorem dX37_ask_233 : decode cX37_ask 233 = .ok (.goto 4, 3) := dc_167 (a := 0) (b := 4) (v := 4) (by decide +kernel)
theorem dX37_ask_236 : decode cX37_ask 236 = .ok (.iconst 0, 1) := dc_3 (by decide +kernel)
theorem dX37_ask_237 : decode cX37_ask 237 = .ok (.istore 8, 2) := dc_54 (a := 8) (by decide +kernel)
theorem dX37_ask_239 : decode cX37_ask 239 = .ok (.iload 8, 2) := dc_21 (a := 8) (by decide +kernel)
theorem dX37_ask_241 : decode cX37_ask 241 = .ok (.ifCond .eq 24, 3) := dc_153 (a := 0) (b := 24) (v := 24) (by decide +kernel)
theorem dX37_ask_244 : decode cX37_ask 244 = .ok (.iload 7, 2) := dc_21 (a := 7) (by decide +kernel)
theorem dX37_ask_246 : decode cX37_ask 246 = .ok (.ifCond .ne 19, 3) := dc_154 (a := 0) (b := 19) (v := 19) (by decide +kernel)
theorem dX37_ask_249 : decode cX37_ask 249 = .ok (.iload 4, 2) := dc_21 (a := 4) (by decide +kernel)
theorem dX37_ask_251 : decode cX37_ask 251 = .ok (.ifCond .le 14, 3) := dc_158 (a := 0) (b := 14) (v := 14) (by decide +kernel)
theorem dX37_ask_254 : decode cX37_ask 254 = .ok (.iload 4, 2) := dc_21 (a := 4) (by decide +kernel)
theorem dX37_ask_256 : decode cX37_ask 256 = .ok (.iload 5, 2) := dc_21 (a := 5) (by decide +kernel)
theorem dX37_ask_258 : decode cX37_ask 258 = .ok (.if_icmp .ne 7, 3) := dc_160 (a := 0) (b := 7) (v := 7) (by decide +kernel)
theorem dX37_ask_261 : decode cX37_ask 261 = .ok (.iconst 1, 1) := dc_4 (by decide +kernel)
theorem dX37_ask_262 : decode cX37_ask 262 = .ok (.goto 4, 3) := dc_167 (a := 0) (b := 4) (v := 4) (by decide +kernel)
theorem dX37_ask_265 : decode cX37_ask 265 = .ok (.iconst 0, 1) := dc_3 (by decide +kernel)
theorem dX37_ask_266 : decode cX37_ask 266 = .ok (.istore 9, 2) := dc_54 (a := 9) (by decide +kernel)
theorem dX37_ask_268 : decode cX37_ask 268 = .ok (.iload 9, 2) := dc_21 (a := 9) (by decide +kernel)
theorem dX37_ask_270 : decode cX37_ask 270 = .ok (.ifCond .eq 15, 3) := dc_153 (a := 0) (b := 15) (v := 15) (by decide +kernel)
theorem dX37_ask_273 : decode cX37_ask 273 = .ok (.aload_n 0, 1) := dc_42 (by decide +kernel)
theorem dX37_ask_274 : decode cX37_ask 274 = .ok (.getfield 185, 3) := dc_180 (a := 0) (b := 185) (n := 185) (by decide +kernel)
theorem dX37_ask_277 : decode cX37_ask 277 = .ok (.sipush 8000, 3) := dc_17 (a := 31) (b := 64) (v := 8000) (by decide +kernel)
theorem dX37_ask_280 : decode cX37_ask 280 = .ok (.if_icmp .ne 5, 3) := dc_160 (a := 0) (b := 5) (v := 5) (by decide +kernel)
theorem dX37_ask_283 : decode cX37_ask 283 = .ok (.iconst 0, 1) := dc_3 (by decide +kernel)
theorem dX37_ask_284 : decode cX37_ask 284 = .ok (.ireturn, 1) := dc_172 (by decide +kernel)
theorem dX37_ask_285 : decode cX37_ask 285 = .ok (.aload_n 0, 1) := dc_42 (by decide +kernel)
theorem dX37_ask_286 : decode cX37_ask 286 = .ok (.aload_n 0, 1) := dc_42 (by decide +kernel)
theorem dX37_ask_287 : decode cX37_ask 287 = .ok (.getfield 211, 3) := dc_180 (a := 0) (b := 211) (n := 211) (by decide +kernel)
theorem dX37_ask_290 : decode cX37_ask 290 = .ok (.iload 4, 2) := dc_21 (a := 4) (by decide +kernel)
theorem dX37_ask_292 : decode cX37_ask 292 = .ok (.iadd, 1) := dc_96 (by decide +kernel)
theorem dX37_ask_293 : decode cX37_ask 293 = .ok (.putfield 211, 3) := dc_181 (a := 0) (b := 211) (n := 211) (by decide +kernel)
theorem dX37_ask_296 : decode cX37_ask 296 = .ok (.aload_n 0, 1) := dc_42 (by decide +kernel)
theorem dX37_ask_297 : decode cX37_ask 297 = .ok (.aload_n 0, 1) := dc_42 (by decide +kernel)
theorem dX37_ask_298 : decode cX37_ask 298 = .ok (.getfield 214, 3) := dc_180 (a := 0) (b := 214) (n := 214) (by decide +kernel)
theorem dX37_ask_301 : decode cX37_ask 301 = .ok (.iload 4, 2) := dc_21 (a := 4) (by decide +kernel)
theorem dX37_ask_303 : decode cX37_ask 303 = .ok (.iadd, 1) := dc_96 (by decide +kernel)
theorem dX37_ask_304 : decode cX37_ask 304 = .ok (.putfield 214, 3) := dc_181 (a := 0) (b := 214) (n := 214) (by decide +kernel)
theorem dX37_ask_307 : decode cX37_ask 307 = .ok (.aload_n 0, 1) := dc_42 (by decide +kernel)
theorem dX37_ask_308 : decode cX37_ask 308 = .ok (.getfield 211, 3) := dc_180 (a := 0) (b := 211) (n := 211) (by decide +kernel)
theorem dX37_ask_311 : decode cX37_ask 311 = .ok (.ldc 217, 2) := dc_18 (a := 217) (by decide +kernel)
theorem dX37_ask_313 : decode cX37_ask 313 = .ok (.if_icmp .gt 12, 3) := dc_163 (a := 0) (b := 12) (v := 12) (by decide +kernel)
theorem dX37_ask_316 : decode cX37_ask 316 = .ok (.aload_n 0, 1) := dc_42 (by decide +kernel)
theorem dX37_ask_317 : decode cX37_ask 317 = .ok (.getfield 214, 3) := dc_180 (a := 0) (b := 214) (n := 214) (by decide +kernel)
theorem dX37_ask_320 : decode cX37_ask 320 = .ok (.ldc 218, 2) := dc_18 (a := 218) (by decide +kernel)
theorem dX37_ask_322 : decode cX37_ask 322 = .ok (.if_icmp .le 5, 3) := dc_164 (a := 0) (b := 5) (v := 5) (by decide +kernel)
theorem dX37_ask_325 : decode cX37_ask 325 = .ok (.iconst 0, 1) := dc_3 (by decide +kernel)
theorem dX37_ask_326 : decode cX37_ask 326 = .ok (.ireturn, 1) := dc_172 (by decide +kernel)
theorem dX37_ask_327 : decode cX37_ask 327 = .ok (.iload 9, 2) := dc_21 (a := 9) (by decide +kernel)
theorem dX37_ask_329 : decode cX37_ask 329 = .ok (.ifCond .eq 54, 3) := dc_153 (a := 0) (b := 54) (v := 54) (by decide +kernel)
theorem dX37_ask_332 : decode cX37_ask 332 = .ok (.aload_n 0, 1) := dc_42 (by decide +kernel)
theorem dX37_ask_333 : decode cX37_ask 333 = .ok (.aload_n 0, 1) := dc_42 (by decide +kernel)
theorem dX37_ask_334 : decode cX37_ask 334 = .ok (.getfield 49, 3) := dc_180 (a := 0) (b := 49) (n := 49) (by decide +kernel)
theorem dX37_ask_337 : decode cX37_ask 337 = .ok (.iload 6, 2) := dc_21 (a := 6) (by decide +kernel)
theorem dX37_ask_339 : decode cX37_ask 339 = .ok (.iaload, 1) := dc_46 (by decide +kernel)
theorem dX37_ask_340 : decode cX37_ask 340 = .ok (.iload_n 1, 1) := dc_27 (by decide +kernel)
theorem dX37_ask_341 : decode cX37_ask 341 = .ok (.invokevirtual 196, 3) := dc_182 (a := 0) (b := 196) (n := 196) (by decide +kernel)
theorem dX37_ask_344 : decode cX37_ask 344 = .ok (.aload_n 0, 1) := dc_42 (by decide +kernel)
theorem dX37_ask_345 : decode cX37_ask 345 = .ok (.aload_n 0, 1) := dc_42 (by decide +kernel)
theorem dX37_ask_346 : decode cX37_ask 346 = .ok (.getfield 52, 3) := dc_180 (a := 0) (b := 52) (n := 52) (by decide +kernel)
theorem dX37_ask_349 : decode cX37_ask 349 = .ok (.iload 6, 2) := dc_21 (a := 6) (by decide +kernel)
theorem dX37_ask_351 : decode cX37_ask 351 = .ok (.iaload, 1) := dc_46 (by decide +kernel)
theorem dX37_ask_352 : decode cX37_ask 352 = .ok (.invokevirtual 200, 3) := dc_182 (a := 0) (b := 200) (n := 200) (by decide +kernel)
theorem dX37_ask_355 : decode cX37_ask 355 = .ok (.aload_n 0, 1) := dc_42 (by decide +kernel)
theorem dX37_ask_356 : decode cX37_ask 356 = .ok (.dup, 1) := dc_89 (by decide +kernel)
theorem dX37_ask_357 : decode cX37_ask 357 = .ok (.getfield 185, 3) := dc_180 (a := 0) (b := 185) (n := 185) (by decide +kernel)
theorem dX37_ask_360 : decode cX37_ask 360 = .ok (.iconst 1, 1) := dc_4 (by decide +kernel)
theorem dX37_ask_361 : decode cX37_ask 361 = .ok (.iadd, 1) := dc_96 (by decide +kernel)
theorem dX37_ask_362 : decode cX37_ask 362 = .ok (.putfield 185, 3) := dc_181 (a := 0) (b := 185) (n := 185) (by decide +kernel)
theorem dX37_ask_365 : decode cX37_ask 365 = .ok (.aload_n 0, 1) := dc_42 (by decide +kernel)
theorem dX37_ask_366 : decode cX37_ask 366 = .ok (.aload_n 0, 1) := dc_42 (by decide +kernel)
theorem dX37_ask_367 : decode cX37_ask 367 = .ok (.getfield 185, 3) := dc_180 (a := 0) (b := 185) (n := 185) (by decide +kernel)
theorem dX37_ask_370 : decode cX37_ask 370 = .ok (.iload_n 1, 1) := dc_27 (by decide +kernel)
theorem dX37_ask_371 : decode cX37_ask 371 = .ok (.iload 6, 2) := dc_21 (a := 6) (by decide +kernel)
theorem dX37_ask_373 : decode cX37_ask 373 = .ok (.aload_n 0, 1) := dc_42 (by decide +kernel)
theorem dX37_ask_374 : decode cX37_ask 374 = .ok (.getfield 58, 3) := dc_180 (a := 0) (b := 58) (n := 58) (by decide +kernel)
theorem dX37_ask_377 : decode cX37_ask 377 = .ok (.iload 6, 2) := dc_21 (a := 6) (by decide +kernel)
theorem dX37_ask_379 : decode cX37_ask 379 = .ok (.laload, 1) := dc_47 (by decide +kernel)
theorem dX37_ask_380 : decode cX37_ask 380 = .ok (.invokevirtual 188, 3) := dc_182 (a := 0) (b := 188) (n := 188) (by decide +kernel)
theorem dX37_ask_383 : decode cX37_ask 383 = .ok (.iconst 1, 1) := dc_4 (by decide +kernel)
theorem dX37_ask_384 : decode cX37_ask 384 = .ok (.ireturn, 1) := dc_172 (by decide +kernel)
theorem GX37_204 {w : eW} {d : Nat} {Y : eY} {pc : Nat} {ls : eL} {st : List Value} {h : eH} {Q : eO → eH → Prop} {a : Nat} {x : Int32} (hf : g_I 36 h a 18 = some x) (hd : decode Y.2.1 pc = .ok (.getfield 204, 3)) (hY : Y.1.cls = RX37) (kk : wp w d Y (pc + 3) ls (.int x :: st) h Q) : wp w d Y pc ls (.ref a :: st) h Q := x_gI (ci := 36) (k := 18) hf hd rfl (by decide) (by rw [hY]; exact q4252) kk
theorem GX37_211 {w : eW} {d : Nat} {Y : eY} {pc : Nat} {ls : eL} {st : List Value} {h : eH} {Q : eO → eH → Prop} {a : Nat} {x : Int32} (hf : g_I 36 h a 21 = some x) (hd : decode Y.2.1 pc = .ok (.getfield 211, 3)) (hY : Y.1.cls = RX37) (kk : wp w d Y (pc + 3) ls (.int x :: st) h Q) : wp w d Y pc ls (.ref a :: st) h Q := x_gI (ci := 36) (k := 21) hf hd rfl (by decide) (by rw [hY]; exact q4256) kk
theorem GX37_214 {w : eW} {d : Nat} {Y : eY} {pc : Nat} {ls : eL} {st : List Value} {h : eH} {Q : eO → eH → Prop} {a : Nat} {x : Int32} (hf : g_I 36 h a 22 = some x) (hd : decode Y.2.1 pc = .ok (.getfield 214, 3)) (hY : Y.1.cls = RX37) (kk : wp w d Y (pc + 3) ls (.int x :: st) h Q) : wp w d Y pc ls (.ref a :: st) h Q := x_gI (ci := 36) (k := 22) hf hd rfl (by decide) (by rw [hY]; exact q4257) kk
theorem SX37_211 {w : eW} {d : Nat} {Y : eY} {pc : Nat} {ls : eL} {st : List Value} {h : eH} {Q : eO → eH → Prop} {a : Nat} {h' : eH} {x : Int32} (hf : p_V 36 h a 21 (.int x) = some h') (hd : decode Y.2.1 pc = .ok (.putfield 211, 3)) (hY : Y.1.cls = RX37) (kk : wp w d Y (pc + 3) ls st h' Q) : wp w d Y pc ls (.int x :: .ref a :: st) h Q := x_pI (ci := 36) (k := 21) hf hd rfl (by decide) (by rw [hY]; exact q4256) rfl rfl kk
theorem SX37_214 {w : eW} {d : Nat} {Y : eY} {pc : Nat} {ls : eL} {st : List Value} {h : eH} {Q : eO → eH → Prop} {a : Nat} {h' : eH} {x : Int32} (hf : p_V 36 h a 22 (.int x) = some h') (hd : decode Y.2.1 pc = .ok (.putfield 214, 3)) (hY : Y.1.cls = RX37) (kk : wp w d Y (pc + 3) ls st h' Q) : wp w d Y pc ls (.int x :: .ref a :: st) h Q := x_pI (ci := 36) (k := 22) hf hd rfl (by decide) (by rw [hY]; exact q4257) rfl rfl kk
def fX37_ask_b204 (N : Nat) (k39 : Nat → Int32 → Int32 → Int32 → Int32 → Int32 → Int32 → Int32 → Int32 → eH → Option (Int32 × eH)) (l0 : Nat) (l1 : Int32) (l2 : Int32) (l3 : Int32) (l4 : Int32) (l5 : Int32) (l6 : Int32) (l7 : Int32) (l8 : Int32) (h : eH) : Option (Int32 × eH) :=
  k39 l0 l1 l2 l3 l4 l5 l6 l7 (l8 + (1 : Int32)) h
theorem pX37_ask_b204 {w : eW} {d : Nat} (hd : 3 ≤ d + 1) {N : Nat} {k39 : Nat → Int32 → Int32 → Int32 → Int32 → Int32 → Int32 → Int32 → Int32 → eH → Option (Int32 × eH)} (hk39 : ∀ l0 l1 l2 l3 l4 l5 l6 l7 l8 h q, k39 l0 l1 l2 l3 l4 l5 l6 l7 l8 h = some q → wp w (d + 1) YX37_ask 39 [some (.ref l0), some (.int l1), some (.int l2), some (.int l3), some (.int l4), some (.int l5), some (.int l6), some (.int l7), some (.int l8), none] [] h (e_is (e_rn c_I q))) {l0 : Nat} {l1 : Int32} {l2 : Int32} {l3 : Int32} {l4 : Int32} {l5 : Int32} {l6 : Int32} {l7 : Int32} {l8 : Int32} {h : eH} {q} (hf : fX37_ask_b204 N k39 l0 l1 l2 l3 l4 l5 l6 l7 l8 h = some q) : wp w (d + 1) YX37_ask 204 [some (.ref l0), some (.int l1), some (.int l2), some (.int l3), some (.int l4), some (.int l5), some (.int l6), some (.int l7), some (.int l8), none] [] h (e_is (e_rn c_I q)) := by
  unfold fX37_ask_b204 at hf
  refine w_iinc dX37_ask_204 (v := (l8 + (1 : Int32))) rfl rfl (by decide) (ls' := [some (.ref l0), some (.int l1), some (.int l2), some (.int l3), some (.int l4), some (.int l5), some (.int l6), some (.int l7), some (.int (l8 + (1 : Int32))), none]) rfl ?_
  refine w_goto 39 dX37_ask_207 (by decide) ?_
  exact (hk39 _ _ _ _ _ _ _ _ _ _ _ hf).to ⟨rfl, rfl, rfl, rfl, rfl, rfl, rfl, rfl, rfl, trivial⟩
def fX37_ask_b194 (N : Nat) (k39 : Nat → Int32 → Int32 → Int32 → Int32 → Int32 → Int32 → Int32 → Int32 → eH → Option (Int32 × eH)) (l0 : Nat) (l1 : Int32) (l2 : Int32) (l3 : Int32) (l4 : Int32) (l5 : Int32) (l7 : Int32) (l8 : Int32) (s0 : Int32) (h : eH) : Option (Int32 × eH) :=
  (g_A 36 h l0 28).bind fun a1 =>
  (q_V 103 h a1 l8 (.int ((1 : Int32) &&& 1))).bind fun h3 =>
  fX37_ask_b204 N k39 l0 l1 l2 l3 l4 l5 s0 l7 l8 h3
theorem pX37_ask_b194 {w : eW} {d : Nat} (hd : 3 ≤ d + 1) {N : Nat} {k39 : Nat → Int32 → Int32 → Int32 → Int32 → Int32 → Int32 → Int32 → Int32 → eH → Option (Int32 × eH)} (hk39 : ∀ l0 l1 l2 l3 l4 l5 l6 l7 l8 h q, k39 l0 l1 l2 l3 l4 l5 l6 l7 l8 h = some q → wp w (d + 1) YX37_ask 39 [some (.ref l0), some (.int l1), some (.int l2), some (.int l3), some (.int l4), some (.int l5), some (.int l6), some (.int l7), some (.int l8), none] [] h (e_is (e_rn c_I q))) {l0 : Nat} {l1 : Int32} {l2 : Int32} {l3 : Int32} {l4 : Int32} {l5 : Int32} {l7 : Int32} {l8 : Int32} {s0 : Int32} {h : eH} {q} (hf : fX37_ask_b194 N k39 l0 l1 l2 l3 l4 l5 l7 l8 s0 h = some q) : wp w (d + 1) YX37_ask 194 [some (.ref l0), some (.int l1), some (.int l2), some (.int l3), some (.int l4), some (.int l5), none, some (.int l7), some (.int l8), none] [.int s0] h (e_is (e_rn c_I q)) := by
  unfold fX37_ask_b194 at hf
  refine w_istore dX37_ask_194 (by decide) (ls' := [some (.ref l0), some (.int l1), some (.int l2), some (.int l3), some (.int l4), some (.int l5), some (.int s0), some (.int l7), some (.int l8), none]) rfl ?_
  refine w_aload_n dX37_ask_196 rfl rfl ?_
  obtain ⟨a1, b2, hf⟩ := Option.bind_eq_some_iff.mp hf
  refine GX37_65 b2 dX37_ask_197 rfl ?_
  refine w_iload dX37_ask_200 rfl ?_
  refine w_iconst dX37_ask_202 (v := 1) (by decide) ?_
  obtain ⟨h3, b4, hf⟩ := Option.bind_eq_some_iff.mp hf
  refine x_qZ b4 dX37_ask_203 ?_
  exact (pX37_ask_b204 hd hk39 hf).to ⟨rfl, rfl, rfl, rfl, rfl, rfl, rfl, rfl, rfl, trivial⟩
def fX37_ask_b180 (N : Nat) (k39 : Nat → Int32 → Int32 → Int32 → Int32 → Int32 → Int32 → Int32 → Int32 → eH → Option (Int32 × eH)) (l0 : Nat) (l1 : Int32) (l2 : Int32) (l3 : Int32) (l4 : Int32) (l5 : Int32) (l6 : Int32) (l7 : Int32) (l8 : Int32) (s0 : Int32) (h : eH) : Option (Int32 × eH) :=
  if s0 = 0 then
    fX37_ask_b194 N k39 l0 l1 l2 l3 l4 l5 l7 l8 l6 h
  else
    fX37_ask_b194 N k39 l0 l1 l2 l3 l4 l5 l7 l8 l8 h
theorem pX37_ask_b180 {w : eW} {d : Nat} (hd : 3 ≤ d + 1) {N : Nat} {k39 : Nat → Int32 → Int32 → Int32 → Int32 → Int32 → Int32 → Int32 → Int32 → eH → Option (Int32 × eH)} (hk39 : ∀ l0 l1 l2 l3 l4 l5 l6 l7 l8 h q, k39 l0 l1 l2 l3 l4 l5 l6 l7 l8 h = some q → wp w (d + 1) YX37_ask 39 [some (.ref l0), some (.int l1), some (.int l2), some (.int l3), some (.int l4), some (.int l5), some (.int l6), some (.int l7), some (.int l8), none] [] h (e_is (e_rn c_I q))) {l0 : Nat} {l1 : Int32} {l2 : Int32} {l3 : Int32} {l4 : Int32} {l5 : Int32} {l6 : Int32} {l7 : Int32} {l8 : Int32} {s0 : Int32} {h : eH} {q} (hf : fX37_ask_b180 N k39 l0 l1 l2 l3 l4 l5 l6 l7 l8 s0 h = some q) : wp w (d + 1) YX37_ask 180 [some (.ref l0), some (.int l1), some (.int l2), some (.int l3), some (.int l4), some (.int l5), some (.int l6), some (.int l7), some (.int l8), none] [.int s0] h (e_is (e_rn c_I q)) := by
  unfold fX37_ask_b180 at hf
  refine w_istore dX37_ask_180 (by decide) (ls' := [some (.ref l0), some (.int l1), some (.int l2), some (.int l3), some (.int l4), some (.int l5), some (.int l6), some (.int l7), some (.int l8), some (.int s0)]) rfl ?_
  refine w_iload dX37_ask_182 rfl ?_
  refine w_if_eq 192 dX37_ask_184 (by decide) (fun c1 => ?_) (fun c1 => ?_)
  · replace hf := (if_pos (show s0 = 0 from c1)).symm.trans hf
    refine w_iload dX37_ask_192 rfl ?_
    exact (pX37_ask_b194 hd hk39 hf).to ⟨rfl, rfl, rfl, rfl, rfl, rfl, rfl, rfl, trivial⟩
  · replace hf := (if_neg (show ¬ (s0 = 0) from c1)).symm.trans hf
    refine w_iload dX37_ask_187 rfl ?_
    refine w_goto 194 dX37_ask_189 (by decide) ?_
    exact (pX37_ask_b194 hd hk39 hf).to ⟨rfl, rfl, rfl, rfl, rfl, rfl, rfl, rfl, trivial⟩
def fX37_ask_b175 (N : Nat) (k39 : Nat → Int32 → Int32 → Int32 → Int32 → Int32 → Int32 → Int32 → Int32 → eH → Option (Int32 × eH)) (l0 : Nat) (l1 : Int32) (l2 : Int32) (l3 : Int32) (l4 : Int32) (l5 : Int32) (l6 : Int32) (l7 : Int32) (l8 : Int32) (h : eH) : Option (Int32 × eH) :=
  fX37_ask_b180 N k39 l0 l1 l2 l3 l4 l5 l6 l7 l8 (1 : Int32) h
theorem pX37_ask_b175 {w : eW} {d : Nat} (hd : 3 ≤ d + 1) {N : Nat} {k39 : Nat → Int32 → Int32 → Int32 → Int32 → Int32 → Int32 → Int32 → Int32 → eH → Option (Int32 × eH)} (hk39 : ∀ l0 l1 l2 l3 l4 l5 l6 l7 l8 h q, k39 l0 l1 l2 l3 l4 l5 l6 l7 l8 h = some q → wp w (d + 1) YX37_ask 39 [some (.ref l0), some (.int l1), some (.int l2), some (.int l3), some (.int l4), some (.int l5), some (.int l6), some (.int l7), some (.int l8), none] [] h (e_is (e_rn c_I q))) {l0 : Nat} {l1 : Int32} {l2 : Int32} {l3 : Int32} {l4 : Int32} {l5 : Int32} {l6 : Int32} {l7 : Int32} {l8 : Int32} {h : eH} {q} (hf : fX37_ask_b175 N k39 l0 l1 l2 l3 l4 l5 l6 l7 l8 h = some q) : wp w (d + 1) YX37_ask 175 [some (.ref l0), some (.int l1), some (.int l2), some (.int l3), some (.int l4), some (.int l5), some (.int l6), some (.int l7), some (.int l8), none] [] h (e_is (e_rn c_I q)) := by
  unfold fX37_ask_b175 at hf
  refine w_iconst dX37_ask_175 (v := 1) (by decide) ?_
  refine w_goto 180 dX37_ask_176 (by decide) ?_
  exact (pX37_ask_b180 hd hk39 hf).to ⟨rfl, rfl, rfl, rfl, rfl, rfl, rfl, rfl, rfl, trivial⟩
def fX37_ask_b179 (N : Nat) (k39 : Nat → Int32 → Int32 → Int32 → Int32 → Int32 → Int32 → Int32 → Int32 → eH → Option (Int32 × eH)) (l0 : Nat) (l1 : Int32) (l2 : Int32) (l3 : Int32) (l4 : Int32) (l5 : Int32) (l6 : Int32) (l7 : Int32) (l8 : Int32) (h : eH) : Option (Int32 × eH) :=
  fX37_ask_b180 N k39 l0 l1 l2 l3 l4 l5 l6 l7 l8 (0 : Int32) h
theorem pX37_ask_b179 {w : eW} {d : Nat} (hd : 3 ≤ d + 1) {N : Nat} {k39 : Nat → Int32 → Int32 → Int32 → Int32 → Int32 → Int32 → Int32 → Int32 → eH → Option (Int32 × eH)} (hk39 : ∀ l0 l1 l2 l3 l4 l5 l6 l7 l8 h q, k39 l0 l1 l2 l3 l4 l5 l6 l7 l8 h = some q → wp w (d + 1) YX37_ask 39 [some (.ref l0), some (.int l1), some (.int l2), some (.int l3), some (.int l4), some (.int l5), some (.int l6), some (.int l7), some (.int l8), none] [] h (e_is (e_rn c_I q))) {l0 : Nat} {l1 : Int32} {l2 : Int32} {l3 : Int32} {l4 : Int32} {l5 : Int32} {l6 : Int32} {l7 : Int32} {l8 : Int32} {h : eH} {q} (hf : fX37_ask_b179 N k39 l0 l1 l2 l3 l4 l5 l6 l7 l8 h = some q) : wp w (d + 1) YX37_ask 179 [some (.ref l0), some (.int l1), some (.int l2), some (.int l3), some (.int l4), some (.int l5), some (.int l6), some (.int l7), some (.int l8), none] [] h (e_is (e_rn c_I q)) := by
  unfold fX37_ask_b179 at hf
  refine w_iconst dX37_ask_179 (v := 0) (by decide) ?_
  exact (pX37_ask_b180 hd hk39 hf).to ⟨rfl, rfl, rfl, rfl, rfl, rfl, rfl, rfl, rfl, trivial⟩
def fX37_ask_b122 (N : Nat) (k39 : Nat → Int32 → Int32 → Int32 → Int32 → Int32 → Int32 → Int32 → Int32 → eH → Option (Int32 × eH)) (l0 : Nat) (l1 : Int32) (l2 : Int32) (l3 : Int32) (l4 : Int32) (l5 : Int32) (l6 : Int32) (l7 : Int32) (l8 : Int32) (h : eH) : Option (Int32 × eH) :=
  if l6 < 0 then
    fX37_ask_b175 N k39 l0 l1 l2 l3 l4 (l5 + (1 : Int32)) l6 l7 l8 h
  else
    (g_A 36 h l0 24).bind fun a2 =>
    (r_I 100 h a2 l8).bind fun x4 =>
    (g_A 36 h l0 24).bind fun a6 =>
    (r_I 100 h a6 l6).bind fun x8 =>
    if x8 < x4 then
      fX37_ask_b175 N k39 l0 l1 l2 l3 l4 (l5 + (1 : Int32)) l6 l7 l8 h
    else
      (g_A 36 h l0 24).bind fun a11 =>
      (r_I 100 h a11 l8).bind fun x13 =>
      (g_A 36 h l0 24).bind fun a15 =>
      (r_I 100 h a15 l6).bind fun x17 =>
      if ¬ x13 = x17 then
        fX37_ask_b179 N k39 l0 l1 l2 l3 l4 (l5 + (1 : Int32)) l6 l7 l8 h
      else
        (k_ok 36 h l0).bind fun _ =>
        (fX37_isBefore l0 l8 l6 h).bind fun q21 =>
        if q21.1 = 0 then
          fX37_ask_b179 N k39 l0 l1 l2 l3 l4 (l5 + (1 : Int32)) l6 l7 l8 q21.2
        else
          fX37_ask_b175 N k39 l0 l1 l2 l3 l4 (l5 + (1 : Int32)) l6 l7 l8 q21.2
theorem pX37_ask_b122 {w : eW} {d : Nat} (hd : 3 ≤ d + 1) {N : Nat} {k39 : Nat → Int32 → Int32 → Int32 → Int32 → Int32 → Int32 → Int32 → Int32 → eH → Option (Int32 × eH)} (hk39 : ∀ l0 l1 l2 l3 l4 l5 l6 l7 l8 h q, k39 l0 l1 l2 l3 l4 l5 l6 l7 l8 h = some q → wp w (d + 1) YX37_ask 39 [some (.ref l0), some (.int l1), some (.int l2), some (.int l3), some (.int l4), some (.int l5), some (.int l6), some (.int l7), some (.int l8), none] [] h (e_is (e_rn c_I q))) {l0 : Nat} {l1 : Int32} {l2 : Int32} {l3 : Int32} {l4 : Int32} {l5 : Int32} {l6 : Int32} {l7 : Int32} {l8 : Int32} {h : eH} {q} (hf : fX37_ask_b122 N k39 l0 l1 l2 l3 l4 l5 l6 l7 l8 h = some q) : wp w (d + 1) YX37_ask 122 [some (.ref l0), some (.int l1), some (.int l2), some (.int l3), some (.int l4), some (.int l5), some (.int l6), some (.int l7), some (.int l8), none] [] h (e_is (e_rn c_I q)) := by
  unfold fX37_ask_b122 at hf
  refine w_iinc dX37_ask_122 (v := (l5 + (1 : Int32))) rfl rfl (by decide) (ls' := [some (.ref l0), some (.int l1), some (.int l2), some (.int l3), some (.int l4), some (.int (l5 + (1 : Int32))), some (.int l6), some (.int l7), some (.int l8), none]) rfl ?_
  refine w_iload dX37_ask_125 rfl ?_
  refine w_if_lt 175 dX37_ask_127 (by decide) (fun c1 => ?_) (fun c1 => ?_)
  · replace hf := (if_pos (show l6 < 0 from c1)).symm.trans hf
    exact (pX37_ask_b175 hd hk39 hf).to ⟨rfl, rfl, rfl, rfl, rfl, rfl, rfl, rfl, rfl, trivial⟩
  · replace hf := (if_neg (show ¬ (l6 < 0) from c1)).symm.trans hf
    refine w_aload_n dX37_ask_130 rfl rfl ?_
    obtain ⟨a2, b3, hf⟩ := Option.bind_eq_some_iff.mp hf
    refine GX37_52 b3 dX37_ask_131 rfl ?_
    refine w_iload dX37_ask_134 rfl ?_
    obtain ⟨x4, b5, hf⟩ := Option.bind_eq_some_iff.mp hf
    refine x_rI b5 dX37_ask_136 ?_
    refine w_aload_n dX37_ask_137 rfl rfl ?_
    obtain ⟨a6, b7, hf⟩ := Option.bind_eq_some_iff.mp hf
    refine GX37_52 b7 dX37_ask_138 rfl ?_
    refine w_iload dX37_ask_141 rfl ?_
    obtain ⟨x8, b9, hf⟩ := Option.bind_eq_some_iff.mp hf
    refine x_rI b9 dX37_ask_143 ?_
    refine w_icmp_gt 175 dX37_ask_144 (by decide) (fun c10 => ?_) (fun c10 => ?_)
    · replace hf := (if_pos (show x8 < x4 from c10)).symm.trans hf
      exact (pX37_ask_b175 hd hk39 hf).to ⟨rfl, rfl, rfl, rfl, rfl, rfl, rfl, rfl, rfl, trivial⟩
    · replace hf := (if_neg (show ¬ (x8 < x4) from c10)).symm.trans hf
      refine w_aload_n dX37_ask_147 rfl rfl ?_
      obtain ⟨a11, b12, hf⟩ := Option.bind_eq_some_iff.mp hf
      refine GX37_52 b12 dX37_ask_148 rfl ?_
      refine w_iload dX37_ask_151 rfl ?_
      obtain ⟨x13, b14, hf⟩ := Option.bind_eq_some_iff.mp hf
      refine x_rI b14 dX37_ask_153 ?_
      refine w_aload_n dX37_ask_154 rfl rfl ?_
      obtain ⟨a15, b16, hf⟩ := Option.bind_eq_some_iff.mp hf
      refine GX37_52 b16 dX37_ask_155 rfl ?_
      refine w_iload dX37_ask_158 rfl ?_
      obtain ⟨x17, b18, hf⟩ := Option.bind_eq_some_iff.mp hf
      refine x_rI b18 dX37_ask_160 ?_
      refine w_icmp_ne 179 dX37_ask_161 (by decide) (fun c19 => ?_) (fun c19 => ?_)
      · replace hf := (if_pos (show ¬ x13 = x17 from c19)).symm.trans hf
        exact (pX37_ask_b179 hd hk39 hf).to ⟨rfl, rfl, rfl, rfl, rfl, rfl, rfl, rfl, rfl, trivial⟩
      · replace hf := (if_neg (show ¬ (¬ x13 = x17) from (fun z => z c19))).symm.trans hf
        refine w_aload_n dX37_ask_164 rfl rfl ?_
        refine w_iload dX37_ask_165 rfl ?_
        refine w_iload dX37_ask_167 rfl ?_
        obtain ⟨_, b20, hf⟩ := Option.bind_eq_some_iff.mp hf
        refine x_cnI hf (e_stV (Yc := YX37_isBefore) (ci := 36) (av := [.int l8, .int l6]) (st := []) dX37_ask_169 q5850 mX37_isBefore rfl (k_ok_some b20).1 (k_ok_some b20).2) mX37_isBefore.2.2.1 mX37_isBefore.2.2.2.2.1 (Nat.le_of_ble_eq_true rfl) (Nat.le_of_ble_eq_true rfl) (fun q hq => pX37_isBefore (by omega) hq) (fun q21 hf => ?_)
        refine w_if_eq 179 dX37_ask_172 (by decide) (fun c22 => ?_) (fun c22 => ?_)
        · replace hf := (if_pos (show q21.1 = 0 from c22)).symm.trans hf
          exact (pX37_ask_b179 hd hk39 hf).to ⟨rfl, rfl, rfl, rfl, rfl, rfl, rfl, rfl, rfl, trivial⟩
        · replace hf := (if_neg (show ¬ (q21.1 = 0) from c22)).symm.trans hf
          exact (pX37_ask_b175 hd hk39 hf).to ⟨rfl, rfl, rfl, rfl, rfl, rfl, rfl, rfl, rfl, trivial⟩
def fX37_ask_b108 (N : Nat) (k39 : Nat → Int32 → Int32 → Int32 → Int32 → Int32 → Int32 → Int32 → Int32 → eH → Option (Int32 × eH)) (l0 : Nat) (l1 : Int32) (l2 : Int32) (l3 : Int32) (l4 : Int32) (l5 : Int32) (l6 : Int32) (l7 : Int32) (l8 : Int32) (h : eH) : Option (Int32 × eH) :=
  (g_I 36 h l0 34).bind fun x1 =>
  if x1 = (10001 : Int32) then
    fX37_ask_b122 N k39 l0 l1 l2 l3 l4 l5 l6 l7 l8 h
  else
    if l3 = 0 then
      fX37_ask_b204 N k39 l0 l1 l2 l3 l4 l5 l6 l7 l8 h
    else
      fX37_ask_b122 N k39 l0 l1 l2 l3 l4 l5 l6 l7 l8 h
theorem pX37_ask_b108 {w : eW} {d : Nat} (hd : 3 ≤ d + 1) {N : Nat} {k39 : Nat → Int32 → Int32 → Int32 → Int32 → Int32 → Int32 → Int32 → Int32 → eH → Option (Int32 × eH)} (hk39 : ∀ l0 l1 l2 l3 l4 l5 l6 l7 l8 h q, k39 l0 l1 l2 l3 l4 l5 l6 l7 l8 h = some q → wp w (d + 1) YX37_ask 39 [some (.ref l0), some (.int l1), some (.int l2), some (.int l3), some (.int l4), some (.int l5), some (.int l6), some (.int l7), some (.int l8), none] [] h (e_is (e_rn c_I q))) {l0 : Nat} {l1 : Int32} {l2 : Int32} {l3 : Int32} {l4 : Int32} {l5 : Int32} {l6 : Int32} {l7 : Int32} {l8 : Int32} {h : eH} {q} (hf : fX37_ask_b108 N k39 l0 l1 l2 l3 l4 l5 l6 l7 l8 h = some q) : wp w (d + 1) YX37_ask 108 [some (.ref l0), some (.int l1), some (.int l2), some (.int l3), some (.int l4), some (.int l5), some (.int l6), some (.int l7), some (.int l8), none] [] h (e_is (e_rn c_I q)) := by
  unfold fX37_ask_b108 at hf
  refine w_aload_n dX37_ask_108 rfl rfl ?_
  obtain ⟨x1, b2, hf⟩ := Option.bind_eq_some_iff.mp hf
  refine GX37_169 b2 dX37_ask_109 rfl ?_
  refine w_sipush dX37_ask_112 (v := 10001) (by decide) ?_
  refine w_icmp_eq 122 dX37_ask_115 (by decide) (fun c3 => ?_) (fun c3 => ?_)
  · replace hf := (if_pos (show x1 = (10001 : Int32) from c3)).symm.trans hf
    exact (pX37_ask_b122 hd hk39 hf).to ⟨rfl, rfl, rfl, rfl, rfl, rfl, rfl, rfl, rfl, trivial⟩
  · replace hf := (if_neg (show ¬ (x1 = (10001 : Int32)) from c3)).symm.trans hf
    refine w_iload_n dX37_ask_118 rfl rfl ?_
    refine w_if_eq 204 dX37_ask_119 (by decide) (fun c4 => ?_) (fun c4 => ?_)
    · replace hf := (if_pos (show l3 = 0 from c4)).symm.trans hf
      exact (pX37_ask_b204 hd hk39 hf).to ⟨rfl, rfl, rfl, rfl, rfl, rfl, rfl, rfl, rfl, trivial⟩
    · replace hf := (if_neg (show ¬ (l3 = 0) from c4)).symm.trans hf
      exact (pX37_ask_b122 hd hk39 hf).to ⟨rfl, rfl, rfl, rfl, rfl, rfl, rfl, rfl, rfl, trivial⟩
def fX37_ask_b325 (N : Nat)  (h : eH) : Option (Int32 × eH) :=
  some ((0 : Int32), h)
theorem pX37_ask_b325 {w : eW} {d : Nat} (hd : 3 ≤ d + 1) {N : Nat}  {h : eH} {q} (hf : fX37_ask_b325 N h = some q) : wp w (d + 1) YX37_ask 325 [none, none, none, none, none, none, none, none, none, none] [] h (e_is (e_rn c_I q)) := by
  unfold fX37_ask_b325 at hf
  refine w_iconst dX37_ask_325 (v := 0) (by decide) ?_
  cases hf
  exact w_iret dX37_ask_326 rfl rfl rfl
def fX37_ask_b383 (N : Nat)  (h : eH) : Option (Int32 × eH) :=
  some ((1 : Int32), h)
theorem pX37_ask_b383 {w : eW} {d : Nat} (hd : 3 ≤ d + 1) {N : Nat}  {h : eH} {q} (hf : fX37_ask_b383 N h = some q) : wp w (d + 1) YX37_ask 383 [none, none, none, none, none, none, none, none, none, none] [] h (e_is (e_rn c_I q)) := by
  unfold fX37_ask_b383 at hf
  refine w_iconst dX37_ask_383 (v := 1) (by decide) ?_
  cases hf
  exact w_iret dX37_ask_384 rfl rfl rfl
def fX37_ask_b285 (N : Nat) (l0 : Nat) (l1 : Int32) (l4 : Int32) (l6 : Int32) (l9 : Int32) (h : eH) : Option (Int32 × eH) :=
  (g_I 36 h l0 21).bind fun x1 =>
  (p_V 36 h l0 21 (.int (x1 + l4))).bind fun h3 =>
  (g_I 36 h3 l0 22).bind fun x5 =>
  (p_V 36 h3 l0 22 (.int (x5 + l4))).bind fun h7 =>
  (g_I 36 h7 l0 21).bind fun x9 =>
  if (3000000 : Int32) < x9 then
    fX37_ask_b325 N h7
  else
    (g_I 36 h7 l0 22).bind fun x12 =>
    if x12 ≤ (30000000 : Int32) then
      if l9 = 0 then
        fX37_ask_b383 N h7
      else
        (g_A 36 h7 l0 23).bind fun a16 =>
        (r_I 100 h7 a16 l6).bind fun x18 =>
        (k_ok 36 h7 l0).bind fun _ =>
        (fX37_measure N l0 x18 l1 h7).bind fun q21 =>
        (g_A 36 q21.2 l0 24).bind fun a22 =>
        (r_I 100 q21.2 a22 l6).bind fun x24 =>
        (k_ok 36 q21.2 l0).bind fun _ =>
        (fX37_judge l0 x24 q21.2).bind fun q27 =>
        (g_I 36 q27.2 l0 20).bind fun x28 =>
        (p_V 36 q27.2 l0 20 (.int (x28 + (1 : Int32)))).bind fun h30 =>
        (g_I 36 h30 l0 20).bind fun x32 =>
        (g_A 36 h30 l0 26).bind fun a34 =>
        (r_J h30 a34 l6).bind fun x36 =>
        (k_ok 36 h30 l0).bind fun _ =>
        (fX37_write l0 x32 l1 l6 x36 h30).bind fun q39 =>
        fX37_ask_b383 N q39.2
    else
      fX37_ask_b325 N h7
theorem pX37_ask_b285 {w : eW} {d : Nat} (hd : 3 ≤ d + 1) {N : Nat} {l0 : Nat} {l1 : Int32} {l4 : Int32} {l6 : Int32} {l9 : Int32} {h : eH} {q} (hf : fX37_ask_b285 N l0 l1 l4 l6 l9 h = some q) : wp w (d + 1) YX37_ask 285 [some (.ref l0), some (.int l1), none, none, some (.int l4), none, some (.int l6), none, none, some (.int l9)] [] h (e_is (e_rn c_I q)) := by
  unfold fX37_ask_b285 at hf
  refine w_aload_n dX37_ask_285 rfl rfl ?_
  refine w_aload_n dX37_ask_286 rfl rfl ?_
  obtain ⟨x1, b2, hf⟩ := Option.bind_eq_some_iff.mp hf
  refine GX37_211 b2 dX37_ask_287 rfl ?_
  refine w_iload dX37_ask_290 rfl ?_
  refine w_iadd dX37_ask_292 ?_
  obtain ⟨h3, b4, hf⟩ := Option.bind_eq_some_iff.mp hf
  refine SX37_211 b4 dX37_ask_293 rfl ?_
  refine w_aload_n dX37_ask_296 rfl rfl ?_
  refine w_aload_n dX37_ask_297 rfl rfl ?_
  obtain ⟨x5, b6, hf⟩ := Option.bind_eq_some_iff.mp hf
  refine GX37_214 b6 dX37_ask_298 rfl ?_
  refine w_iload dX37_ask_301 rfl ?_
  refine w_iadd dX37_ask_303 ?_
  obtain ⟨h7, b8, hf⟩ := Option.bind_eq_some_iff.mp hf
  refine SX37_214 b8 dX37_ask_304 rfl ?_
  refine w_aload_n dX37_ask_307 rfl rfl ?_
  obtain ⟨x9, b10, hf⟩ := Option.bind_eq_some_iff.mp hf
  refine GX37_211 b10 dX37_ask_308 rfl ?_
  refine w_ldc dX37_ask_311 q5854 ?_
  refine w_icmp_gt 325 dX37_ask_313 (by decide) (fun c11 => ?_) (fun c11 => ?_)
  · replace hf := (if_pos (show (3000000 : Int32) < x9 from c11)).symm.trans hf
    exact (pX37_ask_b325 hd hf).to trivial
  · replace hf := (if_neg (show ¬ ((3000000 : Int32) < x9) from c11)).symm.trans hf
    refine w_aload_n dX37_ask_316 rfl rfl ?_
    obtain ⟨x12, b13, hf⟩ := Option.bind_eq_some_iff.mp hf
    refine GX37_214 b13 dX37_ask_317 rfl ?_
    refine w_ldc dX37_ask_320 q5855 ?_
    refine w_icmp_le 327 dX37_ask_322 (by decide) (fun c14 => ?_) (fun c14 => ?_)
    · replace hf := (if_pos (show x12 ≤ (30000000 : Int32) from c14)).symm.trans hf
      refine w_iload dX37_ask_327 rfl ?_
      refine w_if_eq 383 dX37_ask_329 (by decide) (fun c15 => ?_) (fun c15 => ?_)
      · replace hf := (if_pos (show l9 = 0 from c15)).symm.trans hf
        exact (pX37_ask_b383 hd hf).to trivial
      · replace hf := (if_neg (show ¬ (l9 = 0) from c15)).symm.trans hf
        refine w_aload_n dX37_ask_332 rfl rfl ?_
        refine w_aload_n dX37_ask_333 rfl rfl ?_
        obtain ⟨a16, b17, hf⟩ := Option.bind_eq_some_iff.mp hf
        refine GX37_49 b17 dX37_ask_334 rfl ?_
        refine w_iload dX37_ask_337 rfl ?_
        obtain ⟨x18, b19, hf⟩ := Option.bind_eq_some_iff.mp hf
        refine x_rI b19 dX37_ask_339 ?_
        refine w_iload_n dX37_ask_340 rfl rfl ?_
        obtain ⟨_, b20, hf⟩ := Option.bind_eq_some_iff.mp hf
        refine x_cnV hf (e_stV (Yc := YX37_measure) (ci := 36) (av := [.int x18, .int l1]) (st := []) dX37_ask_341 q5806 mX37_measure rfl (k_ok_some b20).1 (k_ok_some b20).2) mX37_measure.2.2.1 mX37_measure.2.2.2.2.1 (Nat.le_of_ble_eq_true rfl) (Nat.le_of_ble_eq_true rfl) (fun q hq => pX37_measure (by omega) hq) (fun q21 hf => ?_)
        refine w_aload_n dX37_ask_344 rfl rfl ?_
        refine w_aload_n dX37_ask_345 rfl rfl ?_
        obtain ⟨a22, b23, hf⟩ := Option.bind_eq_some_iff.mp hf
        refine GX37_52 b23 dX37_ask_346 rfl ?_
        refine w_iload dX37_ask_349 rfl ?_
        obtain ⟨x24, b25, hf⟩ := Option.bind_eq_some_iff.mp hf
        refine x_rI b25 dX37_ask_351 ?_
        obtain ⟨_, b26, hf⟩ := Option.bind_eq_some_iff.mp hf
        refine x_cnV hf (e_stV (Yc := YX37_judge) (ci := 36) (av := [.int x24]) (st := []) dX37_ask_352 q5822 mX37_judge rfl (k_ok_some b26).1 (k_ok_some b26).2) mX37_judge.2.2.1 mX37_judge.2.2.2.2.1 (Nat.le_of_ble_eq_true rfl) (Nat.le_of_ble_eq_true rfl) (fun q hq => pX37_judge (by omega) hq) (fun q27 hf => ?_)
        refine w_aload_n dX37_ask_355 rfl rfl ?_
        refine w_dup dX37_ask_356 rfl ?_
        obtain ⟨x28, b29, hf⟩ := Option.bind_eq_some_iff.mp hf
        refine GX37_185 b29 dX37_ask_357 rfl ?_
        refine w_iconst dX37_ask_360 (v := 1) (by decide) ?_
        refine w_iadd dX37_ask_361 ?_
        obtain ⟨h30, b31, hf⟩ := Option.bind_eq_some_iff.mp hf
        refine SX37_185 b31 dX37_ask_362 rfl ?_
        refine w_aload_n dX37_ask_365 rfl rfl ?_
        refine w_aload_n dX37_ask_366 rfl rfl ?_
        obtain ⟨x32, b33, hf⟩ := Option.bind_eq_some_iff.mp hf
        refine GX37_185 b33 dX37_ask_367 rfl ?_
        refine w_iload_n dX37_ask_370 rfl rfl ?_
        refine w_iload dX37_ask_371 rfl ?_
        refine w_aload_n dX37_ask_373 rfl rfl ?_
        obtain ⟨a34, b35, hf⟩ := Option.bind_eq_some_iff.mp hf
        refine GX37_58 b35 dX37_ask_374 rfl ?_
        refine w_iload dX37_ask_377 rfl ?_
        obtain ⟨x36, b37, hf⟩ := Option.bind_eq_some_iff.mp hf
        refine x_rJ b37 dX37_ask_379 ?_
        obtain ⟨_, b38, hf⟩ := Option.bind_eq_some_iff.mp hf
        refine x_cnV hf (e_stV (Yc := YX37_write) (ci := 36) (av := [.int x32, .int l1, .int l6, .long x36]) (st := []) dX37_ask_380 q5846 mX37_write rfl (k_ok_some b38).1 (k_ok_some b38).2) mX37_write.2.2.1 mX37_write.2.2.2.2.1 (Nat.le_of_ble_eq_true rfl) (Nat.le_of_ble_eq_true rfl) (fun q hq => pX37_write (by omega) hq) (fun q39 hf => ?_)
        exact (pX37_ask_b383 hd hf).to trivial
    · replace hf := (if_neg (show ¬ (x12 ≤ (30000000 : Int32)) from c14)).symm.trans hf
      exact (pX37_ask_b325 hd hf).to trivial
def fX37_ask_b266 (N : Nat) (l0 : Nat) (l1 : Int32) (l4 : Int32) (l6 : Int32) (s0 : Int32) (h : eH) : Option (Int32 × eH) :=
  if s0 = 0 then
    fX37_ask_b285 N l0 l1 l4 l6 s0 h
  else
    (g_I 36 h l0 20).bind fun x2 =>
    if ¬ x2 = (8000 : Int32) then
      fX37_ask_b285 N l0 l1 l4 l6 s0 h
    else
      some ((0 : Int32), h)
theorem pX37_ask_b266 {w : eW} {d : Nat} (hd : 3 ≤ d + 1) {N : Nat} {l0 : Nat} {l1 : Int32} {l4 : Int32} {l6 : Int32} {s0 : Int32} {h : eH} {q} (hf : fX37_ask_b266 N l0 l1 l4 l6 s0 h = some q) : wp w (d + 1) YX37_ask 266 [some (.ref l0), some (.int l1), none, none, some (.int l4), none, some (.int l6), none, none, none] [.int s0] h (e_is (e_rn c_I q)) := by
  unfold fX37_ask_b266 at hf
  refine w_istore dX37_ask_266 (by decide) (ls' := [some (.ref l0), some (.int l1), none, none, some (.int l4), none, some (.int l6), none, none, some (.int s0)]) rfl ?_
  refine w_iload dX37_ask_268 rfl ?_
  refine w_if_eq 285 dX37_ask_270 (by decide) (fun c1 => ?_) (fun c1 => ?_)
  · replace hf := (if_pos (show s0 = 0 from c1)).symm.trans hf
    exact (pX37_ask_b285 hd hf).to ⟨rfl, rfl, rfl, rfl, rfl, trivial⟩
  · replace hf := (if_neg (show ¬ (s0 = 0) from c1)).symm.trans hf
    refine w_aload_n dX37_ask_273 rfl rfl ?_
    obtain ⟨x2, b3, hf⟩ := Option.bind_eq_some_iff.mp hf
    refine GX37_185 b3 dX37_ask_274 rfl ?_
    refine w_sipush dX37_ask_277 (v := 8000) (by decide) ?_
    refine w_icmp_ne 285 dX37_ask_280 (by decide) (fun c4 => ?_) (fun c4 => ?_)
    · replace hf := (if_pos (show ¬ x2 = (8000 : Int32) from c4)).symm.trans hf
      exact (pX37_ask_b285 hd hf).to ⟨rfl, rfl, rfl, rfl, rfl, trivial⟩
    · replace hf := (if_neg (show ¬ (¬ x2 = (8000 : Int32)) from (fun z => z c4))).symm.trans hf
      refine w_iconst dX37_ask_283 (v := 0) (by decide) ?_
      cases hf
      exact w_iret dX37_ask_284 rfl rfl rfl
def fX37_ask_b265 (N : Nat) (l0 : Nat) (l1 : Int32) (l4 : Int32) (l6 : Int32) (h : eH) : Option (Int32 × eH) :=
  fX37_ask_b266 N l0 l1 l4 l6 (0 : Int32) h
theorem pX37_ask_b265 {w : eW} {d : Nat} (hd : 3 ≤ d + 1) {N : Nat} {l0 : Nat} {l1 : Int32} {l4 : Int32} {l6 : Int32} {h : eH} {q} (hf : fX37_ask_b265 N l0 l1 l4 l6 h = some q) : wp w (d + 1) YX37_ask 265 [some (.ref l0), some (.int l1), none, none, some (.int l4), none, some (.int l6), none, none, none] [] h (e_is (e_rn c_I q)) := by
  unfold fX37_ask_b265 at hf
  refine w_iconst dX37_ask_265 (v := 0) (by decide) ?_
  exact (pX37_ask_b266 hd hf).to ⟨rfl, rfl, rfl, rfl, trivial⟩
def fX37_ask_b237 (N : Nat) (l0 : Nat) (l1 : Int32) (l4 : Int32) (l5 : Int32) (l6 : Int32) (l7 : Int32) (s0 : Int32) (h : eH) : Option (Int32 × eH) :=
  if s0 = 0 then
    fX37_ask_b265 N l0 l1 l4 l6 h
  else
    if ¬ l7 = 0 then
      fX37_ask_b265 N l0 l1 l4 l6 h
    else
      if l4 ≤ 0 then
        fX37_ask_b265 N l0 l1 l4 l6 h
      else
        if ¬ l4 = l5 then
          fX37_ask_b265 N l0 l1 l4 l6 h
        else
          fX37_ask_b266 N l0 l1 l4 l6 (1 : Int32) h
theorem pX37_ask_b237 {w : eW} {d : Nat} (hd : 3 ≤ d + 1) {N : Nat} {l0 : Nat} {l1 : Int32} {l4 : Int32} {l5 : Int32} {l6 : Int32} {l7 : Int32} {s0 : Int32} {h : eH} {q} (hf : fX37_ask_b237 N l0 l1 l4 l5 l6 l7 s0 h = some q) : wp w (d + 1) YX37_ask 237 [some (.ref l0), some (.int l1), none, none, some (.int l4), some (.int l5), some (.int l6), some (.int l7), none, none] [.int s0] h (e_is (e_rn c_I q)) := by
  unfold fX37_ask_b237 at hf
  refine w_istore dX37_ask_237 (by decide) (ls' := [some (.ref l0), some (.int l1), none, none, some (.int l4), some (.int l5), some (.int l6), some (.int l7), some (.int s0), none]) rfl ?_
  refine w_iload dX37_ask_239 rfl ?_
  refine w_if_eq 265 dX37_ask_241 (by decide) (fun c1 => ?_) (fun c1 => ?_)
  · replace hf := (if_pos (show s0 = 0 from c1)).symm.trans hf
    exact (pX37_ask_b265 hd hf).to ⟨rfl, rfl, rfl, rfl, trivial⟩
  · replace hf := (if_neg (show ¬ (s0 = 0) from c1)).symm.trans hf
    refine w_iload dX37_ask_244 rfl ?_
    refine w_if_ne 265 dX37_ask_246 (by decide) (fun c2 => ?_) (fun c2 => ?_)
    · replace hf := (if_pos (show ¬ l7 = 0 from c2)).symm.trans hf
      exact (pX37_ask_b265 hd hf).to ⟨rfl, rfl, rfl, rfl, trivial⟩
    · replace hf := (if_neg (show ¬ (¬ l7 = 0) from (fun z => z c2))).symm.trans hf
      refine w_iload dX37_ask_249 rfl ?_
      refine w_if_le 265 dX37_ask_251 (by decide) (fun c3 => ?_) (fun c3 => ?_)
      · replace hf := (if_pos (show l4 ≤ 0 from c3)).symm.trans hf
        exact (pX37_ask_b265 hd hf).to ⟨rfl, rfl, rfl, rfl, trivial⟩
      · replace hf := (if_neg (show ¬ (l4 ≤ 0) from c3)).symm.trans hf
        refine w_iload dX37_ask_254 rfl ?_
        refine w_iload dX37_ask_256 rfl ?_
        refine w_icmp_ne 265 dX37_ask_258 (by decide) (fun c4 => ?_) (fun c4 => ?_)
        · replace hf := (if_pos (show ¬ l4 = l5 from c4)).symm.trans hf
          exact (pX37_ask_b265 hd hf).to ⟨rfl, rfl, rfl, rfl, trivial⟩
        · replace hf := (if_neg (show ¬ (¬ l4 = l5) from (fun z => z c4))).symm.trans hf
          refine w_iconst dX37_ask_261 (v := 1) (by decide) ?_
          refine w_goto 266 dX37_ask_262 (by decide) ?_
          exact (pX37_ask_b266 hd hf).to ⟨rfl, rfl, rfl, rfl, trivial⟩
def fX37_ask_b229 (N : Nat) (l0 : Nat) (l1 : Int32) (l4 : Int32) (l5 : Int32) (l6 : Int32) (l7 : Int32) (s0 : Int32) (s1 : Int32) (h : eH) : Option (Int32 × eH) :=
  if ¬ s0 = s1 then
    fX37_ask_b237 N l0 l1 l4 l5 l6 l7 (0 : Int32) h
  else
    fX37_ask_b237 N l0 l1 l4 l5 l6 l7 (1 : Int32) h
theorem pX37_ask_b229 {w : eW} {d : Nat} (hd : 3 ≤ d + 1) {N : Nat} {l0 : Nat} {l1 : Int32} {l4 : Int32} {l5 : Int32} {l6 : Int32} {l7 : Int32} {s0 : Int32} {s1 : Int32} {h : eH} {q} (hf : fX37_ask_b229 N l0 l1 l4 l5 l6 l7 s0 s1 h = some q) : wp w (d + 1) YX37_ask 229 [some (.ref l0), some (.int l1), none, none, some (.int l4), some (.int l5), some (.int l6), some (.int l7), none, none] [.int s1, .int s0] h (e_is (e_rn c_I q)) := by
  unfold fX37_ask_b229 at hf
  refine w_icmp_ne 236 dX37_ask_229 (by decide) (fun c1 => ?_) (fun c1 => ?_)
  · replace hf := (if_pos (show ¬ s0 = s1 from c1)).symm.trans hf
    refine w_iconst dX37_ask_236 (v := 0) (by decide) ?_
    exact (pX37_ask_b237 hd hf).to ⟨rfl, rfl, rfl, rfl, rfl, rfl, trivial⟩
  · replace hf := (if_neg (show ¬ (¬ s0 = s1) from (fun z => z c1))).symm.trans hf
    refine w_iconst dX37_ask_232 (v := 1) (by decide) ?_
    refine w_goto 237 dX37_ask_233 (by decide) ?_
    exact (pX37_ask_b237 hd hf).to ⟨rfl, rfl, rfl, rfl, rfl, rfl, trivial⟩
def fX37_ask_b39 (N : Nat) : Nat → Nat → Int32 → Int32 → Int32 → Int32 → Int32 → Int32 → Int32 → Int32 → eH → Option (Int32 × eH)
  | 0, _, _, _, _, _, _, _, _, _, _ => none
  | n + 1, l0, l1, l2, l3, l4, l5, l6, l7, l8, h =>
    if l2 ≤ l8 then
      (g_I 36 h l0 16).bind fun x2 =>
      (g_A 36 h l0 10).bind fun a4 =>
      (r_I 100 h a4 (8 : Int32)).bind fun x6 =>
      if x6 ≤ 0 then
        fX37_ask_b229 N l0 l1 l4 l5 l6 l7 x2 (2 : Int32) h
      else
        fX37_ask_b229 N l0 l1 l4 l5 l6 l7 x2 (3 : Int32) h
    else
      (g_A 36 h l0 28).bind fun a9 =>
      (r_I 103 h a9 l8).bind fun x11 =>
      if ¬ x11 = 0 then
        fX37_ask_b204 N (fX37_ask_b39 N n) l0 l1 l2 l3 l4 l5 l6 l7 l8 h
      else
        (g_A 36 h l0 23).bind fun a14 =>
        (r_I 100 h a14 l8).bind fun x16 =>
        (k_ok 36 h l0).bind fun _ =>
        (fX37_measure N l0 x16 l1 h).bind fun q19 =>
        (g_A 36 q19.2 l0 24).bind fun a20 =>
        (r_I 100 q19.2 a20 l8).bind fun x22 =>
        (k_ok 36 q19.2 l0).bind fun _ =>
        (fX37_judge l0 x22 q19.2).bind fun q25 =>
        (g_I 36 q25.2 l0 34).bind fun x26 =>
        (g_I 36 q25.2 l0 18).bind fun x28 =>
        if x28 < x26 then
          fX37_ask_b108 N (fX37_ask_b39 N n) l0 l1 l2 l3 (l4 + (1 : Int32)) l5 l6 l7 l8 q25.2
        else
          (k_ok 36 q25.2 l0).bind fun _ =>
          (fX37_reach N l0 l2 l1 l8 q25.2).bind fun q32 =>
          if ¬ q32.1 = 0 then
            fX37_ask_b108 N (fX37_ask_b39 N n) l0 l1 l2 l3 (l4 + (1 : Int32)) l5 l6 (1 : Int32) l8 q32.2
          else
            some ((0 : Int32), q32.2)
theorem pX37_ask_b39 {w : eW} {d : Nat} (hd : 3 ≤ d + 1) {N : Nat} : ∀ (n : Nat) l0 l1 l2 l3 l4 l5 l6 l7 l8 h q, fX37_ask_b39 N n l0 l1 l2 l3 l4 l5 l6 l7 l8 h = some q → wp w (d + 1) YX37_ask 39 [some (.ref l0), some (.int l1), some (.int l2), some (.int l3), some (.int l4), some (.int l5), some (.int l6), some (.int l7), some (.int l8), none] [] h (e_is (e_rn c_I q)) := by
  intro n
  induction n with
  | zero => intro l0 l1 l2 l3 l4 l5 l6 l7 l8 h q hf; simp [fX37_ask_b39] at hf
  | succ n ih =>
    intro l0 l1 l2 l3 l4 l5 l6 l7 l8 h q hf
    rw [fX37_ask_b39] at hf
    refine w_iload dX37_ask_39 rfl ?_
    refine w_iload_n dX37_ask_41 rfl rfl ?_
    refine w_icmp_ge 210 dX37_ask_42 (by decide) (fun c1 => ?_) (fun c1 => ?_)
    · replace hf := (if_pos (show l2 ≤ l8 from c1)).symm.trans hf
      refine w_aload_n dX37_ask_210 rfl rfl ?_
      obtain ⟨x2, b3, hf⟩ := Option.bind_eq_some_iff.mp hf
      refine GX37_122 b3 dX37_ask_211 rfl ?_
      refine w_aload_n dX37_ask_214 rfl rfl ?_
      obtain ⟨a4, b5, hf⟩ := Option.bind_eq_some_iff.mp hf
      refine GX37_34 b5 dX37_ask_215 rfl ?_
      refine w_bipush dX37_ask_218 (v := 8) (by decide) ?_
      obtain ⟨x6, b7, hf⟩ := Option.bind_eq_some_iff.mp hf
      refine x_rI b7 dX37_ask_220 ?_
      refine w_if_le 228 dX37_ask_221 (by decide) (fun c8 => ?_) (fun c8 => ?_)
      · replace hf := (if_pos (show x6 ≤ 0 from c8)).symm.trans hf
        refine w_iconst dX37_ask_228 (v := 2) (by decide) ?_
        exact (pX37_ask_b229 hd hf).to ⟨rfl, rfl, rfl, rfl, rfl, rfl, trivial⟩
      · replace hf := (if_neg (show ¬ (x6 ≤ 0) from c8)).symm.trans hf
        refine w_iconst dX37_ask_224 (v := 3) (by decide) ?_
        refine w_goto 229 dX37_ask_225 (by decide) ?_
        exact (pX37_ask_b229 hd hf).to ⟨rfl, rfl, rfl, rfl, rfl, rfl, trivial⟩
    · replace hf := (if_neg (show ¬ (l2 ≤ l8) from c1)).symm.trans hf
      refine w_aload_n dX37_ask_45 rfl rfl ?_
      obtain ⟨a9, b10, hf⟩ := Option.bind_eq_some_iff.mp hf
      refine GX37_65 b10 dX37_ask_46 rfl ?_
      refine w_iload dX37_ask_49 rfl ?_
      obtain ⟨x11, b12, hf⟩ := Option.bind_eq_some_iff.mp hf
      refine x_rZ b12 dX37_ask_51 ?_
      refine w_if_ne 204 dX37_ask_52 (by decide) (fun c13 => ?_) (fun c13 => ?_)
      · replace hf := (if_pos (show ¬ x11 = 0 from c13)).symm.trans hf
        exact (pX37_ask_b204 hd ih hf).to ⟨rfl, rfl, rfl, rfl, rfl, rfl, rfl, rfl, rfl, trivial⟩
      · replace hf := (if_neg (show ¬ (¬ x11 = 0) from (fun z => z c13))).symm.trans hf
        refine w_aload_n dX37_ask_55 rfl rfl ?_
        refine w_aload_n dX37_ask_56 rfl rfl ?_
        obtain ⟨a14, b15, hf⟩ := Option.bind_eq_some_iff.mp hf
        refine GX37_49 b15 dX37_ask_57 rfl ?_
        refine w_iload dX37_ask_60 rfl ?_
        obtain ⟨x16, b17, hf⟩ := Option.bind_eq_some_iff.mp hf
        refine x_rI b17 dX37_ask_62 ?_
        refine w_iload_n dX37_ask_63 rfl rfl ?_
        obtain ⟨_, b18, hf⟩ := Option.bind_eq_some_iff.mp hf
        refine x_cnV hf (e_stV (Yc := YX37_measure) (ci := 36) (av := [.int x16, .int l1]) (st := []) dX37_ask_64 q5806 mX37_measure rfl (k_ok_some b18).1 (k_ok_some b18).2) mX37_measure.2.2.1 mX37_measure.2.2.2.2.1 (Nat.le_of_ble_eq_true rfl) (Nat.le_of_ble_eq_true rfl) (fun q hq => pX37_measure (by omega) hq) (fun q19 hf => ?_)
        refine w_aload_n dX37_ask_67 rfl rfl ?_
        refine w_aload_n dX37_ask_68 rfl rfl ?_
        obtain ⟨a20, b21, hf⟩ := Option.bind_eq_some_iff.mp hf
        refine GX37_52 b21 dX37_ask_69 rfl ?_
        refine w_iload dX37_ask_72 rfl ?_
        obtain ⟨x22, b23, hf⟩ := Option.bind_eq_some_iff.mp hf
        refine x_rI b23 dX37_ask_74 ?_
        obtain ⟨_, b24, hf⟩ := Option.bind_eq_some_iff.mp hf
        refine x_cnV hf (e_stV (Yc := YX37_judge) (ci := 36) (av := [.int x22]) (st := []) dX37_ask_75 q5822 mX37_judge rfl (k_ok_some b24).1 (k_ok_some b24).2) mX37_judge.2.2.1 mX37_judge.2.2.2.2.1 (Nat.le_of_ble_eq_true rfl) (Nat.le_of_ble_eq_true rfl) (fun q hq => pX37_judge (by omega) hq) (fun q25 hf => ?_)
        refine w_iinc dX37_ask_78 (v := (l4 + (1 : Int32))) rfl rfl (by decide) (ls' := [some (.ref l0), some (.int l1), some (.int l2), some (.int l3), some (.int (l4 + (1 : Int32))), some (.int l5), some (.int l6), some (.int l7), some (.int l8), none]) rfl ?_
        refine w_aload_n dX37_ask_81 rfl rfl ?_
        obtain ⟨x26, b27, hf⟩ := Option.bind_eq_some_iff.mp hf
        refine GX37_169 b27 dX37_ask_82 rfl ?_
        refine w_aload_n dX37_ask_85 rfl rfl ?_
        obtain ⟨x28, b29, hf⟩ := Option.bind_eq_some_iff.mp hf
        refine GX37_204 b29 dX37_ask_86 rfl ?_
        refine w_icmp_gt 108 dX37_ask_89 (by decide) (fun c30 => ?_) (fun c30 => ?_)
        · replace hf := (if_pos (show x28 < x26 from c30)).symm.trans hf
          exact (pX37_ask_b108 hd ih hf).to ⟨rfl, rfl, rfl, rfl, rfl, rfl, rfl, rfl, rfl, trivial⟩
        · replace hf := (if_neg (show ¬ (x28 < x26) from c30)).symm.trans hf
          refine w_iconst dX37_ask_92 (v := 1) (by decide) ?_
          refine w_istore dX37_ask_93 (by decide) (ls' := [some (.ref l0), some (.int l1), some (.int l2), some (.int l3), some (.int (l4 + (1 : Int32))), some (.int l5), some (.int l6), some (.int (1 : Int32)), some (.int l8), none]) rfl ?_
          refine w_aload_n dX37_ask_95 rfl rfl ?_
          refine w_iload_n dX37_ask_96 rfl rfl ?_
          refine w_iload_n dX37_ask_97 rfl rfl ?_
          refine w_iload dX37_ask_98 rfl ?_
          obtain ⟨_, b31, hf⟩ := Option.bind_eq_some_iff.mp hf
          refine x_cnI hf (e_stV (Yc := YX37_reach) (ci := 36) (av := [.int l2, .int l1, .int l8]) (st := []) dX37_ask_100 q5835 mX37_reach rfl (k_ok_some b31).1 (k_ok_some b31).2) mX37_reach.2.2.1 mX37_reach.2.2.2.2.1 (Nat.le_of_ble_eq_true rfl) (Nat.le_of_ble_eq_true rfl) (fun q hq => pX37_reach (by omega) hq) (fun q32 hf => ?_)
          refine w_if_ne 108 dX37_ask_103 (by decide) (fun c33 => ?_) (fun c33 => ?_)
          · replace hf := (if_pos (show ¬ q32.1 = 0 from c33)).symm.trans hf
            exact (pX37_ask_b108 hd ih hf).to ⟨rfl, rfl, rfl, rfl, rfl, rfl, rfl, rfl, rfl, trivial⟩
          · replace hf := (if_neg (show ¬ (¬ q32.1 = 0) from (fun z => z c33))).symm.trans hf
            refine w_iconst dX37_ask_106 (v := 0) (by decide) ?_
            cases hf
            exact w_iret dX37_ask_107 rfl rfl rfl
def fX37_ask_b23 (N : Nat) (l0 : Nat) (l1 : Int32) (l2 : Int32) (s0 : Int32) (h : eH) : Option (Int32 × eH) :=
  fX37_ask_b39 N N l0 l1 l2 s0 (0 : Int32) (0 : Int32) (-1 : Int32) (0 : Int32) (0 : Int32) h
theorem pX37_ask_b23 {w : eW} {d : Nat} (hd : 3 ≤ d + 1) {N : Nat} {l0 : Nat} {l1 : Int32} {l2 : Int32} {s0 : Int32} {h : eH} {q} (hf : fX37_ask_b23 N l0 l1 l2 s0 h = some q) : wp w (d + 1) YX37_ask 23 [some (.ref l0), some (.int l1), some (.int l2), none, none, none, none, none, none, none] [.int s0] h (e_is (e_rn c_I q)) := by
  unfold fX37_ask_b23 at hf
  refine w_istore_n dX37_ask_23 rfl (by decide) (ls' := [some (.ref l0), some (.int l1), some (.int l2), some (.int s0), none, none, none, none, none, none]) rfl ?_
  refine w_iconst dX37_ask_24 (v := 0) (by decide) ?_
  refine w_istore dX37_ask_25 (by decide) (ls' := [some (.ref l0), some (.int l1), some (.int l2), some (.int s0), some (.int (0 : Int32)), none, none, none, none, none]) rfl ?_
  refine w_iconst dX37_ask_27 (v := 0) (by decide) ?_
  refine w_istore dX37_ask_28 (by decide) (ls' := [some (.ref l0), some (.int l1), some (.int l2), some (.int s0), some (.int (0 : Int32)), some (.int (0 : Int32)), none, none, none, none]) rfl ?_
  refine w_iconst dX37_ask_30 (v := -1) (by decide) ?_
  refine w_istore dX37_ask_31 (by decide) (ls' := [some (.ref l0), some (.int l1), some (.int l2), some (.int s0), some (.int (0 : Int32)), some (.int (0 : Int32)), some (.int (-1 : Int32)), none, none, none]) rfl ?_
  refine w_iconst dX37_ask_33 (v := 0) (by decide) ?_
  refine w_istore dX37_ask_34 (by decide) (ls' := [some (.ref l0), some (.int l1), some (.int l2), some (.int s0), some (.int (0 : Int32)), some (.int (0 : Int32)), some (.int (-1 : Int32)), some (.int (0 : Int32)), none, none]) rfl ?_
  refine w_iconst dX37_ask_36 (v := 0) (by decide) ?_
  refine w_istore dX37_ask_37 (by decide) (ls' := [some (.ref l0), some (.int l1), some (.int l2), some (.int s0), some (.int (0 : Int32)), some (.int (0 : Int32)), some (.int (-1 : Int32)), some (.int (0 : Int32)), some (.int (0 : Int32)), none]) rfl ?_
  exact (pX37_ask_b39 hd N _ _ _ _ _ _ _ _ _ _ _ hf).to ⟨rfl, rfl, rfl, rfl, rfl, rfl, rfl, rfl, rfl, trivial⟩
def fX37_ask (N : Nat) (this : Nat) (p0 : Int32) (h : eH) : Option (Int32 × eH) :=
  (g_I 36 h this 20).bind fun x1 =>
  (k_ok 36 h this).bind fun _ =>
  (fX37_fine this p0 h).bind fun q4 =>
  if ¬ q4.1 = (-10000 : Int32) then
    fX37_ask_b23 N this p0 (x1 + (1 : Int32)) (0 : Int32) q4.2
  else
    fX37_ask_b23 N this p0 (x1 + (1 : Int32)) (1 : Int32) q4.2
theorem pX37_ask {w : eW} {d : Nat} (hd : 3 ≤ d) {N : Nat} {this : Nat} {p0 : Int32} {h : eH} {q} (hf : fX37_ask N this p0 h = some q) : wm w d YX37_ask [.ref this, .int p0] h (e_is (e_rn c_I q)) := by
  obtain ⟨d, rfl⟩ : ∃ e, d = e + 1 := ⟨d - 1, by omega⟩
  show wp w (d + 1) YX37_ask 0 [some (.ref this), some (.int p0), none, none, none, none, none, none, none, none] [] h _
  unfold fX37_ask at hf
  refine w_aload_n dX37_ask_0 rfl rfl ?_
  obtain ⟨x1, b2, hf⟩ := Option.bind_eq_some_iff.mp hf
  refine GX37_185 b2 dX37_ask_1 rfl ?_
  refine w_iconst dX37_ask_4 (v := 1) (by decide) ?_
  refine w_iadd dX37_ask_5 ?_
  refine w_istore_n dX37_ask_6 rfl (by decide) (ls' := [some (.ref this), some (.int p0), some (.int (x1 + (1 : Int32))), none, none, none, none, none, none, none]) rfl ?_
  refine w_aload_n dX37_ask_7 rfl rfl ?_
  refine w_iload_n dX37_ask_8 rfl rfl ?_
  obtain ⟨_, b3, hf⟩ := Option.bind_eq_some_iff.mp hf
  refine x_cnI hf (e_stV (Yc := YX37_fine) (ci := 36) (av := [.int p0]) (st := []) dX37_ask_9 q5798 mX37_fine rfl (k_ok_some b3).1 (k_ok_some b3).2) mX37_fine.2.2.1 mX37_fine.2.2.2.2.1 (Nat.le_of_ble_eq_true rfl) (Nat.le_of_ble_eq_true rfl) (fun q hq => pX37_fine (by omega) hq) (fun q4 hf => ?_)
  refine w_sipush dX37_ask_12 (v := -10000) (by decide) ?_
  refine w_icmp_ne 22 dX37_ask_15 (by decide) (fun c5 => ?_) (fun c5 => ?_)
  · replace hf := (if_pos (show ¬ q4.1 = (-10000 : Int32) from c5)).symm.trans hf
    refine w_iconst dX37_ask_22 (v := 0) (by decide) ?_
    exact (pX37_ask_b23 hd hf).to ⟨rfl, rfl, rfl, trivial⟩
  · replace hf := (if_neg (show ¬ (¬ q4.1 = (-10000 : Int32)) from (fun z => z c5))).symm.trans hf
    refine w_iconst dX37_ask_18 (v := 1) (by decide) ?_
    refine w_goto 23 dX37_ask_19 (by decide) ?_
    exact (pX37_ask_b23 hd hf).to ⟨rfl, rfl, rfl, trivial⟩
abbrev cX37_make : ByteArray := prog_38_method_20_code
def yX37_make : MethodName := ⟨RX37, "make", "()Z"⟩
def YX37_make : eY := (yX37_make, cX37_make, 3, (Option.some FieldType.boolean), [])
theorem mX37_make : e_mv YX37_make RX37 0 := ⟨q5788, qs372, q5789, by decide, by decide +kernel, (e_sig (by decide +kernel))⟩
theorem dX37_make_0 : decode cX37_make 0 = .ok (.aload_n 0, 1) := dc_42 (by decide +kernel)
theorem dX37_make_1 : decode cX37_make 1 = .ok (.iconst 0, 1) := dc_3 (by decide +kernel)
theorem dX37_make_2 : decode cX37_make 2 = .ok (.putfield 185, 3) := dc_181 (a := 0) (b := 185) (n := 185) (by decide +kernel)
theorem dX37_make_5 : decode cX37_make 5 = .ok (.aload_n 0, 1) := dc_42 (by decide +kernel)
theorem dX37_make_6 : decode cX37_make 6 = .ok (.getfield 49, 3) := dc_180 (a := 0) (b := 49) (n := 49) (by decide +kernel)
theorem dX37_make_9 : decode cX37_make 9 = .ok (.iconst 0, 1) := dc_3 (by decide +kernel)
theorem dX37_make_10 : decode cX37_make 10 = .ok (.iconst (-1), 1) := dc_2 (by decide +kernel)
theorem dX37_make_11 : decode cX37_make 11 = .ok (.iastore, 1) := dc_79 (by decide +kernel)
theorem dX37_make_12 : decode cX37_make 12 = .ok (.aload_n 0, 1) := dc_42 (by decide +kernel)
theorem dX37_make_13 : decode cX37_make 13 = .ok (.getfield 52, 3) := dc_180 (a := 0) (b := 52) (n := 52) (by decide +kernel)
theorem dX37_make_16 : decode cX37_make 16 = .ok (.iconst 0, 1) := dc_3 (by decide +kernel)
theorem dX37_make_17 : decode cX37_make 17 = .ok (.iconst 0, 1) := dc_3 (by decide +kernel)
theorem dX37_make_18 : decode cX37_make 18 = .ok (.iastore, 1) := dc_79 (by decide +kernel)
theorem dX37_make_19 : decode cX37_make 19 = .ok (.aload_n 0, 1) := dc_42 (by decide +kernel)
theorem dX37_make_20 : decode cX37_make 20 = .ok (.getfield 55, 3) := dc_180 (a := 0) (b := 55) (n := 55) (by decide +kernel)
theorem dX37_make_23 : decode cX37_make 23 = .ok (.iconst 0, 1) := dc_3 (by decide +kernel)
theorem dX37_make_24 : decode cX37_make 24 = .ok (.iconst 2, 1) := dc_5 (by decide +kernel)
theorem dX37_make_25 : decode cX37_make 25 = .ok (.iastore, 1) := dc_79 (by decide +kernel)
theorem dX37_make_26 : decode cX37_make 26 = .ok (.aload_n 0, 1) := dc_42 (by decide +kernel)
theorem dX37_make_27 : decode cX37_make 27 = .ok (.getfield 58, 3) := dc_180 (a := 0) (b := 58) (n := 58) (by decide +kernel)
theorem dX37_make_30 : decode cX37_make 30 = .ok (.iconst 0, 1) := dc_3 (by decide +kernel)
theorem dX37_make_31 : decode cX37_make 31 = .ok (.lconst 0, 1) := dc_9 (by decide +kernel)
theorem dX37_make_32 : decode cX37_make 32 = .ok (.lastore, 1) := dc_80 (by decide +kernel)
theorem dX37_make_33 : decode cX37_make 33 = .ok (.aload_n 0, 1) := dc_42 (by decide +kernel)
theorem dX37_make_34 : decode cX37_make 34 = .ok (.getfield 65, 3) := dc_180 (a := 0) (b := 65) (n := 65) (by decide +kernel)
theorem dX37_make_37 : decode cX37_make 37 = .ok (.iconst 0, 1) := dc_3 (by decide +kernel)
theorem dX37_make_38 : decode cX37_make 38 = .ok (.iconst 0, 1) := dc_3 (by decide +kernel)
theorem dX37_make_39 : decode cX37_make 39 = .ok (.bastore, 1) := dc_84 (by decide +kernel)
theorem dX37_make_40 : decode cX37_make 40 = .ok (.aload_n 0, 1) := dc_42 (by decide +kernel)
theorem dX37_make_41 : decode cX37_make 41 = .ok (.aload_n 0, 1) := dc_42 (by decide +kernel)
theorem dX37_make_42 : decode cX37_make 42 = .ok (.getfield 34, 3) := dc_180 (a := 0) (b := 34) (n := 34) (by decide +kernel)
theorem dX37_make_45 : decode cX37_make 45 = .ok (.aload_n 0, 1) := dc_42 (by decide +kernel)
theorem dX37_make_46 : decode cX37_make 46 = .ok (.getfield 122, 3) := dc_180 (a := 0) (b := 122) (n := 122) (by decide +kernel)
theorem dX37_make_49 : decode cX37_make 49 = .ok (.iconst 1, 1) := dc_4 (by decide +kernel)
theorem dX37_make_50 : decode cX37_make 50 = .ok (.if_icmp .ne 7, 3) := dc_160 (a := 0) (b := 7) (v := 7) (by decide +kernel)
theorem dX37_make_53 : decode cX37_make 53 = .ok (.iconst 0, 1) := dc_3 (by decide +kernel)
theorem dX37_make_54 : decode cX37_make 54 = .ok (.goto 4, 3) := dc_167 (a := 0) (b := 4) (v := 4) (by decide +kernel)
theorem dX37_make_57 : decode cX37_make 57 = .ok (.iconst 1, 1) := dc_4 (by decide +kernel)
theorem dX37_make_58 : decode cX37_make 58 = .ok (.iaload, 1) := dc_46 (by decide +kernel)
theorem dX37_make_59 : decode cX37_make 59 = .ok (.putfield 204, 3) := dc_181 (a := 0) (b := 204) (n := 204) (by decide +kernel)
theorem dX37_make_62 : decode cX37_make 62 = .ok (.aload_n 0, 1) := dc_42 (by decide +kernel)
theorem dX37_make_63 : decode cX37_make 63 = .ok (.aload_n 0, 1) := dc_42 (by decide +kernel)
theorem dX37_make_64 : decode cX37_make 64 = .ok (.getfield 122, 3) := dc_180 (a := 0) (b := 122) (n := 122) (by decide +kernel)
theorem dX37_make_67 : decode cX37_make 67 = .ok (.iconst 3, 1) := dc_6 (by decide +kernel)
theorem dX37_make_68 : decode cX37_make 68 = .ok (.if_icmp .ne 13, 3) := dc_160 (a := 0) (b := 13) (v := 13) (by decide +kernel)
theorem dX37_make_71 : decode cX37_make 71 = .ok (.aload_n 0, 1) := dc_42 (by decide +kernel)
theorem dX37_make_72 : decode cX37_make 72 = .ok (.getfield 34, 3) := dc_180 (a := 0) (b := 34) (n := 34) (by decide +kernel)
theorem dX37_make_75 : decode cX37_make 75 = .ok (.bipush 8, 2) := dc_16 (a := 8) (v := 8) (by decide +kernel)
theorem dX37_make_77 : decode cX37_make 77 = .ok (.iaload, 1) := dc_46 (by decide +kernel)
theorem dX37_make_78 : decode cX37_make 78 = .ok (.goto 4, 3) := dc_167 (a := 0) (b := 4) (v := 4) (by decide +kernel)
theorem dX37_make_81 : decode cX37_make 81 = .ok (.iconst 0, 1) := dc_3 (by decide +kernel)
theorem dX37_make_82 : decode cX37_make 82 = .ok (.putfield 144, 3) := dc_181 (a := 0) (b := 144) (n := 144) (by decide +kernel)
theorem dX37_make_85 : decode cX37_make 85 = .ok (.iconst 1, 1) := dc_4 (by decide +kernel)
theorem dX37_make_86 : decode cX37_make 86 = .ok (.istore_n 1, 1) := dc_60 (by decide +kernel)
theorem dX37_make_87 : decode cX37_make 87 = .ok (.iconst 0, 1) := dc_3 (by decide +kernel)
theorem dX37_make_88 : decode cX37_make 88 = .ok (.istore_n 2, 1) := dc_61 (by decide +kernel)
theorem dX37_make_89 : decode cX37_make 89 = .ok (.iload_n 2, 1) := dc_28 (by decide +kernel)
theorem dX37_make_90 : decode cX37_make 90 = .ok (.aload_n 0, 1) := dc_42 (by decide +kernel)
theorem dX37_make_91 : decode cX37_make 91 = .ok (.getfield 119, 3) := dc_180 (a := 0) (b := 119) (n := 119) (by decide +kernel)
theorem dX37_make_94 : decode cX37_make 94 = .ok (.if_icmp .gt 35, 3) := dc_163 (a := 0) (b := 35) (v := 35) (by decide +kernel)
theorem dX37_make_97 : decode cX37_make 97 = .ok (.iload_n 1, 1) := dc_27 (by decide +kernel)
theorem dX37_make_98 : decode cX37_make 98 = .ok (.ifCond .eq 31, 3) := dc_153 (a := 0) (b := 31) (v := 31) (by decide +kernel)
theorem dX37_make_101 : decode cX37_make 101 = .ok (.aload_n 0, 1) := dc_42 (by decide +kernel)
theorem dX37_make_102 : decode cX37_make 102 = .ok (.iload_n 2, 1) := dc_28 (by decide +kernel)
theorem dX37_make_103 : decode cX37_make 103 = .ok (.invokevirtual 219, 3) := dc_182 (a := 0) (b := 219) (n := 219) (by decide +kernel)
theorem dX37_make_106 : decode cX37_make 106 = .ok (.ifCond .eq 11, 3) := dc_153 (a := 0) (b := 11) (v := 11) (by decide +kernel)
theorem dX37_make_109 : decode cX37_make 109 = .ok (.aload_n 0, 1) := dc_42 (by decide +kernel)
theorem dX37_make_110 : decode cX37_make 110 = .ok (.iload_n 2, 1) := dc_28 (by decide +kernel)
theorem dX37_make_111 : decode cX37_make 111 = .ok (.invokevirtual 222, 3) := dc_182 (a := 0) (b := 222) (n := 222) (by decide +kernel)
theorem dX37_make_114 : decode cX37_make 114 = .ok (.ifCond .eq 7, 3) := dc_153 (a := 0) (b := 7) (v := 7) (by decide +kernel)
theorem dX37_make_117 : decode cX37_make 117 = .ok (.iconst 1, 1) := dc_4 (by decide +kernel)
theorem dX37_make_118 : decode cX37_make 118 = .ok (.goto 4, 3) := dc_167 (a := 0) (b := 4) (v := 4) (by decide +kernel)
theorem dX37_make_121 : decode cX37_make 121 = .ok (.iconst 0, 1) := dc_3 (by decide +kernel)
theorem dX37_make_122 : decode cX37_make 122 = .ok (.istore_n 1, 1) := dc_60 (by decide +kernel)
theorem dX37_make_123 : decode cX37_make 123 = .ok (.iinc 2 1, 3) := dc_132 (a := 2) (b := 1) (v := 1) (by decide +kernel)
theorem dX37_make_126 : decode cX37_make 126 = .ok (.goto (-37), 3) := dc_167 (a := 255) (b := 219) (v := -37) (by decide +kernel)
theorem dX37_make_129 : decode cX37_make 129 = .ok (.iload_n 1, 1) := dc_27 (by decide +kernel)
theorem dX37_make_130 : decode cX37_make 130 = .ok (.ireturn, 1) := dc_172 (by decide +kernel)
theorem SX37_144 {w : eW} {d : Nat} {Y : eY} {pc : Nat} {ls : eL} {st : List Value} {h : eH} {Q : eO → eH → Prop} {a : Nat} {h' : eH} {x : Int32} (hf : p_V 36 h a 19 (.int x) = some h') (hd : decode Y.2.1 pc = .ok (.putfield 144, 3)) (hY : Y.1.cls = RX37) (kk : wp w d Y (pc + 3) ls st h' Q) : wp w d Y pc ls (.int x :: .ref a :: st) h Q := x_pI (ci := 36) (k := 19) hf hd rfl (by decide) (by rw [hY]; exact q4253) rfl rfl kk
theorem SX37_204 {w : eW} {d : Nat} {Y : eY} {pc : Nat} {ls : eL} {st : List Value} {h : eH} {Q : eO → eH → Prop} {a : Nat} {h' : eH} {x : Int32} (hf : p_V 36 h a 18 (.int x) = some h') (hd : decode Y.2.1 pc = .ok (.putfield 204, 3)) (hY : Y.1.cls = RX37) (kk : wp w d Y (pc + 3) ls st h' Q) : wp w d Y pc ls (.int x :: .ref a :: st) h Q := x_pI (ci := 36) (k := 18) hf hd rfl (by decide) (by rw [hY]; exact q4252) rfl rfl kk
def fX37_make_b122 (N : Nat) (k89 : Nat → Int32 → Int32 → eH → Option (Int32 × eH)) (l0 : Nat) (l2 : Int32) (s0 : Int32) (h : eH) : Option (Int32 × eH) :=
  k89 l0 s0 (l2 + (1 : Int32)) h
theorem pX37_make_b122 {w : eW} {d : Nat} (hd : 4 ≤ d + 1) {N : Nat} {k89 : Nat → Int32 → Int32 → eH → Option (Int32 × eH)} (hk89 : ∀ l0 l1 l2 h q, k89 l0 l1 l2 h = some q → wp w (d + 1) YX37_make 89 [some (.ref l0), some (.int l1), some (.int l2)] [] h (e_is (e_rn c_I q))) {l0 : Nat} {l2 : Int32} {s0 : Int32} {h : eH} {q} (hf : fX37_make_b122 N k89 l0 l2 s0 h = some q) : wp w (d + 1) YX37_make 122 [some (.ref l0), none, some (.int l2)] [.int s0] h (e_is (e_rn c_I q)) := by
  unfold fX37_make_b122 at hf
  refine w_istore_n dX37_make_122 rfl (by decide) (ls' := [some (.ref l0), some (.int s0), some (.int l2)]) rfl ?_
  refine w_iinc dX37_make_123 (v := (l2 + (1 : Int32))) rfl rfl (by decide) (ls' := [some (.ref l0), some (.int s0), some (.int (l2 + (1 : Int32)))]) rfl ?_
  refine w_goto 89 dX37_make_126 (by decide) ?_
  exact (hk89 _ _ _ _ _ hf).to ⟨rfl, rfl, rfl, trivial⟩
def fX37_make_b117 (N : Nat) (k89 : Nat → Int32 → Int32 → eH → Option (Int32 × eH)) (l0 : Nat) (l2 : Int32) (h : eH) : Option (Int32 × eH) :=
  fX37_make_b122 N k89 l0 l2 (1 : Int32) h
theorem pX37_make_b117 {w : eW} {d : Nat} (hd : 4 ≤ d + 1) {N : Nat} {k89 : Nat → Int32 → Int32 → eH → Option (Int32 × eH)} (hk89 : ∀ l0 l1 l2 h q, k89 l0 l1 l2 h = some q → wp w (d + 1) YX37_make 89 [some (.ref l0), some (.int l1), some (.int l2)] [] h (e_is (e_rn c_I q))) {l0 : Nat} {l2 : Int32} {h : eH} {q} (hf : fX37_make_b117 N k89 l0 l2 h = some q) : wp w (d + 1) YX37_make 117 [some (.ref l0), none, some (.int l2)] [] h (e_is (e_rn c_I q)) := by
  unfold fX37_make_b117 at hf
  refine w_iconst dX37_make_117 (v := 1) (by decide) ?_
  refine w_goto 122 dX37_make_118 (by decide) ?_
  exact (pX37_make_b122 hd hk89 hf).to ⟨rfl, rfl, trivial⟩
def fX37_make_b129 (N : Nat) (l1 : Int32) (h : eH) : Option (Int32 × eH) :=
  z_r l1 (l1, h)
theorem pX37_make_b129 {w : eW} {d : Nat} (hd : 4 ≤ d + 1) {N : Nat} {l1 : Int32} {h : eH} {q} (hf : fX37_make_b129 N l1 h = some q) : wp w (d + 1) YX37_make 129 [none, some (.int l1), none] [] h (e_is (e_rn c_I q)) := by
  unfold fX37_make_b129 at hf
  refine w_iload_n dX37_make_129 rfl rfl ?_
  obtain ⟨b1, rfl⟩ := z_r_some hf
  exact w_iret dX37_make_130 rfl b1 rfl
def fX37_make_b89 (N : Nat) : Nat → Nat → Int32 → Int32 → eH → Option (Int32 × eH)
  | 0, _, _, _, _ => none
  | n + 1, l0, l1, l2, h =>
    (g_I 36 h l0 17).bind fun x1 =>
    if x1 < l2 then
      fX37_make_b129 N l1 h
    else
      if l1 = 0 then
        fX37_make_b129 N l1 h
      else
        (k_ok 36 h l0).bind fun _ =>
        (fX37_isPlace N l0 l2 h).bind fun q6 =>
        if q6.1 = 0 then
          fX37_make_b117 N (fX37_make_b89 N n) l0 l2 q6.2
        else
          (k_ok 36 q6.2 l0).bind fun _ =>
          (fX37_ask N l0 l2 q6.2).bind fun q9 =>
          if q9.1 = 0 then
            fX37_make_b122 N (fX37_make_b89 N n) l0 l2 (0 : Int32) q9.2
          else
            fX37_make_b117 N (fX37_make_b89 N n) l0 l2 q9.2
theorem pX37_make_b89 {w : eW} {d : Nat} (hd : 4 ≤ d + 1) {N : Nat} : ∀ (n : Nat) l0 l1 l2 h q, fX37_make_b89 N n l0 l1 l2 h = some q → wp w (d + 1) YX37_make 89 [some (.ref l0), some (.int l1), some (.int l2)] [] h (e_is (e_rn c_I q)) := by
  intro n
  induction n with
  | zero => intro l0 l1 l2 h q hf; simp [fX37_make_b89] at hf
  | succ n ih =>
    intro l0 l1 l2 h q hf
    rw [fX37_make_b89] at hf
    refine w_iload_n dX37_make_89 rfl rfl ?_
    refine w_aload_n dX37_make_90 rfl rfl ?_
    obtain ⟨x1, b2, hf⟩ := Option.bind_eq_some_iff.mp hf
    refine GX37_119 b2 dX37_make_91 rfl ?_
    refine w_icmp_gt 129 dX37_make_94 (by decide) (fun c3 => ?_) (fun c3 => ?_)
    · replace hf := (if_pos (show x1 < l2 from c3)).symm.trans hf
      exact (pX37_make_b129 hd hf).to ⟨rfl, trivial⟩
    · replace hf := (if_neg (show ¬ (x1 < l2) from c3)).symm.trans hf
      refine w_iload_n dX37_make_97 rfl rfl ?_
      refine w_if_eq 129 dX37_make_98 (by decide) (fun c4 => ?_) (fun c4 => ?_)
      · replace hf := (if_pos (show l1 = 0 from c4)).symm.trans hf
        exact (pX37_make_b129 hd hf).to ⟨rfl, trivial⟩
      · replace hf := (if_neg (show ¬ (l1 = 0) from c4)).symm.trans hf
        refine w_aload_n dX37_make_101 rfl rfl ?_
        refine w_iload_n dX37_make_102 rfl rfl ?_
        obtain ⟨_, b5, hf⟩ := Option.bind_eq_some_iff.mp hf
        refine x_cnI hf (e_stV (Yc := YX37_isPlace) (ci := 36) (av := [.int l2]) (st := []) dX37_make_103 q5790 mX37_isPlace rfl (k_ok_some b5).1 (k_ok_some b5).2) mX37_isPlace.2.2.1 mX37_isPlace.2.2.2.2.1 (Nat.le_of_ble_eq_true rfl) (Nat.le_of_ble_eq_true rfl) (fun q hq => pX37_isPlace (by omega) hq) (fun q6 hf => ?_)
        refine w_if_eq 117 dX37_make_106 (by decide) (fun c7 => ?_) (fun c7 => ?_)
        · replace hf := (if_pos (show q6.1 = 0 from c7)).symm.trans hf
          exact (pX37_make_b117 hd ih hf).to ⟨rfl, rfl, trivial⟩
        · replace hf := (if_neg (show ¬ (q6.1 = 0) from c7)).symm.trans hf
          refine w_aload_n dX37_make_109 rfl rfl ?_
          refine w_iload_n dX37_make_110 rfl rfl ?_
          obtain ⟨_, b8, hf⟩ := Option.bind_eq_some_iff.mp hf
          refine x_cnI hf (e_stV (Yc := YX37_ask) (ci := 36) (av := [.int l2]) (st := []) dX37_make_111 q5802 mX37_ask rfl (k_ok_some b8).1 (k_ok_some b8).2) mX37_ask.2.2.1 mX37_ask.2.2.2.2.1 (Nat.le_of_ble_eq_true rfl) (Nat.le_of_ble_eq_true rfl) (fun q hq => pX37_ask (by omega) hq) (fun q9 hf => ?_)
          refine w_if_eq 121 dX37_make_114 (by decide) (fun c10 => ?_) (fun c10 => ?_)
          · replace hf := (if_pos (show q9.1 = 0 from c10)).symm.trans hf
            refine w_iconst dX37_make_121 (v := 0) (by decide) ?_
            exact (pX37_make_b122 hd ih hf).to ⟨rfl, rfl, trivial⟩
          · replace hf := (if_neg (show ¬ (q9.1 = 0) from c10)).symm.trans hf
            exact (pX37_make_b117 hd ih hf).to ⟨rfl, rfl, trivial⟩
def fX37_make_b82 (N : Nat) (l0 : Nat) (s0 : Nat) (s1 : Int32) (h : eH) : Option (Int32 × eH) :=
  (p_V 36 h s0 19 (.int s1)).bind fun h1 =>
  fX37_make_b89 N N l0 (1 : Int32) (0 : Int32) h1
theorem pX37_make_b82 {w : eW} {d : Nat} (hd : 4 ≤ d + 1) {N : Nat} {l0 : Nat} {s0 : Nat} {s1 : Int32} {h : eH} {q} (hf : fX37_make_b82 N l0 s0 s1 h = some q) : wp w (d + 1) YX37_make 82 [some (.ref l0), none, none] [.int s1, .ref s0] h (e_is (e_rn c_I q)) := by
  unfold fX37_make_b82 at hf
  obtain ⟨h1, b2, hf⟩ := Option.bind_eq_some_iff.mp hf
  refine SX37_144 b2 dX37_make_82 rfl ?_
  refine w_iconst dX37_make_85 (v := 1) (by decide) ?_
  refine w_istore_n dX37_make_86 rfl (by decide) (ls' := [some (.ref l0), some (.int (1 : Int32)), none]) rfl ?_
  refine w_iconst dX37_make_87 (v := 0) (by decide) ?_
  refine w_istore_n dX37_make_88 rfl (by decide) (ls' := [some (.ref l0), some (.int (1 : Int32)), some (.int (0 : Int32))]) rfl ?_
  exact (pX37_make_b89 hd N _ _ _ _ _ hf).to ⟨rfl, rfl, rfl, trivial⟩
def fX37_make_b58 (N : Nat) (l0 : Nat) (s0 : Nat) (s1 : Nat) (s2 : Int32) (h : eH) : Option (Int32 × eH) :=
  (r_I 100 h s1 s2).bind fun x1 =>
  (p_V 36 h s0 18 (.int x1)).bind fun h3 =>
  (g_I 36 h3 l0 16).bind fun x5 =>
  if ¬ x5 = (3 : Int32) then
    fX37_make_b82 N l0 l0 (0 : Int32) h3
  else
    (g_A 36 h3 l0 10).bind fun a8 =>
    (r_I 100 h3 a8 (8 : Int32)).bind fun x10 =>
    fX37_make_b82 N l0 l0 x10 h3
theorem pX37_make_b58 {w : eW} {d : Nat} (hd : 4 ≤ d + 1) {N : Nat} {l0 : Nat} {s0 : Nat} {s1 : Nat} {s2 : Int32} {h : eH} {q} (hf : fX37_make_b58 N l0 s0 s1 s2 h = some q) : wp w (d + 1) YX37_make 58 [some (.ref l0), none, none] [.int s2, .ref s1, .ref s0] h (e_is (e_rn c_I q)) := by
  unfold fX37_make_b58 at hf
  obtain ⟨x1, b2, hf⟩ := Option.bind_eq_some_iff.mp hf
  refine x_rI b2 dX37_make_58 ?_
  obtain ⟨h3, b4, hf⟩ := Option.bind_eq_some_iff.mp hf
  refine SX37_204 b4 dX37_make_59 rfl ?_
  refine w_aload_n dX37_make_62 rfl rfl ?_
  refine w_aload_n dX37_make_63 rfl rfl ?_
  obtain ⟨x5, b6, hf⟩ := Option.bind_eq_some_iff.mp hf
  refine GX37_122 b6 dX37_make_64 rfl ?_
  refine w_iconst dX37_make_67 (v := 3) (by decide) ?_
  refine w_icmp_ne 81 dX37_make_68 (by decide) (fun c7 => ?_) (fun c7 => ?_)
  · replace hf := (if_pos (show ¬ x5 = (3 : Int32) from c7)).symm.trans hf
    refine w_iconst dX37_make_81 (v := 0) (by decide) ?_
    exact (pX37_make_b82 hd hf).to ⟨rfl, trivial⟩
  · replace hf := (if_neg (show ¬ (¬ x5 = (3 : Int32)) from (fun z => z c7))).symm.trans hf
    refine w_aload_n dX37_make_71 rfl rfl ?_
    obtain ⟨a8, b9, hf⟩ := Option.bind_eq_some_iff.mp hf
    refine GX37_34 b9 dX37_make_72 rfl ?_
    refine w_bipush dX37_make_75 (v := 8) (by decide) ?_
    obtain ⟨x10, b11, hf⟩ := Option.bind_eq_some_iff.mp hf
    refine x_rI b11 dX37_make_77 ?_
    refine w_goto 82 dX37_make_78 (by decide) ?_
    exact (pX37_make_b82 hd hf).to ⟨rfl, trivial⟩
def fX37_make (N : Nat) (this : Nat) (h : eH) : Option (Int32 × eH) :=
  (p_V 36 h this 20 (.int (0 : Int32))).bind fun h1 =>
  (g_A 36 h1 this 23).bind fun a3 =>
  (q_V 100 h1 a3 (0 : Int32) (.int (-1 : Int32))).bind fun h5 =>
  (g_A 36 h5 this 24).bind fun a7 =>
  (q_V 100 h5 a7 (0 : Int32) (.int (0 : Int32))).bind fun h9 =>
  (g_A 36 h9 this 25).bind fun a11 =>
  (q_V 100 h9 a11 (0 : Int32) (.int (2 : Int32))).bind fun h13 =>
  (g_A 36 h13 this 26).bind fun a15 =>
  (q_V 101 h13 a15 (0 : Int32) (.long (0 : Int64))).bind fun h17 =>
  (g_A 36 h17 this 28).bind fun a19 =>
  (q_V 103 h17 a19 (0 : Int32) (.int ((0 : Int32) &&& 1))).bind fun h21 =>
  (g_A 36 h21 this 10).bind fun a23 =>
  (g_I 36 h21 this 16).bind fun x25 =>
  if ¬ x25 = (1 : Int32) then
    fX37_make_b58 N this this a23 (1 : Int32) h21
  else
    fX37_make_b58 N this this a23 (0 : Int32) h21
theorem pX37_make {w : eW} {d : Nat} (hd : 4 ≤ d) {N : Nat} {this : Nat} {h : eH} {q} (hf : fX37_make N this h = some q) : wm w d YX37_make [.ref this] h (e_is (e_rn c_I q)) := by
  obtain ⟨d, rfl⟩ : ∃ e, d = e + 1 := ⟨d - 1, by omega⟩
  show wp w (d + 1) YX37_make 0 [some (.ref this), none, none] [] h _
  unfold fX37_make at hf
  refine w_aload_n dX37_make_0 rfl rfl ?_
  refine w_iconst dX37_make_1 (v := 0) (by decide) ?_
  obtain ⟨h1, b2, hf⟩ := Option.bind_eq_some_iff.mp hf
  refine SX37_185 b2 dX37_make_2 rfl ?_
  refine w_aload_n dX37_make_5 rfl rfl ?_
  obtain ⟨a3, b4, hf⟩ := Option.bind_eq_some_iff.mp hf
  refine GX37_49 b4 dX37_make_6 rfl ?_
  refine w_iconst dX37_make_9 (v := 0) (by decide) ?_
  refine w_iconst dX37_make_10 (v := -1) (by decide) ?_
  obtain ⟨h5, b6, hf⟩ := Option.bind_eq_some_iff.mp hf
  refine x_qI b6 dX37_make_11 ?_
  refine w_aload_n dX37_make_12 rfl rfl ?_
  obtain ⟨a7, b8, hf⟩ := Option.bind_eq_some_iff.mp hf
  refine GX37_52 b8 dX37_make_13 rfl ?_
  refine w_iconst dX37_make_16 (v := 0) (by decide) ?_
  refine w_iconst dX37_make_17 (v := 0) (by decide) ?_
  obtain ⟨h9, b10, hf⟩ := Option.bind_eq_some_iff.mp hf
  refine x_qI b10 dX37_make_18 ?_
  refine w_aload_n dX37_make_19 rfl rfl ?_
  obtain ⟨a11, b12, hf⟩ := Option.bind_eq_some_iff.mp hf
  refine GX37_55 b12 dX37_make_20 rfl ?_
  refine w_iconst dX37_make_23 (v := 0) (by decide) ?_
  refine w_iconst dX37_make_24 (v := 2) (by decide) ?_
  obtain ⟨h13, b14, hf⟩ := Option.bind_eq_some_iff.mp hf
  refine x_qI b14 dX37_make_25 ?_
  refine w_aload_n dX37_make_26 rfl rfl ?_
  obtain ⟨a15, b16, hf⟩ := Option.bind_eq_some_iff.mp hf
  refine GX37_58 b16 dX37_make_27 rfl ?_
  refine w_iconst dX37_make_30 (v := 0) (by decide) ?_
  refine w_lconst dX37_make_31 (v := 0) (by decide) ?_
  obtain ⟨h17, b18, hf⟩ := Option.bind_eq_some_iff.mp hf
  refine x_qJ b18 dX37_make_32 ?_
  refine w_aload_n dX37_make_33 rfl rfl ?_
  obtain ⟨a19, b20, hf⟩ := Option.bind_eq_some_iff.mp hf
  refine GX37_65 b20 dX37_make_34 rfl ?_
  refine w_iconst dX37_make_37 (v := 0) (by decide) ?_
  refine w_iconst dX37_make_38 (v := 0) (by decide) ?_
  obtain ⟨h21, b22, hf⟩ := Option.bind_eq_some_iff.mp hf
  refine x_qZ b22 dX37_make_39 ?_
  refine w_aload_n dX37_make_40 rfl rfl ?_
  refine w_aload_n dX37_make_41 rfl rfl ?_
  obtain ⟨a23, b24, hf⟩ := Option.bind_eq_some_iff.mp hf
  refine GX37_34 b24 dX37_make_42 rfl ?_
  refine w_aload_n dX37_make_45 rfl rfl ?_
  obtain ⟨x25, b26, hf⟩ := Option.bind_eq_some_iff.mp hf
  refine GX37_122 b26 dX37_make_46 rfl ?_
  refine w_iconst dX37_make_49 (v := 1) (by decide) ?_
  refine w_icmp_ne 57 dX37_make_50 (by decide) (fun c27 => ?_) (fun c27 => ?_)
  · replace hf := (if_pos (show ¬ x25 = (1 : Int32) from c27)).symm.trans hf
    refine w_iconst dX37_make_57 (v := 1) (by decide) ?_
    exact (pX37_make_b58 hd hf).to ⟨rfl, trivial⟩
  · replace hf := (if_neg (show ¬ (¬ x25 = (1 : Int32)) from (fun z => z c27))).symm.trans hf
    refine w_iconst dX37_make_53 (v := 0) (by decide) ?_
    refine w_goto 58 dX37_make_54 (by decide) ?_
    exact (pX37_make_b58 hd hf).to ⟨rfl, trivial⟩
abbrev cX37_isLess : ByteArray := prog_38_method_21_code
def yX37_isLess : MethodName := ⟨RX37, "isLess", "(II)Z"⟩
def YX37_isLess : eY := (yX37_isLess, cX37_isLess, 3, (Option.some FieldType.boolean), [])
theorem mX37_isLess : e_mv YX37_isLess RX37 2 := ⟨q5862, qs387, q5863, by decide, by decide +kernel, (e_sig (by decide +kernel))⟩
theorem dX37_isLess_0 : decode cX37_isLess 0 = .ok (.aload_n 0, 1) := dc_42 (by decide +kernel)
theorem dX37_isLess_1 : decode cX37_isLess 1 = .ok (.getfield 58, 3) := dc_180 (a := 0) (b := 58) (n := 58) (by decide +kernel)
theorem dX37_isLess_4 : decode cX37_isLess 4 = .ok (.iload_n 1, 1) := dc_27 (by decide +kernel)
theorem dX37_isLess_5 : decode cX37_isLess 5 = .ok (.laload, 1) := dc_47 (by decide +kernel)
theorem dX37_isLess_6 : decode cX37_isLess 6 = .ok (.aload_n 0, 1) := dc_42 (by decide +kernel)
theorem dX37_isLess_7 : decode cX37_isLess 7 = .ok (.getfield 58, 3) := dc_180 (a := 0) (b := 58) (n := 58) (by decide +kernel)
theorem dX37_isLess_10 : decode cX37_isLess 10 = .ok (.iload_n 2, 1) := dc_28 (by decide +kernel)
theorem dX37_isLess_11 : decode cX37_isLess 11 = .ok (.laload, 1) := dc_47 (by decide +kernel)
theorem dX37_isLess_12 : decode cX37_isLess 12 = .ok (.lcmp, 1) := dc_148 (by decide +kernel)
theorem dX37_isLess_13 : decode cX37_isLess 13 = .ok (.ifCond .eq 25, 3) := dc_153 (a := 0) (b := 25) (v := 25) (by decide +kernel)
theorem dX37_isLess_16 : decode cX37_isLess 16 = .ok (.aload_n 0, 1) := dc_42 (by decide +kernel)
theorem dX37_isLess_17 : decode cX37_isLess 17 = .ok (.getfield 58, 3) := dc_180 (a := 0) (b := 58) (n := 58) (by decide +kernel)
theorem dX37_isLess_20 : decode cX37_isLess 20 = .ok (.iload_n 1, 1) := dc_27 (by decide +kernel)
theorem dX37_isLess_21 : decode cX37_isLess 21 = .ok (.laload, 1) := dc_47 (by decide +kernel)
theorem dX37_isLess_22 : decode cX37_isLess 22 = .ok (.aload_n 0, 1) := dc_42 (by decide +kernel)
theorem dX37_isLess_23 : decode cX37_isLess 23 = .ok (.getfield 58, 3) := dc_180 (a := 0) (b := 58) (n := 58) (by decide +kernel)
theorem dX37_isLess_26 : decode cX37_isLess 26 = .ok (.iload_n 2, 1) := dc_28 (by decide +kernel)
theorem dX37_isLess_27 : decode cX37_isLess 27 = .ok (.laload, 1) := dc_47 (by decide +kernel)
theorem dX37_isLess_28 : decode cX37_isLess 28 = .ok (.lcmp, 1) := dc_148 (by decide +kernel)
theorem dX37_isLess_29 : decode cX37_isLess 29 = .ok (.ifCond .ge 7, 3) := dc_156 (a := 0) (b := 7) (v := 7) (by decide +kernel)
theorem dX37_isLess_32 : decode cX37_isLess 32 = .ok (.iconst 1, 1) := dc_4 (by decide +kernel)
theorem dX37_isLess_33 : decode cX37_isLess 33 = .ok (.goto 4, 3) := dc_167 (a := 0) (b := 4) (v := 4) (by decide +kernel)
theorem dX37_isLess_36 : decode cX37_isLess 36 = .ok (.iconst 0, 1) := dc_3 (by decide +kernel)
theorem dX37_isLess_37 : decode cX37_isLess 37 = .ok (.ireturn, 1) := dc_172 (by decide +kernel)
theorem dX37_isLess_38 : decode cX37_isLess 38 = .ok (.aload_n 0, 1) := dc_42 (by decide +kernel)
theorem dX37_isLess_39 : decode cX37_isLess 39 = .ok (.getfield 52, 3) := dc_180 (a := 0) (b := 52) (n := 52) (by decide +kernel)
theorem dX37_isLess_42 : decode cX37_isLess 42 = .ok (.iload_n 1, 1) := dc_27 (by decide +kernel)
theorem dX37_isLess_43 : decode cX37_isLess 43 = .ok (.iaload, 1) := dc_46 (by decide +kernel)
theorem dX37_isLess_44 : decode cX37_isLess 44 = .ok (.aload_n 0, 1) := dc_42 (by decide +kernel)
theorem dX37_isLess_45 : decode cX37_isLess 45 = .ok (.getfield 52, 3) := dc_180 (a := 0) (b := 52) (n := 52) (by decide +kernel)
theorem dX37_isLess_48 : decode cX37_isLess 48 = .ok (.iload_n 2, 1) := dc_28 (by decide +kernel)
theorem dX37_isLess_49 : decode cX37_isLess 49 = .ok (.iaload, 1) := dc_46 (by decide +kernel)
theorem dX37_isLess_50 : decode cX37_isLess 50 = .ok (.if_icmp .lt 33, 3) := dc_161 (a := 0) (b := 33) (v := 33) (by decide +kernel)
theorem dX37_isLess_53 : decode cX37_isLess 53 = .ok (.aload_n 0, 1) := dc_42 (by decide +kernel)
theorem dX37_isLess_54 : decode cX37_isLess 54 = .ok (.getfield 52, 3) := dc_180 (a := 0) (b := 52) (n := 52) (by decide +kernel)
theorem dX37_isLess_57 : decode cX37_isLess 57 = .ok (.iload_n 1, 1) := dc_27 (by decide +kernel)
theorem dX37_isLess_58 : decode cX37_isLess 58 = .ok (.iaload, 1) := dc_46 (by decide +kernel)
theorem dX37_isLess_59 : decode cX37_isLess 59 = .ok (.aload_n 0, 1) := dc_42 (by decide +kernel)
theorem dX37_isLess_60 : decode cX37_isLess 60 = .ok (.getfield 52, 3) := dc_180 (a := 0) (b := 52) (n := 52) (by decide +kernel)
theorem dX37_isLess_63 : decode cX37_isLess 63 = .ok (.iload_n 2, 1) := dc_28 (by decide +kernel)
theorem dX37_isLess_64 : decode cX37_isLess 64 = .ok (.iaload, 1) := dc_46 (by decide +kernel)
theorem dX37_isLess_65 : decode cX37_isLess 65 = .ok (.if_icmp .ne 22, 3) := dc_160 (a := 0) (b := 22) (v := 22) (by decide +kernel)
theorem dX37_isLess_68 : decode cX37_isLess 68 = .ok (.aload_n 0, 1) := dc_42 (by decide +kernel)
theorem dX37_isLess_69 : decode cX37_isLess 69 = .ok (.getfield 55, 3) := dc_180 (a := 0) (b := 55) (n := 55) (by decide +kernel)
theorem dX37_isLess_72 : decode cX37_isLess 72 = .ok (.iload_n 1, 1) := dc_27 (by decide +kernel)
theorem dX37_isLess_73 : decode cX37_isLess 73 = .ok (.iaload, 1) := dc_46 (by decide +kernel)
theorem dX37_isLess_74 : decode cX37_isLess 74 = .ok (.aload_n 0, 1) := dc_42 (by decide +kernel)
theorem dX37_isLess_75 : decode cX37_isLess 75 = .ok (.getfield 55, 3) := dc_180 (a := 0) (b := 55) (n := 55) (by decide +kernel)
theorem dX37_isLess_78 : decode cX37_isLess 78 = .ok (.iload_n 2, 1) := dc_28 (by decide +kernel)
theorem dX37_isLess_79 : decode cX37_isLess 79 = .ok (.iaload, 1) := dc_46 (by decide +kernel)
theorem dX37_isLess_80 : decode cX37_isLess 80 = .ok (.if_icmp .ge 7, 3) := dc_162 (a := 0) (b := 7) (v := 7) (by decide +kernel)
theorem dX37_isLess_83 : decode cX37_isLess 83 = .ok (.iconst 1, 1) := dc_4 (by decide +kernel)
theorem dX37_isLess_84 : decode cX37_isLess 84 = .ok (.goto 4, 3) := dc_167 (a := 0) (b := 4) (v := 4) (by decide +kernel)
theorem dX37_isLess_87 : decode cX37_isLess 87 = .ok (.iconst 0, 1) := dc_3 (by decide +kernel)
theorem dX37_isLess_88 : decode cX37_isLess 88 = .ok (.ireturn, 1) := dc_172 (by decide +kernel)
def fX37_isLess_b37 (s0 : Int32) (h : eH) : Option (Int32 × eH) :=
  z_r s0 (s0, h)
theorem pX37_isLess_b37 {w : eW} {d : Nat} (hd : 0 ≤ d) {s0 : Int32} {h : eH} {q} (hf : fX37_isLess_b37 s0 h = some q) : wp w d YX37_isLess 37 [none, none, none] [.int s0] h (e_is (e_rn c_I q)) := by
  unfold fX37_isLess_b37 at hf
  obtain ⟨b1, rfl⟩ := z_r_some hf
  exact w_iret dX37_isLess_37 rfl b1 rfl
def fX37_isLess_b88 (s0 : Int32) (h : eH) : Option (Int32 × eH) :=
  z_r s0 (s0, h)
theorem pX37_isLess_b88 {w : eW} {d : Nat} (hd : 0 ≤ d) {s0 : Int32} {h : eH} {q} (hf : fX37_isLess_b88 s0 h = some q) : wp w d YX37_isLess 88 [none, none, none] [.int s0] h (e_is (e_rn c_I q)) := by
  unfold fX37_isLess_b88 at hf
  obtain ⟨b1, rfl⟩ := z_r_some hf
  exact w_iret dX37_isLess_88 rfl b1 rfl
def fX37_isLess_b83  (h : eH) : Option (Int32 × eH) :=
  fX37_isLess_b88 (1 : Int32) h
theorem pX37_isLess_b83 {w : eW} {d : Nat} (hd : 0 ≤ d)  {h : eH} {q} (hf : fX37_isLess_b83  h = some q) : wp w d YX37_isLess 83 [none, none, none] [] h (e_is (e_rn c_I q)) := by
  unfold fX37_isLess_b83 at hf
  refine w_iconst dX37_isLess_83 (v := 1) (by decide) ?_
  refine w_goto 88 dX37_isLess_84 (by decide) ?_
  exact (pX37_isLess_b88 hd hf).to trivial
def fX37_isLess_b87  (h : eH) : Option (Int32 × eH) :=
  fX37_isLess_b88 (0 : Int32) h
theorem pX37_isLess_b87 {w : eW} {d : Nat} (hd : 0 ≤ d)  {h : eH} {q} (hf : fX37_isLess_b87  h = some q) : wp w d YX37_isLess 87 [none, none, none] [] h (e_is (e_rn c_I q)) := by
  unfold fX37_isLess_b87 at hf
  refine w_iconst dX37_isLess_87 (v := 0) (by decide) ?_
  exact (pX37_isLess_b88 hd hf).to trivial
def fX37_isLess (this : Nat) (p0 : Int32) (p1 : Int32) (h : eH) : Option (Int32 × eH) :=
  (g_A 36 h this 26).bind fun a1 =>
  (r_J h a1 p0).bind fun x3 =>
  (g_A 36 h this 26).bind fun a5 =>
  (r_J h a5 p1).bind fun x7 =>
  if (lg_cmp x3 x7) = 0 then
    (g_A 36 h this 24).bind fun a10 =>
    (r_I 100 h a10 p0).bind fun x12 =>
    (g_A 36 h this 24).bind fun a14 =>
    (r_I 100 h a14 p1).bind fun x16 =>
    if x12 < x16 then
      fX37_isLess_b83 h
    else
      (g_A 36 h this 24).bind fun a19 =>
      (r_I 100 h a19 p0).bind fun x21 =>
      (g_A 36 h this 24).bind fun a23 =>
      (r_I 100 h a23 p1).bind fun x25 =>
      if ¬ x21 = x25 then
        fX37_isLess_b87 h
      else
        (g_A 36 h this 25).bind fun a28 =>
        (r_I 100 h a28 p0).bind fun x30 =>
        (g_A 36 h this 25).bind fun a32 =>
        (r_I 100 h a32 p1).bind fun x34 =>
        if x34 ≤ x30 then
          fX37_isLess_b87 h
        else
          fX37_isLess_b83 h
  else
    (g_A 36 h this 26).bind fun a37 =>
    (r_J h a37 p0).bind fun x39 =>
    (g_A 36 h this 26).bind fun a41 =>
    (r_J h a41 p1).bind fun x43 =>
    if 0 ≤ (lg_cmp x39 x43) then
      fX37_isLess_b37 (0 : Int32) h
    else
      fX37_isLess_b37 (1 : Int32) h
theorem pX37_isLess {w : eW} {d : Nat} (hd : 0 ≤ d) {this : Nat} {p0 : Int32} {p1 : Int32} {h : eH} {q} (hf : fX37_isLess this p0 p1 h = some q) : wm w d YX37_isLess [.ref this, .int p0, .int p1] h (e_is (e_rn c_I q)) := by
  show wp w d YX37_isLess 0 [some (.ref this), some (.int p0), some (.int p1)] [] h _
  unfold fX37_isLess at hf
  refine w_aload_n dX37_isLess_0 rfl rfl ?_
  obtain ⟨a1, b2, hf⟩ := Option.bind_eq_some_iff.mp hf
  refine GX37_58 b2 dX37_isLess_1 rfl ?_
  refine w_iload_n dX37_isLess_4 rfl rfl ?_
  obtain ⟨x3, b4, hf⟩ := Option.bind_eq_some_iff.mp hf
  refine x_rJ b4 dX37_isLess_5 ?_
  refine w_aload_n dX37_isLess_6 rfl rfl ?_
  obtain ⟨a5, b6, hf⟩ := Option.bind_eq_some_iff.mp hf
  refine GX37_58 b6 dX37_isLess_7 rfl ?_
  refine w_iload_n dX37_isLess_10 rfl rfl ?_
  obtain ⟨x7, b8, hf⟩ := Option.bind_eq_some_iff.mp hf
  refine x_rJ b8 dX37_isLess_11 ?_
  refine w_lcmp dX37_isLess_12 ?_
  refine w_if_eq 38 dX37_isLess_13 (by decide) (fun c9 => ?_) (fun c9 => ?_)
  · replace hf := (if_pos (show (lg_cmp x3 x7) = 0 from c9)).symm.trans hf
    refine w_aload_n dX37_isLess_38 rfl rfl ?_
    obtain ⟨a10, b11, hf⟩ := Option.bind_eq_some_iff.mp hf
    refine GX37_52 b11 dX37_isLess_39 rfl ?_
    refine w_iload_n dX37_isLess_42 rfl rfl ?_
    obtain ⟨x12, b13, hf⟩ := Option.bind_eq_some_iff.mp hf
    refine x_rI b13 dX37_isLess_43 ?_
    refine w_aload_n dX37_isLess_44 rfl rfl ?_
    obtain ⟨a14, b15, hf⟩ := Option.bind_eq_some_iff.mp hf
    refine GX37_52 b15 dX37_isLess_45 rfl ?_
    refine w_iload_n dX37_isLess_48 rfl rfl ?_
    obtain ⟨x16, b17, hf⟩ := Option.bind_eq_some_iff.mp hf
    refine x_rI b17 dX37_isLess_49 ?_
    refine w_icmp_lt 83 dX37_isLess_50 (by decide) (fun c18 => ?_) (fun c18 => ?_)
    · replace hf := (if_pos (show x12 < x16 from c18)).symm.trans hf
      exact (pX37_isLess_b83 hd hf).to trivial
    · replace hf := (if_neg (show ¬ (x12 < x16) from c18)).symm.trans hf
      refine w_aload_n dX37_isLess_53 rfl rfl ?_
      obtain ⟨a19, b20, hf⟩ := Option.bind_eq_some_iff.mp hf
      refine GX37_52 b20 dX37_isLess_54 rfl ?_
      refine w_iload_n dX37_isLess_57 rfl rfl ?_
      obtain ⟨x21, b22, hf⟩ := Option.bind_eq_some_iff.mp hf
      refine x_rI b22 dX37_isLess_58 ?_
      refine w_aload_n dX37_isLess_59 rfl rfl ?_
      obtain ⟨a23, b24, hf⟩ := Option.bind_eq_some_iff.mp hf
      refine GX37_52 b24 dX37_isLess_60 rfl ?_
      refine w_iload_n dX37_isLess_63 rfl rfl ?_
      obtain ⟨x25, b26, hf⟩ := Option.bind_eq_some_iff.mp hf
      refine x_rI b26 dX37_isLess_64 ?_
      refine w_icmp_ne 87 dX37_isLess_65 (by decide) (fun c27 => ?_) (fun c27 => ?_)
      · replace hf := (if_pos (show ¬ x21 = x25 from c27)).symm.trans hf
        exact (pX37_isLess_b87 hd hf).to trivial
      · replace hf := (if_neg (show ¬ (¬ x21 = x25) from (fun z => z c27))).symm.trans hf
        refine w_aload_n dX37_isLess_68 rfl rfl ?_
        obtain ⟨a28, b29, hf⟩ := Option.bind_eq_some_iff.mp hf
        refine GX37_55 b29 dX37_isLess_69 rfl ?_
        refine w_iload_n dX37_isLess_72 rfl rfl ?_
        obtain ⟨x30, b31, hf⟩ := Option.bind_eq_some_iff.mp hf
        refine x_rI b31 dX37_isLess_73 ?_
        refine w_aload_n dX37_isLess_74 rfl rfl ?_
        obtain ⟨a32, b33, hf⟩ := Option.bind_eq_some_iff.mp hf
        refine GX37_55 b33 dX37_isLess_75 rfl ?_
        refine w_iload_n dX37_isLess_78 rfl rfl ?_
        obtain ⟨x34, b35, hf⟩ := Option.bind_eq_some_iff.mp hf
        refine x_rI b35 dX37_isLess_79 ?_
        refine w_icmp_ge 87 dX37_isLess_80 (by decide) (fun c36 => ?_) (fun c36 => ?_)
        · replace hf := (if_pos (show x34 ≤ x30 from c36)).symm.trans hf
          exact (pX37_isLess_b87 hd hf).to trivial
        · replace hf := (if_neg (show ¬ (x34 ≤ x30) from c36)).symm.trans hf
          exact (pX37_isLess_b83 hd hf).to trivial
  · replace hf := (if_neg (show ¬ ((lg_cmp x3 x7) = 0) from c9)).symm.trans hf
    refine w_aload_n dX37_isLess_16 rfl rfl ?_
    obtain ⟨a37, b38, hf⟩ := Option.bind_eq_some_iff.mp hf
    refine GX37_58 b38 dX37_isLess_17 rfl ?_
    refine w_iload_n dX37_isLess_20 rfl rfl ?_
    obtain ⟨x39, b40, hf⟩ := Option.bind_eq_some_iff.mp hf
    refine x_rJ b40 dX37_isLess_21 ?_
    refine w_aload_n dX37_isLess_22 rfl rfl ?_
    obtain ⟨a41, b42, hf⟩ := Option.bind_eq_some_iff.mp hf
    refine GX37_58 b42 dX37_isLess_23 rfl ?_
    refine w_iload_n dX37_isLess_26 rfl rfl ?_
    obtain ⟨x43, b44, hf⟩ := Option.bind_eq_some_iff.mp hf
    refine x_rJ b44 dX37_isLess_27 ?_
    refine w_lcmp dX37_isLess_28 ?_
    refine w_if_ge 36 dX37_isLess_29 (by decide) (fun c45 => ?_) (fun c45 => ?_)
    · replace hf := (if_pos (show 0 ≤ (lg_cmp x39 x43) from c45)).symm.trans hf
      refine w_iconst dX37_isLess_36 (v := 0) (by decide) ?_
      exact (pX37_isLess_b37 hd hf).to trivial
    · replace hf := (if_neg (show ¬ (0 ≤ (lg_cmp x39 x43)) from c45)).symm.trans hf
      refine w_iconst dX37_isLess_32 (v := 1) (by decide) ?_
      refine w_goto 37 dX37_isLess_33 (by decide) ?_
      exact (pX37_isLess_b37 hd hf).to trivial
abbrev cX37_apart : ByteArray := prog_38_method_22_code
def yX37_apart : MethodName := ⟨RX37, "apart", "(II)I"⟩
def YX37_apart : eY := (yX37_apart, cX37_apart, 2, (Option.some FieldType.int), [])
theorem mX37_apart : e_ms YX37_apart 2 := ⟨q5865, q468, q5866, by decide, by decide +kernel, (e_sig (by decide +kernel))⟩
theorem dX37_apart_0 : decode cX37_apart 0 = .ok (.iload_n 0, 1) := dc_26 (by decide +kernel)
theorem dX37_apart_1 : decode cX37_apart 1 = .ok (.iload_n 1, 1) := dc_27 (by decide +kernel)
theorem dX37_apart_2 : decode cX37_apart 2 = .ok (.if_icmp .le 9, 3) := dc_164 (a := 0) (b := 9) (v := 9) (by decide +kernel)
theorem dX37_apart_5 : decode cX37_apart 5 = .ok (.iload_n 0, 1) := dc_26 (by decide +kernel)
theorem dX37_apart_6 : decode cX37_apart 6 = .ok (.iload_n 1, 1) := dc_27 (by decide +kernel)
theorem dX37_apart_7 : decode cX37_apart 7 = .ok (.isub, 1) := dc_100 (by decide +kernel)
theorem dX37_apart_8 : decode cX37_apart 8 = .ok (.goto 6, 3) := dc_167 (a := 0) (b := 6) (v := 6) (by decide +kernel)
theorem dX37_apart_11 : decode cX37_apart 11 = .ok (.iload_n 1, 1) := dc_27 (by decide +kernel)
theorem dX37_apart_12 : decode cX37_apart 12 = .ok (.iload_n 0, 1) := dc_26 (by decide +kernel)
theorem dX37_apart_13 : decode cX37_apart 13 = .ok (.isub, 1) := dc_100 (by decide +kernel)
theorem dX37_apart_14 : decode cX37_apart 14 = .ok (.ireturn, 1) := dc_172 (by decide +kernel)
def fX37_apart_b14 (s0 : Int32) (h : eH) : Option (Int32 × eH) :=
  some (s0, h)
theorem pX37_apart_b14 {w : eW} {d : Nat} (hd : 0 ≤ d) {s0 : Int32} {h : eH} {q} (hf : fX37_apart_b14 s0 h = some q) : wp w d YX37_apart 14 [none, none] [.int s0] h (e_is (e_rn c_I q)) := by
  unfold fX37_apart_b14 at hf
  cases hf
  exact w_iret dX37_apart_14 rfl rfl rfl
def fX37_apart (p0 : Int32) (p1 : Int32) (h : eH) : Option (Int32 × eH) :=
  if p0 ≤ p1 then
    fX37_apart_b14 (p1 - p0) h
  else
    fX37_apart_b14 (p0 - p1) h
theorem pX37_apart {w : eW} {d : Nat} (hd : 0 ≤ d) {p0 : Int32} {p1 : Int32} {h : eH} {q} (hf : fX37_apart p0 p1 h = some q) : wm w d YX37_apart [.int p0, .int p1] h (e_is (e_rn c_I q)) := by
  show wp w d YX37_apart 0 [some (.int p0), some (.int p1)] [] h _
  unfold fX37_apart at hf
  refine w_iload_n dX37_apart_0 rfl rfl ?_
  refine w_iload_n dX37_apart_1 rfl rfl ?_
  refine w_icmp_le 11 dX37_apart_2 (by decide) (fun c1 => ?_) (fun c1 => ?_)
  · replace hf := (if_pos (show p0 ≤ p1 from c1)).symm.trans hf
    refine w_iload_n dX37_apart_11 rfl rfl ?_
    refine w_iload_n dX37_apart_12 rfl rfl ?_
    refine w_isub dX37_apart_13 ?_
    exact (pX37_apart_b14 hd hf).to trivial
  · replace hf := (if_neg (show ¬ (p0 ≤ p1) from c1)).symm.trans hf
    refine w_iload_n dX37_apart_5 rfl rfl ?_
    refine w_iload_n dX37_apart_6 rfl rfl ?_
    refine w_isub dX37_apart_7 ?_
    refine w_goto 14 dX37_apart_8 (by decide) ?_
    exact (pX37_apart_b14 hd hf).to trivial
