set_option maxRecDepth 100000
set_option maxHeartbeats 4000000
theorem q4394 : (Jvm.Cond.fieldLinkNest "TypeHouseModel" (1125 : Nat) "TypeHouseModel$Device" "counts" "[I" "TypeHouseModel") ∈ lw_tbl := lw_at lw_m17 129 rfl
theorem q4399 : (Jvm.Cond.fieldLink "TypeHouseModel$Device" (69 : Nat) "TypeHouseModel$Device" "pages" "I") ∈ lw_all := lw_g (lw_at lw_m17 134 rfl) rfl
theorem q4401 : (Jvm.Cond.fieldLink "TypeHouseModel$Device" (72 : Nat) "TypeHouseModel$Device" "greatestV" "I") ∈ lw_all := lw_g (lw_at lw_m17 136 rfl) rfl
theorem q4402 : (Jvm.Cond.fieldLink "TypeHouseModel$Device" (75 : Nat) "TypeHouseModel$Device" "greatestH" "I") ∈ lw_all := lw_g (lw_at lw_m17 137 rfl) rfl
theorem q4403 : (Jvm.Cond.fieldLink "TypeHouseModel$Device" (78 : Nat) "TypeHouseModel$Device" "toldCount" "I") ∈ lw_all := lw_g (lw_at lw_m17 138 rfl) rfl
theorem q4406 : (Jvm.Cond.fieldLinkNest "TypeHouseModel" (1109 : Nat) "TypeHouseModel$Device" "marks" "I" "TypeHouseModel") ∈ lw_tbl := lw_at lw_m17 141 rfl
theorem q4408 : (Jvm.Cond.fieldLinkNest "TypeHouseModel" (1110 : Nat) "TypeHouseModel$Device" "fonts" "[I" "TypeHouseModel") ∈ lw_tbl := lw_at lw_m17 143 rfl
theorem q4410 : (Jvm.Cond.fieldLinkNest "TypeHouseModel" (1112 : Nat) "TypeHouseModel$Device" "codes" "[I" "TypeHouseModel") ∈ lw_tbl := lw_at lw_m17 145 rfl
theorem q4412 : (Jvm.Cond.fieldLinkNest "TypeHouseModel" (1115 : Nat) "TypeHouseModel$Device" "xs" "[I" "TypeHouseModel") ∈ lw_tbl := lw_at lw_m17 147 rfl
theorem q4414 : (Jvm.Cond.fieldLinkNest "TypeHouseModel" (1118 : Nat) "TypeHouseModel$Device" "ys" "[I" "TypeHouseModel") ∈ lw_tbl := lw_at lw_m17 149 rfl
theorem q4416 : (Jvm.Cond.fieldLinkNest "TypeHouseModel" (1121 : Nat) "TypeHouseModel$Device" "heights" "[I" "TypeHouseModel") ∈ lw_tbl := lw_at lw_m17 151 rfl
theorem q4418 : (Jvm.Cond.fieldLinkNest "TypeHouseModel" (1124 : Nat) "TypeHouseModel$Device" "wide" "[I" "TypeHouseModel") ∈ lw_tbl := lw_at lw_m17 153 rfl
theorem q5072 : (Jvm.Cond.methodLink "TypeHouseModel$Device" (102 : Nat) ({ cls := "TypeHouseModel$Device", name := "layNumber", desc := "(II)V" } : Jvm.MethodName)) ∈ lw_all := lw_g (lw_at lw_m20 87 rfl) rfl
theorem q5205 : (Jvm.Cond.methodLink "TypeHouseModel" (477 : Nat) ({ cls := "TypeHouseModel", name := "setAt", desc := "(IIZ)V" } : Jvm.MethodName)) ∈ lw_all := lw_g (lw_at lw_m20 220 rfl) rfl
theorem q5207 : (Jvm.Cond.instanceMethod ({ cls := "TypeHouseModel", name := "setAt", desc := "(IIZ)V" } : Jvm.MethodName)) ∈ lw_all := lw_g (lw_at lw_m20 222 rfl) rfl
theorem q5208 : (Jvm.Cond.code ({ cls := "TypeHouseModel", name := "setAt", desc := "(IIZ)V" } : Jvm.MethodName) prog_37_method_13_code (5 : Nat) (Option.none : Option Jvm.ClassFile.FieldType)) ∈ lw_all := lw_g (lw_at lw_m20 223 rfl) rfl
theorem q5417 : (Jvm.Cond.methodLink "TypeHouseModel" (587 : Nat) ({ cls := "TypeHouseModel", name := "mode", desc := "()I" } : Jvm.MethodName)) ∈ lw_all := lw_g (lw_at lw_m21 192 rfl) rfl
theorem q5451 : (Jvm.Cond.instanceMethod ({ cls := "TypeHouseModel", name := "isVertical", desc := "()Z" } : Jvm.MethodName)) ∈ lw_all := lw_g (lw_at lw_m21 226 rfl) rfl
theorem q5452 : (Jvm.Cond.code ({ cls := "TypeHouseModel", name := "isVertical", desc := "()Z" } : Jvm.MethodName) prog_37_method_104_code (1 : Nat) (Option.some Jvm.ClassFile.FieldType.boolean)) ∈ lw_all := lw_g (lw_at lw_m21 227 rfl) rfl
theorem q5459 : (Jvm.Cond.instanceMethod ({ cls := "TypeHouseModel", name := "glueOf", desc := "(I)V" } : Jvm.MethodName)) ∈ lw_all := lw_g (lw_at lw_m21 234 rfl) rfl
theorem q5460 : (Jvm.Cond.code ({ cls := "TypeHouseModel", name := "glueOf", desc := "(I)V" } : Jvm.MethodName) prog_37_method_109_code (3 : Nat) (Option.none : Option Jvm.ClassFile.FieldType)) ∈ lw_all := lw_g (lw_at lw_m21 235 rfl) rfl
theorem q5461 : (Jvm.Cond.methodLink "TypeHouseModel" (802 : Nat) ({ cls := "TypeHouseModel", name := "glueItem", desc := "(IIII)V" } : Jvm.MethodName)) ∈ lw_all := lw_g (lw_at lw_m21 236 rfl) rfl
theorem q5463 : (Jvm.Cond.instanceMethod ({ cls := "TypeHouseModel", name := "glueItem", desc := "(IIII)V" } : Jvm.MethodName)) ∈ lw_all := lw_g (lw_at lw_m21 238 rfl) rfl
theorem q5464 : (Jvm.Cond.code ({ cls := "TypeHouseModel", name := "glueItem", desc := "(IIII)V" } : Jvm.MethodName) prog_37_method_108_code (5 : Nat) (Option.none : Option Jvm.ClassFile.FieldType)) ∈ lw_all := lw_g (lw_at lw_m21 239 rfl) rfl
theorem q5465 : (Jvm.Cond.methodLink "TypeHouseModel" (794 : Nat) ({ cls := "TypeHouseModel", name := "outer", desc := "(IIIIIII)V" } : Jvm.MethodName)) ∈ lw_all := lw_g (lw_at lw_m22 0 rfl) rfl
theorem q5467 : (Jvm.Cond.instanceMethod ({ cls := "TypeHouseModel", name := "outer", desc := "(IIIIIII)V" } : Jvm.MethodName)) ∈ lw_all := lw_g (lw_at lw_m22 2 rfl) rfl
theorem q5468 : (Jvm.Cond.code ({ cls := "TypeHouseModel", name := "outer", desc := "(IIIIIII)V" } : Jvm.MethodName) prog_37_method_146_code (8 : Nat) (Option.none : Option Jvm.ClassFile.FieldType)) ∈ lw_all := lw_g (lw_at lw_m22 3 rfl) rfl
theorem q5469 : (Jvm.Cond.methodLink "TypeHouseModel" (1025 : Nat) ({ cls := "TypeHouseModel", name := "goOn", desc := "()V" } : Jvm.MethodName)) ∈ lw_all := lw_g (lw_at lw_m22 4 rfl) rfl
theorem q5471 : (Jvm.Cond.instanceMethod ({ cls := "TypeHouseModel", name := "goOn", desc := "()V" } : Jvm.MethodName)) ∈ lw_all := lw_g (lw_at lw_m22 6 rfl) rfl
theorem q5472 : (Jvm.Cond.code ({ cls := "TypeHouseModel", name := "goOn", desc := "()V" } : Jvm.MethodName) prog_37_method_155_code (1 : Nat) (Option.none : Option Jvm.ClassFile.FieldType)) ∈ lw_all := lw_g (lw_at lw_m22 7 rfl) rfl
theorem q5473 : (Jvm.Cond.methodLink "TypeHouseModel" (1068 : Nat) ({ cls := "TypeHouseModel", name := "openPage", desc := "()V" } : Jvm.MethodName)) ∈ lw_all := lw_g (lw_at lw_m22 8 rfl) rfl
theorem q5477 : (Jvm.Cond.methodLink "TypeHouseModel" (1071 : Nat) ({ cls := "TypeHouseModel", name := "breaks", desc := "()Z" } : Jvm.MethodName)) ∈ lw_all := lw_g (lw_at lw_m22 12 rfl) rfl
theorem q5514 : (Jvm.Cond.methodLink "TypeHouseModel" (1074 : Nat) ({ cls := "TypeHouseModel", name := "ship", desc := "()V" } : Jvm.MethodName)) ∈ lw_all := lw_g (lw_at lw_m22 49 rfl) rfl
theorem q5516 : (Jvm.Cond.instanceMethod ({ cls := "TypeHouseModel", name := "ship", desc := "()V" } : Jvm.MethodName)) ∈ lw_all := lw_g (lw_at lw_m22 51 rfl) rfl
theorem q5517 : (Jvm.Cond.code ({ cls := "TypeHouseModel", name := "ship", desc := "()V" } : Jvm.MethodName) prog_37_method_163_code (5 : Nat) (Option.none : Option Jvm.ClassFile.FieldType)) ∈ lw_all := lw_g (lw_at lw_m22 52 rfl) rfl
theorem q5518 : (Jvm.Cond.constantLong "TypeHouseModel" (1101 : Nat) (20000 : Int64)) ∈ lw_all := lw_g (lw_at lw_m22 53 rfl) rfl
theorem q5519 : (Jvm.Cond.methodLink "TypeHouseModel" (1103 : Nat) ({ cls := "TypeHouseModel", name := "layPage", desc := "()Z" } : Jvm.MethodName)) ∈ lw_all := lw_g (lw_at lw_m22 54 rfl) rfl
theorem q5546 : (Jvm.Cond.methodLink "TypeHouseModel" (994 : Nat) ({ cls := "TypeHouseModel", name := "add", desc := "([IIZ)V" } : Jvm.MethodName)) ∈ lw_all := lw_g (lw_at lw_m22 81 rfl) rfl
theorem q5586 : (Jvm.Cond.methodLink "TypeHouseModel" (1106 : Nat) ({ cls := "TypeHouseModel", name := "areNear", desc := "()Z" } : Jvm.MethodName)) ∈ lw_all := lw_g (lw_at lw_m22 121 rfl) rfl
theorem q5595 : (Jvm.Cond.methodLink "TypeHouseModel" (907 : Nat) ({ cls := "TypeHouseModel", name := "counter", desc := "(I)I" } : Jvm.MethodName)) ∈ lw_all := lw_g (lw_at lw_m22 130 rfl) rfl
theorem q5599 : (Jvm.Cond.methodLink "TypeHouseModel" (1128 : Nat) ({ cls := "TypeHouseModel$Device", name := "fits", desc := "()Z" } : Jvm.MethodName)) ∈ lw_all := lw_g (lw_at lw_m22 134 rfl) rfl
theorem q5600 : (Jvm.Cond.instanceMethod ({ cls := "TypeHouseModel$Device", name := "fits", desc := "()Z" } : Jvm.MethodName)) ∈ lw_all := lw_g (lw_at lw_m22 135 rfl) rfl
theorem q5601 : (Jvm.Cond.selects "TypeHouseModel$Device" ({ cls := "TypeHouseModel$Device", name := "fits", desc := "()Z" } : Jvm.MethodName) ({ cls := "TypeHouseModel$Device", name := "fits", desc := "()Z" } : Jvm.MethodName)) ∈ lw_all := lw_g (lw_at lw_m22 136 rfl) rfl
theorem q5602 : (Jvm.Cond.code ({ cls := "TypeHouseModel$Device", name := "fits", desc := "()Z" } : Jvm.MethodName) prog_39_method_15_code (5 : Nat) (Option.some Jvm.ClassFile.FieldType.boolean)) ∈ lw_all := lw_g (lw_at lw_m22 137 rfl) rfl
theorem q5603 : (Jvm.Cond.methodLink "TypeHouseModel$Device" (123 : Nat) ({ cls := "TypeHouseModel$Device", name := "findMoves", desc := "()V" } : Jvm.MethodName)) ∈ lw_all := lw_g (lw_at lw_m22 138 rfl) rfl
theorem q5607 : (Jvm.Cond.methodLink "TypeHouseModel$Device" (126 : Nat) ({ cls := "TypeHouseModel$Device", name := "writePage", desc := "()V" } : Jvm.MethodName)) ∈ lw_all := lw_g (lw_at lw_m22 142 rfl) rfl
theorem q5609 : (Jvm.Cond.instanceMethod ({ cls := "TypeHouseModel$Device", name := "writePage", desc := "()V" } : Jvm.MethodName)) ∈ lw_all := lw_g (lw_at lw_m22 144 rfl) rfl
theorem q5610 : (Jvm.Cond.code ({ cls := "TypeHouseModel$Device", name := "writePage", desc := "()V" } : Jvm.MethodName) prog_39_method_14_code (4 : Nat) (Option.none : Option Jvm.ClassFile.FieldType)) ∈ lw_all := lw_g (lw_at lw_m22 145 rfl) rfl
theorem q5611 : (Jvm.Cond.methodLink "TypeHouseModel$Device" (115 : Nat) ({ cls := "TypeHouseModel$Device", name := "move", desc := "([IIII)V" } : Jvm.MethodName)) ∈ lw_all := lw_g (lw_at lw_m22 146 rfl) rfl
theorem q5613 : (Jvm.Cond.instanceMethod ({ cls := "TypeHouseModel$Device", name := "move", desc := "([IIII)V" } : Jvm.MethodName)) ∈ lw_all := lw_g (lw_at lw_m22 148 rfl) rfl
theorem q5614 : (Jvm.Cond.code ({ cls := "TypeHouseModel$Device", name := "move", desc := "([IIII)V" } : Jvm.MethodName) prog_39_method_10_code (8 : Nat) (Option.none : Option Jvm.ClassFile.FieldType)) ∈ lw_all := lw_g (lw_at lw_m22 149 rfl) rfl
theorem q5615 : (Jvm.Cond.methodLink "TypeHouseModel$Device" (94 : Nat) ({ cls := "TypeHouseModel$Device", name := "bytesOf", desc := "(I)I" } : Jvm.MethodName)) ∈ lw_all := lw_g (lw_at lw_m22 150 rfl) rfl
theorem q5621 : (Jvm.Cond.methodLink "TypeHouseModel$Device" (98 : Nat) ({ cls := "TypeHouseModel$Device", name := "comes", desc := "([III)Z" } : Jvm.MethodName)) ∈ lw_all := lw_g (lw_at lw_m22 156 rfl) rfl
theorem q5625 : (Jvm.Cond.methodLink "TypeHouseModel$Device" (119 : Nat) ({ cls := "TypeHouseModel$Device", name := "character", desc := "(III)V" } : Jvm.MethodName)) ∈ lw_all := lw_g (lw_at lw_m22 160 rfl) rfl
theorem q5627 : (Jvm.Cond.instanceMethod ({ cls := "TypeHouseModel$Device", name := "character", desc := "(III)V" } : Jvm.MethodName)) ∈ lw_all := lw_g (lw_at lw_m22 162 rfl) rfl
theorem q5628 : (Jvm.Cond.code ({ cls := "TypeHouseModel$Device", name := "character", desc := "(III)V" } : Jvm.MethodName) prog_39_method_13_code (4 : Nat) (Option.none : Option Jvm.ClassFile.FieldType)) ∈ lw_all := lw_g (lw_at lw_m22 163 rfl) rfl
theorem q5629 : (Jvm.Cond.methodLink "TypeHouseModel$Device" (108 : Nat) ({ cls := "TypeHouseModel$Device", name := "isTold", desc := "(I)Z" } : Jvm.MethodName)) ∈ lw_all := lw_g (lw_at lw_m22 164 rfl) rfl
theorem q5631 : (Jvm.Cond.instanceMethod ({ cls := "TypeHouseModel$Device", name := "isTold", desc := "(I)Z" } : Jvm.MethodName)) ∈ lw_all := lw_g (lw_at lw_m22 166 rfl) rfl
theorem q5632 : (Jvm.Cond.code ({ cls := "TypeHouseModel$Device", name := "isTold", desc := "(I)Z" } : Jvm.MethodName) prog_39_method_4_code (4 : Nat) (Option.some Jvm.ClassFile.FieldType.boolean)) ∈ lw_all := lw_g (lw_at lw_m22 167 rfl) rfl
theorem q5633 : (Jvm.Cond.methodLink "TypeHouseModel$Device" (112 : Nat) ({ cls := "TypeHouseModel$Device", name := "define", desc := "(I)V" } : Jvm.MethodName)) ∈ lw_all := lw_g (lw_at lw_m22 168 rfl) rfl
theorem q5635 : (Jvm.Cond.instanceMethod ({ cls := "TypeHouseModel$Device", name := "define", desc := "(I)V" } : Jvm.MethodName)) ∈ lw_all := lw_g (lw_at lw_m22 170 rfl) rfl
theorem q5636 : (Jvm.Cond.code ({ cls := "TypeHouseModel$Device", name := "define", desc := "(I)V" } : Jvm.MethodName) prog_39_method_11_code (3 : Nat) (Option.none : Option Jvm.ClassFile.FieldType)) ∈ lw_all := lw_g (lw_at lw_m22 171 rfl) rfl
theorem q5637 : (Jvm.Cond.constant "TypeHouseModel$Device" (129 : Nat) (200000 : Int32)) ∈ lw_all := lw_g (lw_at lw_m22 172 rfl) rfl
theorem q5638 : (Jvm.Cond.constant "TypeHouseModel" (1131 : Nat) (2147483647 : Int32)) ∈ lw_all := lw_g (lw_at lw_m22 173 rfl) rfl
theorem q5639 : (Jvm.Cond.methodLink "TypeHouseModel" (1132 : Nat) ({ cls := "TypeHouseModel$Device", name := "ship", desc := "()V" } : Jvm.MethodName)) ∈ lw_all := lw_g (lw_at lw_m22 174 rfl) rfl
theorem q5640 : (Jvm.Cond.instanceMethod ({ cls := "TypeHouseModel$Device", name := "ship", desc := "()V" } : Jvm.MethodName)) ∈ lw_all := lw_g (lw_at lw_m22 175 rfl) rfl
theorem q5641 : (Jvm.Cond.selects "TypeHouseModel$Device" ({ cls := "TypeHouseModel$Device", name := "ship", desc := "()V" } : Jvm.MethodName) ({ cls := "TypeHouseModel$Device", name := "ship", desc := "()V" } : Jvm.MethodName)) ∈ lw_all := lw_g (lw_at lw_m22 176 rfl) rfl
theorem q5642 : (Jvm.Cond.code ({ cls := "TypeHouseModel$Device", name := "ship", desc := "()V" } : Jvm.MethodName) prog_39_method_16_code (2 : Nat) (Option.none : Option Jvm.ClassFile.FieldType)) ∈ lw_all := lw_g (lw_at lw_m22 177 rfl) rfl
theorem q5643 : (Jvm.Cond.methodLink "TypeHouseModel" (798 : Nat) ({ cls := "TypeHouseModel", name := "item", desc := "(IIIIII)V" } : Jvm.MethodName)) ∈ lw_all := lw_g (lw_at lw_m22 178 rfl) rfl
theorem q5645 : (Jvm.Cond.instanceMethod ({ cls := "TypeHouseModel", name := "item", desc := "(IIIIII)V" } : Jvm.MethodName)) ∈ lw_all := lw_g (lw_at lw_m22 180 rfl) rfl
theorem q5646 : (Jvm.Cond.code ({ cls := "TypeHouseModel", name := "item", desc := "(IIIIII)V" } : Jvm.MethodName) prog_37_method_106_code (7 : Nat) (Option.none : Option Jvm.ClassFile.FieldType)) ∈ lw_all := lw_g (lw_at lw_m22 181 rfl) rfl
theorem q5647 : (Jvm.Cond.methodLink "TypeHouseModel" (790 : Nat) ({ cls := "TypeHouseModel", name := "wider", desc := "([I)[I" } : Jvm.MethodName)) ∈ lw_all := lw_g (lw_at lw_m22 182 rfl) rfl
theorem q5648 : (Jvm.Cond.static ({ cls := "TypeHouseModel", name := "wider", desc := "([I)[I" } : Jvm.MethodName)) ∈ lw_all := lw_g (lw_at lw_m22 183 rfl) rfl
theorem q5649 : (Jvm.Cond.code ({ cls := "TypeHouseModel", name := "wider", desc := "([I)[I" } : Jvm.MethodName) prog_37_method_105_code (3 : Nat) (Option.some (Jvm.ClassFile.FieldType.array Jvm.ClassFile.FieldType.int))) ∈ lw_all := lw_g (lw_at lw_m22 184 rfl) rfl
theorem q5652 : (Jvm.Cond.instanceMethod ({ cls := "TypeHouseModel", name := "openList", desc := "(I)V" } : Jvm.MethodName)) ∈ lw_all := lw_g (lw_at lw_m22 187 rfl) rfl
theorem q5653 : (Jvm.Cond.code ({ cls := "TypeHouseModel", name := "openList", desc := "(I)V" } : Jvm.MethodName) prog_37_method_107_code (2 : Nat) (Option.none : Option Jvm.ClassFile.FieldType)) ∈ lw_all := lw_g (lw_at lw_m22 188 rfl) rfl
theorem q5656 : (Jvm.Cond.instanceMethod ({ cls := "TypeHouseModel", name := "pack", desc := "([IIIZII)I" } : Jvm.MethodName)) ∈ lw_all := lw_g (lw_at lw_m22 191 rfl) rfl
theorem q5657 : (Jvm.Cond.code ({ cls := "TypeHouseModel", name := "pack", desc := "([IIIZII)I" } : Jvm.MethodName) prog_37_method_139_code (15 : Nat) (Option.some Jvm.ClassFile.FieldType.int)) ∈ lw_all := lw_g (lw_at lw_m22 192 rfl) rfl
theorem q5658 : (Jvm.Cond.constantLong "TypeHouseModel" (997 : Nat) (1000000 : Int64)) ∈ lw_all := lw_g (lw_at lw_m22 193 rfl) rfl
theorem q5659 : (Jvm.Cond.methodLink "TypeHouseModel" (999 : Nat) ({ cls := "TypeHouseModel", name := "setGlue", desc := "(IJ)V" } : Jvm.MethodName)) ∈ lw_all := lw_g (lw_at lw_m22 194 rfl) rfl
theorem q5661 : (Jvm.Cond.instanceMethod ({ cls := "TypeHouseModel", name := "setGlue", desc := "(IJ)V" } : Jvm.MethodName)) ∈ lw_all := lw_g (lw_at lw_m22 196 rfl) rfl
theorem q5662 : (Jvm.Cond.code ({ cls := "TypeHouseModel", name := "setGlue", desc := "(IJ)V" } : Jvm.MethodName) prog_37_method_140_code (5 : Nat) (Option.none : Option Jvm.ClassFile.FieldType)) ∈ lw_all := lw_g (lw_at lw_m22 197 rfl) rfl
abbrev cX38_move : ByteArray := prog_39_method_10_code
def yX38_move : MethodName := ⟨RX38, "move", "([IIII)V"⟩
def YX38_move : eY := (yX38_move, cX38_move, 8, none, [])
theorem mX38_move : e_mv YX38_move RX38 4 := ⟨q5613, qs342, q5614, by decide, by decide +kernel, (e_sig (by decide +kernel))⟩
theorem dX38_move_0 : decode cX38_move 0 = .ok (.aload_n 1, 1) := dc_43 (by decide +kernel)
theorem dX38_move_1 : decode cX38_move 1 = .ok (.iload_n 2, 1) := dc_28 (by decide +kernel)
theorem dX38_move_2 : decode cX38_move 2 = .ok (.iaload, 1) := dc_46 (by decide +kernel)
theorem dX38_move_3 : decode cX38_move 3 = .ok (.istore 5, 2) := dc_54 (a := 5) (by decide +kernel)
theorem dX38_move_5 : decode cX38_move 5 = .ok (.iload 4, 2) := dc_21 (a := 4) (by decide +kernel)
theorem dX38_move_7 : decode cX38_move 7 = .ok (.iconst 1, 1) := dc_4 (by decide +kernel)
theorem dX38_move_8 : decode cX38_move 8 = .ok (.iadd, 1) := dc_96 (by decide +kernel)
theorem dX38_move_9 : decode cX38_move 9 = .ok (.istore 6, 2) := dc_54 (a := 6) (by decide +kernel)
theorem dX38_move_11 : decode cX38_move 11 = .ok (.iload 5, 2) := dc_21 (a := 5) (by decide +kernel)
theorem dX38_move_13 : decode cX38_move 13 = .ok (.invokestatic 94, 3) := dc_184 (a := 0) (b := 94) (n := 94) (by decide +kernel)
theorem dX38_move_16 : decode cX38_move 16 = .ok (.istore 7, 2) := dc_54 (a := 7) (by decide +kernel)
theorem dX38_move_18 : decode cX38_move 18 = .ok (.iload 5, 2) := dc_21 (a := 5) (by decide +kernel)
theorem dX38_move_20 : decode cX38_move 20 = .ok (.ifCond .ne 4, 3) := dc_154 (a := 0) (b := 4) (v := 4) (by decide +kernel)
theorem dX38_move_23 : decode cX38_move 23 = .ok (.return_, 1) := dc_177 (by decide +kernel)
theorem dX38_move_24 : decode cX38_move 24 = .ok (.aload_n 0, 1) := dc_42 (by decide +kernel)
theorem dX38_move_25 : decode cX38_move 25 = .ok (.getfield 63, 3) := dc_180 (a := 0) (b := 63) (n := 63) (by decide +kernel)
theorem dX38_move_28 : decode cX38_move 28 = .ok (.iload 4, 2) := dc_21 (a := 4) (by decide +kernel)
theorem dX38_move_30 : decode cX38_move 30 = .ok (.iaload, 1) := dc_46 (by decide +kernel)
theorem dX38_move_31 : decode cX38_move 31 = .ok (.iload 5, 2) := dc_21 (a := 5) (by decide +kernel)
theorem dX38_move_33 : decode cX38_move 33 = .ok (.if_icmp .ne 13, 3) := dc_160 (a := 0) (b := 13) (v := 13) (by decide +kernel)
theorem dX38_move_36 : decode cX38_move 36 = .ok (.aload_n 0, 1) := dc_42 (by decide +kernel)
theorem dX38_move_37 : decode cX38_move 37 = .ok (.iload_n 3, 1) := dc_29 (by decide +kernel)
theorem dX38_move_38 : decode cX38_move 38 = .ok (.iconst 4, 1) := dc_7 (by decide +kernel)
theorem dX38_move_39 : decode cX38_move 39 = .ok (.iadd, 1) := dc_96 (by decide +kernel)
theorem dX38_move_40 : decode cX38_move 40 = .ok (.invokevirtual 84, 3) := dc_182 (a := 0) (b := 84) (n := 84) (by decide +kernel)
theorem dX38_move_43 : decode cX38_move 43 = .ok (.goto 179, 3) := dc_167 (a := 0) (b := 179) (v := 179) (by decide +kernel)
theorem dX38_move_46 : decode cX38_move 46 = .ok (.aload_n 0, 1) := dc_42 (by decide +kernel)
theorem dX38_move_47 : decode cX38_move 47 = .ok (.getfield 63, 3) := dc_180 (a := 0) (b := 63) (n := 63) (by decide +kernel)
theorem dX38_move_50 : decode cX38_move 50 = .ok (.iload 6, 2) := dc_21 (a := 6) (by decide +kernel)
theorem dX38_move_52 : decode cX38_move 52 = .ok (.iaload, 1) := dc_46 (by decide +kernel)
theorem dX38_move_53 : decode cX38_move 53 = .ok (.iload 5, 2) := dc_21 (a := 5) (by decide +kernel)
theorem dX38_move_55 : decode cX38_move 55 = .ok (.if_icmp .ne 14, 3) := dc_160 (a := 0) (b := 14) (v := 14) (by decide +kernel)
theorem dX38_move_58 : decode cX38_move 58 = .ok (.aload_n 0, 1) := dc_42 (by decide +kernel)
theorem dX38_move_59 : decode cX38_move 59 = .ok (.iload_n 3, 1) := dc_29 (by decide +kernel)
theorem dX38_move_60 : decode cX38_move 60 = .ok (.bipush 9, 2) := dc_16 (a := 9) (v := 9) (by decide +kernel)
theorem dX38_move_62 : decode cX38_move 62 = .ok (.iadd, 1) := dc_96 (by decide +kernel)
theorem dX38_move_63 : decode cX38_move 63 = .ok (.invokevirtual 84, 3) := dc_182 (a := 0) (b := 84) (n := 84) (by decide +kernel)
theorem dX38_move_66 : decode cX38_move 66 = .ok (.goto 156, 3) := dc_167 (a := 0) (b := 156) (v := 156) (by decide +kernel)
theorem dX38_move_69 : decode cX38_move 69 = .ok (.aload_n 0, 1) := dc_42 (by decide +kernel)
theorem dX38_move_70 : decode cX38_move 70 = .ok (.aload_n 1, 1) := dc_43 (by decide +kernel)
theorem dX38_move_71 : decode cX38_move 71 = .ok (.iload_n 2, 1) := dc_28 (by decide +kernel)
theorem dX38_move_72 : decode cX38_move 72 = .ok (.iload 5, 2) := dc_21 (a := 5) (by decide +kernel)
theorem dX38_move_74 : decode cX38_move 74 = .ok (.invokevirtual 98, 3) := dc_182 (a := 0) (b := 98) (n := 98) (by decide +kernel)
theorem dX38_move_77 : decode cX38_move 77 = .ok (.ifCond .eq 59, 3) := dc_153 (a := 0) (b := 59) (v := 59) (by decide +kernel)
theorem dX38_move_80 : decode cX38_move 80 = .ok (.aload_n 0, 1) := dc_42 (by decide +kernel)
theorem dX38_move_81 : decode cX38_move 81 = .ok (.getfield 63, 3) := dc_180 (a := 0) (b := 63) (n := 63) (by decide +kernel)
theorem dX38_move_84 : decode cX38_move 84 = .ok (.iload 4, 2) := dc_21 (a := 4) (by decide +kernel)
theorem dX38_move_86 : decode cX38_move 86 = .ok (.iaload, 1) := dc_46 (by decide +kernel)
theorem dX38_move_87 : decode cX38_move 87 = .ok (.ifCond .eq 19, 3) := dc_153 (a := 0) (b := 19) (v := 19) (by decide +kernel)
theorem dX38_move_90 : decode cX38_move 90 = .ok (.aload_n 0, 1) := dc_42 (by decide +kernel)
theorem dX38_move_91 : decode cX38_move 91 = .ok (.aload_n 1, 1) := dc_43 (by decide +kernel)
theorem dX38_move_92 : decode cX38_move 92 = .ok (.iload_n 2, 1) := dc_28 (by decide +kernel)
theorem dX38_move_93 : decode cX38_move 93 = .ok (.aload_n 0, 1) := dc_42 (by decide +kernel)
theorem dX38_move_94 : decode cX38_move 94 = .ok (.getfield 63, 3) := dc_180 (a := 0) (b := 63) (n := 63) (by decide +kernel)
theorem dX38_move_97 : decode cX38_move 97 = .ok (.iload 4, 2) := dc_21 (a := 4) (by decide +kernel)
theorem dX38_move_99 : decode cX38_move 99 = .ok (.iaload, 1) := dc_46 (by decide +kernel)
theorem dX38_move_100 : decode cX38_move 100 = .ok (.invokevirtual 98, 3) := dc_182 (a := 0) (b := 98) (n := 98) (by decide +kernel)
theorem dX38_move_103 : decode cX38_move 103 = .ok (.ifCond .ne 33, 3) := dc_154 (a := 0) (b := 33) (v := 33) (by decide +kernel)
theorem dX38_move_106 : decode cX38_move 106 = .ok (.aload_n 0, 1) := dc_42 (by decide +kernel)
theorem dX38_move_107 : decode cX38_move 107 = .ok (.iload_n 3, 1) := dc_29 (by decide +kernel)
theorem dX38_move_108 : decode cX38_move 108 = .ok (.iconst 4, 1) := dc_7 (by decide +kernel)
theorem dX38_move_109 : decode cX38_move 109 = .ok (.iadd, 1) := dc_96 (by decide +kernel)
theorem dX38_move_110 : decode cX38_move 110 = .ok (.iload 7, 2) := dc_21 (a := 7) (by decide +kernel)
theorem dX38_move_112 : decode cX38_move 112 = .ok (.iadd, 1) := dc_96 (by decide +kernel)
theorem dX38_move_113 : decode cX38_move 113 = .ok (.invokevirtual 84, 3) := dc_182 (a := 0) (b := 84) (n := 84) (by decide +kernel)
theorem dX38_move_116 : decode cX38_move 116 = .ok (.aload_n 0, 1) := dc_42 (by decide +kernel)
theorem dX38_move_117 : decode cX38_move 117 = .ok (.iload 5, 2) := dc_21 (a := 5) (by decide +kernel)
theorem dX38_move_119 : decode cX38_move 119 = .ok (.iload 7, 2) := dc_21 (a := 7) (by decide +kernel)
theorem dX38_move_121 : decode cX38_move 121 = .ok (.invokevirtual 102, 3) := dc_182 (a := 0) (b := 102) (n := 102) (by decide +kernel)
theorem dX38_move_124 : decode cX38_move 124 = .ok (.aload_n 0, 1) := dc_42 (by decide +kernel)
theorem dX38_move_125 : decode cX38_move 125 = .ok (.getfield 63, 3) := dc_180 (a := 0) (b := 63) (n := 63) (by decide +kernel)
theorem dX38_move_128 : decode cX38_move 128 = .ok (.iload 4, 2) := dc_21 (a := 4) (by decide +kernel)
theorem dX38_move_130 : decode cX38_move 130 = .ok (.iload 5, 2) := dc_21 (a := 5) (by decide +kernel)
theorem dX38_move_132 : decode cX38_move 132 = .ok (.iastore, 1) := dc_79 (by decide +kernel)
theorem dX38_move_133 : decode cX38_move 133 = .ok (.goto 89, 3) := dc_167 (a := 0) (b := 89) (v := 89) (by decide +kernel)
theorem dX38_move_136 : decode cX38_move 136 = .ok (.aload_n 0, 1) := dc_42 (by decide +kernel)
theorem dX38_move_137 : decode cX38_move 137 = .ok (.aload_n 1, 1) := dc_43 (by decide +kernel)
theorem dX38_move_138 : decode cX38_move 138 = .ok (.iload_n 2, 1) := dc_28 (by decide +kernel)
theorem dX38_move_139 : decode cX38_move 139 = .ok (.iload 5, 2) := dc_21 (a := 5) (by decide +kernel)
theorem dX38_move_141 : decode cX38_move 141 = .ok (.invokevirtual 98, 3) := dc_182 (a := 0) (b := 98) (n := 98) (by decide +kernel)
theorem dX38_move_144 : decode cX38_move 144 = .ok (.ifCond .eq 60, 3) := dc_153 (a := 0) (b := 60) (v := 60) (by decide +kernel)
theorem dX38_move_147 : decode cX38_move 147 = .ok (.aload_n 0, 1) := dc_42 (by decide +kernel)
theorem dX38_move_148 : decode cX38_move 148 = .ok (.getfield 63, 3) := dc_180 (a := 0) (b := 63) (n := 63) (by decide +kernel)
theorem dX38_move_151 : decode cX38_move 151 = .ok (.iload 6, 2) := dc_21 (a := 6) (by decide +kernel)
theorem dX38_move_153 : decode cX38_move 153 = .ok (.iaload, 1) := dc_46 (by decide +kernel)
theorem dX38_move_154 : decode cX38_move 154 = .ok (.ifCond .eq 19, 3) := dc_153 (a := 0) (b := 19) (v := 19) (by decide +kernel)
theorem dX38_move_157 : decode cX38_move 157 = .ok (.aload_n 0, 1) := dc_42 (by decide +kernel)
theorem dX38_move_158 : decode cX38_move 158 = .ok (.aload_n 1, 1) := dc_43 (by decide +kernel)
theorem dX38_move_159 : decode cX38_move 159 = .ok (.iload_n 2, 1) := dc_28 (by decide +kernel)
theorem dX38_move_160 : decode cX38_move 160 = .ok (.aload_n 0, 1) := dc_42 (by decide +kernel)
theorem dX38_move_161 : decode cX38_move 161 = .ok (.getfield 63, 3) := dc_180 (a := 0) (b := 63) (n := 63) (by decide +kernel)
theorem dX38_move_164 : decode cX38_move 164 = .ok (.iload 6, 2) := dc_21 (a := 6) (by decide +kernel)
theorem dX38_move_166 : decode cX38_move 166 = .ok (.iaload, 1) := dc_46 (by decide +kernel)
theorem dX38_move_167 : decode cX38_move 167 = .ok (.invokevirtual 98, 3) := dc_182 (a := 0) (b := 98) (n := 98) (by decide +kernel)
theorem dX38_move_170 : decode cX38_move 170 = .ok (.ifCond .ne 34, 3) := dc_154 (a := 0) (b := 34) (v := 34) (by decide +kernel)
theorem dX38_move_173 : decode cX38_move 173 = .ok (.aload_n 0, 1) := dc_42 (by decide +kernel)
theorem dX38_move_174 : decode cX38_move 174 = .ok (.iload_n 3, 1) := dc_29 (by decide +kernel)
theorem dX38_move_175 : decode cX38_move 175 = .ok (.bipush 9, 2) := dc_16 (a := 9) (v := 9) (by decide +kernel)
theorem dX38_move_177 : decode cX38_move 177 = .ok (.iadd, 1) := dc_96 (by decide +kernel)
theorem dX38_move_178 : decode cX38_move 178 = .ok (.iload 7, 2) := dc_21 (a := 7) (by decide +kernel)
theorem dX38_move_180 : decode cX38_move 180 = .ok (.iadd, 1) := dc_96 (by decide +kernel)
theorem dX38_move_181 : decode cX38_move 181 = .ok (.invokevirtual 84, 3) := dc_182 (a := 0) (b := 84) (n := 84) (by decide +kernel)
theorem dX38_move_184 : decode cX38_move 184 = .ok (.aload_n 0, 1) := dc_42 (by decide +kernel)
theorem dX38_move_185 : decode cX38_move 185 = .ok (.iload 5, 2) := dc_21 (a := 5) (by decide +kernel)
theorem dX38_move_187 : decode cX38_move 187 = .ok (.iload 7, 2) := dc_21 (a := 7) (by decide +kernel)
theorem dX38_move_189 : decode cX38_move 189 = .ok (.invokevirtual 102, 3) := dc_182 (a := 0) (b := 102) (n := 102) (by decide +kernel)
theorem dX38_move_192 : decode cX38_move 192 = .ok (.aload_n 0, 1) := dc_42 (by decide +kernel)
theorem dX38_move_193 : decode cX38_move 193 = .ok (.getfield 63, 3) := dc_180 (a := 0) (b := 63) (n := 63) (by decide +kernel)
theorem dX38_move_196 : decode cX38_move 196 = .ok (.iload 6, 2) := dc_21 (a := 6) (by decide +kernel)
theorem dX38_move_198 : decode cX38_move 198 = .ok (.iload 5, 2) := dc_21 (a := 5) (by decide +kernel)
theorem dX38_move_200 : decode cX38_move 200 = .ok (.iastore, 1) := dc_79 (by decide +kernel)
theorem dX38_move_201 : decode cX38_move 201 = .ok (.goto 21, 3) := dc_167 (a := 0) (b := 21) (v := 21) (by decide +kernel)
theorem dX38_move_204 : decode cX38_move 204 = .ok (.aload_n 0, 1) := dc_42 (by decide +kernel)
theorem dX38_move_205 : decode cX38_move 205 = .ok (.iload_n 3, 1) := dc_29 (by decide +kernel)
theorem dX38_move_206 : decode cX38_move 206 = .ok (.iload 7, 2) := dc_21 (a := 7) (by decide +kernel)
theorem dX38_move_208 : decode cX38_move 208 = .ok (.iadd, 1) := dc_96 (by decide +kernel)
theorem dX38_move_209 : decode cX38_move 209 = .ok (.iconst 1, 1) := dc_4 (by decide +kernel)
theorem dX38_move_210 : decode cX38_move 210 = .ok (.isub, 1) := dc_100 (by decide +kernel)
theorem dX38_move_211 : decode cX38_move 211 = .ok (.invokevirtual 84, 3) := dc_182 (a := 0) (b := 84) (n := 84) (by decide +kernel)
theorem dX38_move_214 : decode cX38_move 214 = .ok (.aload_n 0, 1) := dc_42 (by decide +kernel)
theorem dX38_move_215 : decode cX38_move 215 = .ok (.iload 5, 2) := dc_21 (a := 5) (by decide +kernel)
theorem dX38_move_217 : decode cX38_move 217 = .ok (.iload 7, 2) := dc_21 (a := 7) (by decide +kernel)
theorem dX38_move_219 : decode cX38_move 219 = .ok (.invokevirtual 102, 3) := dc_182 (a := 0) (b := 102) (n := 102) (by decide +kernel)
theorem dX38_move_222 : decode cX38_move 222 = .ok (.return_, 1) := dc_177 (by decide +kernel)
theorem GX38_63 {w : eW} {d : Nat} {Y : eY} {pc : Nat} {ls : eL} {st : List Value} {h : eH} {Q : eO → eH → Prop} {a : Nat} {x : Nat} (hf : g_A 37 h a 22 = some x) (hd : decode Y.2.1 pc = .ok (.getfield 63, 3)) (hY : Y.1.cls = RX38) (kk : wp w d Y (pc + 3) ls (.ref x :: st) h Q) : wp w d Y pc ls (.ref a :: st) h Q := x_gA (ci := 37) (k := 22) hf hd rfl (by decide) (by rw [hY]; exact q4421) kk
def fX38_move_b222 (N : Nat)  (h : eH) : Option (Unit × eH) :=
  some ((), h)
theorem pX38_move_b222 {w : eW} {d : Nat} (hd : 2 ≤ d + 1) {N : Nat}  {h : eH} {q} (hf : fX38_move_b222 N h = some q) : wp w (d + 1) YX38_move 222 [none, none, none, none, none, none, none, none] [] h (e_is (e_rn c_V q)) := by
  unfold fX38_move_b222 at hf
  cases hf
  exact w_vret dX38_move_222 rfl rfl
def fX38_move_b106 (N : Nat) (l0 : Nat) (l3 : Int32) (l4 : Int32) (l5 : Int32) (l7 : Int32) (h : eH) : Option (Unit × eH) :=
  (k_ok 37 h l0).bind fun _ =>
  (fX38_lay l0 ((l3 + (4 : Int32)) + l7) h).bind fun q2 =>
  (k_ok 37 q2.2 l0).bind fun _ =>
  (fX38_layNumber N l0 l5 l7 q2.2).bind fun q4 =>
  (g_A 37 q4.2 l0 22).bind fun a5 =>
  (q_V 100 q4.2 a5 l4 (.int l5)).bind fun h7 =>
  fX38_move_b222 N h7
theorem pX38_move_b106 {w : eW} {d : Nat} (hd : 2 ≤ d + 1) {N : Nat} {l0 : Nat} {l3 : Int32} {l4 : Int32} {l5 : Int32} {l7 : Int32} {h : eH} {q} (hf : fX38_move_b106 N l0 l3 l4 l5 l7 h = some q) : wp w (d + 1) YX38_move 106 [some (.ref l0), none, none, some (.int l3), some (.int l4), some (.int l5), none, some (.int l7)] [] h (e_is (e_rn c_V q)) := by
  unfold fX38_move_b106 at hf
  refine w_aload_n dX38_move_106 rfl rfl ?_
  refine w_iload_n dX38_move_107 rfl rfl ?_
  refine w_iconst dX38_move_108 (v := 4) (by decide) ?_
  refine w_iadd dX38_move_109 ?_
  refine w_iload dX38_move_110 rfl ?_
  refine w_iadd dX38_move_112 ?_
  obtain ⟨_, b1, hf⟩ := Option.bind_eq_some_iff.mp hf
  refine x_cnV hf (e_stV (Yc := YX38_lay) (ci := 37) (av := [.int ((l3 + (4 : Int32)) + l7)]) (st := []) dX38_move_113 q5067 mX38_lay rfl (k_ok_some b1).1 (k_ok_some b1).2) mX38_lay.2.2.1 mX38_lay.2.2.2.2.1 (Nat.le_of_ble_eq_true rfl) (Nat.le_of_ble_eq_true rfl) (fun q hq => pX38_lay (by omega) hq) (fun q2 hf => ?_)
  refine w_aload_n dX38_move_116 rfl rfl ?_
  refine w_iload dX38_move_117 rfl ?_
  refine w_iload dX38_move_119 rfl ?_
  obtain ⟨_, b3, hf⟩ := Option.bind_eq_some_iff.mp hf
  refine x_cnV hf (e_stV (Yc := YX38_layNumber) (ci := 37) (av := [.int l5, .int l7]) (st := []) dX38_move_121 q5072 mX38_layNumber rfl (k_ok_some b3).1 (k_ok_some b3).2) mX38_layNumber.2.2.1 mX38_layNumber.2.2.2.2.1 (Nat.le_of_ble_eq_true rfl) (Nat.le_of_ble_eq_true rfl) (fun q hq => pX38_layNumber (by omega) hq) (fun q4 hf => ?_)
  refine w_aload_n dX38_move_124 rfl rfl ?_
  obtain ⟨a5, b6, hf⟩ := Option.bind_eq_some_iff.mp hf
  refine GX38_63 b6 dX38_move_125 rfl ?_
  refine w_iload dX38_move_128 rfl ?_
  refine w_iload dX38_move_130 rfl ?_
  obtain ⟨h7, b8, hf⟩ := Option.bind_eq_some_iff.mp hf
  refine x_qI b8 dX38_move_132 ?_
  refine w_goto 222 dX38_move_133 (by decide) ?_
  exact (pX38_move_b222 hd hf).to trivial
def fX38_move_b173 (N : Nat) (l0 : Nat) (l3 : Int32) (l5 : Int32) (l6 : Int32) (l7 : Int32) (h : eH) : Option (Unit × eH) :=
  (k_ok 37 h l0).bind fun _ =>
  (fX38_lay l0 ((l3 + (9 : Int32)) + l7) h).bind fun q2 =>
  (k_ok 37 q2.2 l0).bind fun _ =>
  (fX38_layNumber N l0 l5 l7 q2.2).bind fun q4 =>
  (g_A 37 q4.2 l0 22).bind fun a5 =>
  (q_V 100 q4.2 a5 l6 (.int l5)).bind fun h7 =>
  fX38_move_b222 N h7
theorem pX38_move_b173 {w : eW} {d : Nat} (hd : 2 ≤ d + 1) {N : Nat} {l0 : Nat} {l3 : Int32} {l5 : Int32} {l6 : Int32} {l7 : Int32} {h : eH} {q} (hf : fX38_move_b173 N l0 l3 l5 l6 l7 h = some q) : wp w (d + 1) YX38_move 173 [some (.ref l0), none, none, some (.int l3), none, some (.int l5), some (.int l6), some (.int l7)] [] h (e_is (e_rn c_V q)) := by
  unfold fX38_move_b173 at hf
  refine w_aload_n dX38_move_173 rfl rfl ?_
  refine w_iload_n dX38_move_174 rfl rfl ?_
  refine w_bipush dX38_move_175 (v := 9) (by decide) ?_
  refine w_iadd dX38_move_177 ?_
  refine w_iload dX38_move_178 rfl ?_
  refine w_iadd dX38_move_180 ?_
  obtain ⟨_, b1, hf⟩ := Option.bind_eq_some_iff.mp hf
  refine x_cnV hf (e_stV (Yc := YX38_lay) (ci := 37) (av := [.int ((l3 + (9 : Int32)) + l7)]) (st := []) dX38_move_181 q5067 mX38_lay rfl (k_ok_some b1).1 (k_ok_some b1).2) mX38_lay.2.2.1 mX38_lay.2.2.2.2.1 (Nat.le_of_ble_eq_true rfl) (Nat.le_of_ble_eq_true rfl) (fun q hq => pX38_lay (by omega) hq) (fun q2 hf => ?_)
  refine w_aload_n dX38_move_184 rfl rfl ?_
  refine w_iload dX38_move_185 rfl ?_
  refine w_iload dX38_move_187 rfl ?_
  obtain ⟨_, b3, hf⟩ := Option.bind_eq_some_iff.mp hf
  refine x_cnV hf (e_stV (Yc := YX38_layNumber) (ci := 37) (av := [.int l5, .int l7]) (st := []) dX38_move_189 q5072 mX38_layNumber rfl (k_ok_some b3).1 (k_ok_some b3).2) mX38_layNumber.2.2.1 mX38_layNumber.2.2.2.2.1 (Nat.le_of_ble_eq_true rfl) (Nat.le_of_ble_eq_true rfl) (fun q hq => pX38_layNumber (by omega) hq) (fun q4 hf => ?_)
  refine w_aload_n dX38_move_192 rfl rfl ?_
  obtain ⟨a5, b6, hf⟩ := Option.bind_eq_some_iff.mp hf
  refine GX38_63 b6 dX38_move_193 rfl ?_
  refine w_iload dX38_move_196 rfl ?_
  refine w_iload dX38_move_198 rfl ?_
  obtain ⟨h7, b8, hf⟩ := Option.bind_eq_some_iff.mp hf
  refine x_qI b8 dX38_move_200 ?_
  refine w_goto 222 dX38_move_201 (by decide) ?_
  exact (pX38_move_b222 hd hf).to trivial
def fX38_move_b204 (N : Nat) (l0 : Nat) (l3 : Int32) (l5 : Int32) (l7 : Int32) (h : eH) : Option (Unit × eH) :=
  (k_ok 37 h l0).bind fun _ =>
  (fX38_lay l0 ((l3 + l7) - (1 : Int32)) h).bind fun q2 =>
  (k_ok 37 q2.2 l0).bind fun _ =>
  (fX38_layNumber N l0 l5 l7 q2.2).bind fun q4 =>
  fX38_move_b222 N q4.2
theorem pX38_move_b204 {w : eW} {d : Nat} (hd : 2 ≤ d + 1) {N : Nat} {l0 : Nat} {l3 : Int32} {l5 : Int32} {l7 : Int32} {h : eH} {q} (hf : fX38_move_b204 N l0 l3 l5 l7 h = some q) : wp w (d + 1) YX38_move 204 [some (.ref l0), none, none, some (.int l3), none, some (.int l5), none, some (.int l7)] [] h (e_is (e_rn c_V q)) := by
  unfold fX38_move_b204 at hf
  refine w_aload_n dX38_move_204 rfl rfl ?_
  refine w_iload_n dX38_move_205 rfl rfl ?_
  refine w_iload dX38_move_206 rfl ?_
  refine w_iadd dX38_move_208 ?_
  refine w_iconst dX38_move_209 (v := 1) (by decide) ?_
  refine w_isub dX38_move_210 ?_
  obtain ⟨_, b1, hf⟩ := Option.bind_eq_some_iff.mp hf
  refine x_cnV hf (e_stV (Yc := YX38_lay) (ci := 37) (av := [.int ((l3 + l7) - (1 : Int32))]) (st := []) dX38_move_211 q5067 mX38_lay rfl (k_ok_some b1).1 (k_ok_some b1).2) mX38_lay.2.2.1 mX38_lay.2.2.2.2.1 (Nat.le_of_ble_eq_true rfl) (Nat.le_of_ble_eq_true rfl) (fun q hq => pX38_lay (by omega) hq) (fun q2 hf => ?_)
  refine w_aload_n dX38_move_214 rfl rfl ?_
  refine w_iload dX38_move_215 rfl ?_
  refine w_iload dX38_move_217 rfl ?_
  obtain ⟨_, b3, hf⟩ := Option.bind_eq_some_iff.mp hf
  refine x_cnV hf (e_stV (Yc := YX38_layNumber) (ci := 37) (av := [.int l5, .int l7]) (st := []) dX38_move_219 q5072 mX38_layNumber rfl (k_ok_some b3).1 (k_ok_some b3).2) mX38_layNumber.2.2.1 mX38_layNumber.2.2.2.2.1 (Nat.le_of_ble_eq_true rfl) (Nat.le_of_ble_eq_true rfl) (fun q hq => pX38_layNumber (by omega) hq) (fun q4 hf => ?_)
  exact (pX38_move_b222 hd hf).to trivial
def fX38_move_b136 (N : Nat) (l0 : Nat) (l1 : Nat) (l2 : Int32) (l3 : Int32) (l5 : Int32) (l6 : Int32) (l7 : Int32) (h : eH) : Option (Unit × eH) :=
  (k_ok 37 h l0).bind fun _ =>
  (fX38_comes N l0 l1 l2 l5 h).bind fun q2 =>
  if q2.1 = 0 then
    fX38_move_b204 N l0 l3 l5 l7 q2.2
  else
    (g_A 37 q2.2 l0 22).bind fun a4 =>
    (r_I 100 q2.2 a4 l6).bind fun x6 =>
    if x6 = 0 then
      fX38_move_b173 N l0 l3 l5 l6 l7 q2.2
    else
      (g_A 37 q2.2 l0 22).bind fun a9 =>
      (r_I 100 q2.2 a9 l6).bind fun x11 =>
      (k_ok 37 q2.2 l0).bind fun _ =>
      (fX38_comes N l0 l1 l2 x11 q2.2).bind fun q14 =>
      if ¬ q14.1 = 0 then
        fX38_move_b204 N l0 l3 l5 l7 q14.2
      else
        fX38_move_b173 N l0 l3 l5 l6 l7 q14.2
theorem pX38_move_b136 {w : eW} {d : Nat} (hd : 2 ≤ d + 1) {N : Nat} {l0 : Nat} {l1 : Nat} {l2 : Int32} {l3 : Int32} {l5 : Int32} {l6 : Int32} {l7 : Int32} {h : eH} {q} (hf : fX38_move_b136 N l0 l1 l2 l3 l5 l6 l7 h = some q) : wp w (d + 1) YX38_move 136 [some (.ref l0), some (.ref l1), some (.int l2), some (.int l3), none, some (.int l5), some (.int l6), some (.int l7)] [] h (e_is (e_rn c_V q)) := by
  unfold fX38_move_b136 at hf
  refine w_aload_n dX38_move_136 rfl rfl ?_
  refine w_aload_n dX38_move_137 rfl rfl ?_
  refine w_iload_n dX38_move_138 rfl rfl ?_
  refine w_iload dX38_move_139 rfl ?_
  obtain ⟨_, b1, hf⟩ := Option.bind_eq_some_iff.mp hf
  refine x_cnI hf (e_stV (Yc := YX38_comes) (ci := 37) (av := [.ref l1, .int l2, .int l5]) (st := []) dX38_move_141 q5621 mX38_comes rfl (k_ok_some b1).1 (k_ok_some b1).2) mX38_comes.2.2.1 mX38_comes.2.2.2.2.1 (Nat.le_of_ble_eq_true rfl) (Nat.le_of_ble_eq_true rfl) (fun q hq => pX38_comes (by omega) hq) (fun q2 hf => ?_)
  refine w_if_eq 204 dX38_move_144 (by decide) (fun c3 => ?_) (fun c3 => ?_)
  · replace hf := (if_pos (show q2.1 = 0 from c3)).symm.trans hf
    exact (pX38_move_b204 hd hf).to ⟨rfl, rfl, rfl, rfl, trivial⟩
  · replace hf := (if_neg (show ¬ (q2.1 = 0) from c3)).symm.trans hf
    refine w_aload_n dX38_move_147 rfl rfl ?_
    obtain ⟨a4, b5, hf⟩ := Option.bind_eq_some_iff.mp hf
    refine GX38_63 b5 dX38_move_148 rfl ?_
    refine w_iload dX38_move_151 rfl ?_
    obtain ⟨x6, b7, hf⟩ := Option.bind_eq_some_iff.mp hf
    refine x_rI b7 dX38_move_153 ?_
    refine w_if_eq 173 dX38_move_154 (by decide) (fun c8 => ?_) (fun c8 => ?_)
    · replace hf := (if_pos (show x6 = 0 from c8)).symm.trans hf
      exact (pX38_move_b173 hd hf).to ⟨rfl, rfl, rfl, rfl, rfl, trivial⟩
    · replace hf := (if_neg (show ¬ (x6 = 0) from c8)).symm.trans hf
      refine w_aload_n dX38_move_157 rfl rfl ?_
      refine w_aload_n dX38_move_158 rfl rfl ?_
      refine w_iload_n dX38_move_159 rfl rfl ?_
      refine w_aload_n dX38_move_160 rfl rfl ?_
      obtain ⟨a9, b10, hf⟩ := Option.bind_eq_some_iff.mp hf
      refine GX38_63 b10 dX38_move_161 rfl ?_
      refine w_iload dX38_move_164 rfl ?_
      obtain ⟨x11, b12, hf⟩ := Option.bind_eq_some_iff.mp hf
      refine x_rI b12 dX38_move_166 ?_
      obtain ⟨_, b13, hf⟩ := Option.bind_eq_some_iff.mp hf
      refine x_cnI hf (e_stV (Yc := YX38_comes) (ci := 37) (av := [.ref l1, .int l2, .int x11]) (st := []) dX38_move_167 q5621 mX38_comes rfl (k_ok_some b13).1 (k_ok_some b13).2) mX38_comes.2.2.1 mX38_comes.2.2.2.2.1 (Nat.le_of_ble_eq_true rfl) (Nat.le_of_ble_eq_true rfl) (fun q hq => pX38_comes (by omega) hq) (fun q14 hf => ?_)
      refine w_if_ne 204 dX38_move_170 (by decide) (fun c15 => ?_) (fun c15 => ?_)
      · replace hf := (if_pos (show ¬ q14.1 = 0 from c15)).symm.trans hf
        exact (pX38_move_b204 hd hf).to ⟨rfl, rfl, rfl, rfl, trivial⟩
      · replace hf := (if_neg (show ¬ (¬ q14.1 = 0) from (fun z => z c15))).symm.trans hf
        exact (pX38_move_b173 hd hf).to ⟨rfl, rfl, rfl, rfl, rfl, trivial⟩
def fX38_move (N : Nat) (this : Nat) (p0 : Nat) (p1 : Int32) (p2 : Int32) (p3 : Int32) (h : eH) : Option (Unit × eH) :=
  (r_I 100 h p0 p1).bind fun x1 =>
  (fX38_bytesOf x1 h).bind fun q3 =>
  if ¬ x1 = 0 then
    (g_A 37 q3.2 this 22).bind fun a5 =>
    (r_I 100 q3.2 a5 p3).bind fun x7 =>
    if ¬ x7 = x1 then
      (g_A 37 q3.2 this 22).bind fun a10 =>
      (r_I 100 q3.2 a10 (p3 + (1 : Int32))).bind fun x12 =>
      if ¬ x12 = x1 then
        (k_ok 37 q3.2 this).bind fun _ =>
        (fX38_comes N this p0 p1 x1 q3.2).bind fun q16 =>
        if q16.1 = 0 then
          fX38_move_b136 N this p0 p1 p2 x1 (p3 + (1 : Int32)) q3.1 q16.2
        else
          (g_A 37 q16.2 this 22).bind fun a18 =>
          (r_I 100 q16.2 a18 p3).bind fun x20 =>
          if x20 = 0 then
            fX38_move_b106 N this p2 p3 x1 q3.1 q16.2
          else
            (g_A 37 q16.2 this 22).bind fun a23 =>
            (r_I 100 q16.2 a23 p3).bind fun x25 =>
            (k_ok 37 q16.2 this).bind fun _ =>
            (fX38_comes N this p0 p1 x25 q16.2).bind fun q28 =>
            if ¬ q28.1 = 0 then
              fX38_move_b136 N this p0 p1 p2 x1 (p3 + (1 : Int32)) q3.1 q28.2
            else
              fX38_move_b106 N this p2 p3 x1 q3.1 q28.2
      else
        (k_ok 37 q3.2 this).bind fun _ =>
        (fX38_lay this (p2 + (9 : Int32)) q3.2).bind fun q31 =>
        fX38_move_b222 N q31.2
    else
      (k_ok 37 q3.2 this).bind fun _ =>
      (fX38_lay this (p2 + (4 : Int32)) q3.2).bind fun q33 =>
      fX38_move_b222 N q33.2
  else
    some ((), q3.2)
theorem pX38_move {w : eW} {d : Nat} (hd : 2 ≤ d) {N : Nat} {this : Nat} {p0 : Nat} {p1 : Int32} {p2 : Int32} {p3 : Int32} {h : eH} {q} (hf : fX38_move N this p0 p1 p2 p3 h = some q) : wm w d YX38_move [.ref this, .ref p0, .int p1, .int p2, .int p3] h (e_is (e_rn c_V q)) := by
  obtain ⟨d, rfl⟩ : ∃ e, d = e + 1 := ⟨d - 1, by omega⟩
  show wp w (d + 1) YX38_move 0 [some (.ref this), some (.ref p0), some (.int p1), some (.int p2), some (.int p3), none, none, none] [] h _
  unfold fX38_move at hf
  refine w_aload_n dX38_move_0 rfl rfl ?_
  refine w_iload_n dX38_move_1 rfl rfl ?_
  obtain ⟨x1, b2, hf⟩ := Option.bind_eq_some_iff.mp hf
  refine x_rI b2 dX38_move_2 ?_
  refine w_istore dX38_move_3 (by decide) (ls' := [some (.ref this), some (.ref p0), some (.int p1), some (.int p2), some (.int p3), some (.int x1), none, none]) rfl ?_
  refine w_iload dX38_move_5 rfl ?_
  refine w_iconst dX38_move_7 (v := 1) (by decide) ?_
  refine w_iadd dX38_move_8 ?_
  refine w_istore dX38_move_9 (by decide) (ls' := [some (.ref this), some (.ref p0), some (.int p1), some (.int p2), some (.int p3), some (.int x1), some (.int (p3 + (1 : Int32))), none]) rfl ?_
  refine w_iload dX38_move_11 rfl ?_
  refine x_cnI hf (e_stS (Yc := YX38_bytesOf) (av := [.int x1]) (st := []) dX38_move_13 q5615 mX38_bytesOf) mX38_bytesOf.2.2.1 mX38_bytesOf.2.2.2.2.1 (Nat.le_of_ble_eq_true rfl) (Nat.le_of_ble_eq_true rfl) (fun q hq => pX38_bytesOf (by omega) hq) (fun q3 hf => ?_)
  refine w_istore dX38_move_16 (by decide) (ls' := [some (.ref this), some (.ref p0), some (.int p1), some (.int p2), some (.int p3), some (.int x1), some (.int (p3 + (1 : Int32))), some (.int q3.1)]) rfl ?_
  refine w_iload dX38_move_18 rfl ?_
  refine w_if_ne 24 dX38_move_20 (by decide) (fun c4 => ?_) (fun c4 => ?_)
  · replace hf := (if_pos (show ¬ x1 = 0 from c4)).symm.trans hf
    refine w_aload_n dX38_move_24 rfl rfl ?_
    obtain ⟨a5, b6, hf⟩ := Option.bind_eq_some_iff.mp hf
    refine GX38_63 b6 dX38_move_25 rfl ?_
    refine w_iload dX38_move_28 rfl ?_
    obtain ⟨x7, b8, hf⟩ := Option.bind_eq_some_iff.mp hf
    refine x_rI b8 dX38_move_30 ?_
    refine w_iload dX38_move_31 rfl ?_
    refine w_icmp_ne 46 dX38_move_33 (by decide) (fun c9 => ?_) (fun c9 => ?_)
    · replace hf := (if_pos (show ¬ x7 = x1 from c9)).symm.trans hf
      refine w_aload_n dX38_move_46 rfl rfl ?_
      obtain ⟨a10, b11, hf⟩ := Option.bind_eq_some_iff.mp hf
      refine GX38_63 b11 dX38_move_47 rfl ?_
      refine w_iload dX38_move_50 rfl ?_
      obtain ⟨x12, b13, hf⟩ := Option.bind_eq_some_iff.mp hf
      refine x_rI b13 dX38_move_52 ?_
      refine w_iload dX38_move_53 rfl ?_
      refine w_icmp_ne 69 dX38_move_55 (by decide) (fun c14 => ?_) (fun c14 => ?_)
      · replace hf := (if_pos (show ¬ x12 = x1 from c14)).symm.trans hf
        refine w_aload_n dX38_move_69 rfl rfl ?_
        refine w_aload_n dX38_move_70 rfl rfl ?_
        refine w_iload_n dX38_move_71 rfl rfl ?_
        refine w_iload dX38_move_72 rfl ?_
        obtain ⟨_, b15, hf⟩ := Option.bind_eq_some_iff.mp hf
        refine x_cnI hf (e_stV (Yc := YX38_comes) (ci := 37) (av := [.ref p0, .int p1, .int x1]) (st := []) dX38_move_74 q5621 mX38_comes rfl (k_ok_some b15).1 (k_ok_some b15).2) mX38_comes.2.2.1 mX38_comes.2.2.2.2.1 (Nat.le_of_ble_eq_true rfl) (Nat.le_of_ble_eq_true rfl) (fun q hq => pX38_comes (by omega) hq) (fun q16 hf => ?_)
        refine w_if_eq 136 dX38_move_77 (by decide) (fun c17 => ?_) (fun c17 => ?_)
        · replace hf := (if_pos (show q16.1 = 0 from c17)).symm.trans hf
          exact (pX38_move_b136 hd hf).to ⟨rfl, rfl, rfl, rfl, rfl, rfl, rfl, trivial⟩
        · replace hf := (if_neg (show ¬ (q16.1 = 0) from c17)).symm.trans hf
          refine w_aload_n dX38_move_80 rfl rfl ?_
          obtain ⟨a18, b19, hf⟩ := Option.bind_eq_some_iff.mp hf
          refine GX38_63 b19 dX38_move_81 rfl ?_
          refine w_iload dX38_move_84 rfl ?_
          obtain ⟨x20, b21, hf⟩ := Option.bind_eq_some_iff.mp hf
          refine x_rI b21 dX38_move_86 ?_
          refine w_if_eq 106 dX38_move_87 (by decide) (fun c22 => ?_) (fun c22 => ?_)
          · replace hf := (if_pos (show x20 = 0 from c22)).symm.trans hf
            exact (pX38_move_b106 hd hf).to ⟨rfl, rfl, rfl, rfl, rfl, trivial⟩
          · replace hf := (if_neg (show ¬ (x20 = 0) from c22)).symm.trans hf
            refine w_aload_n dX38_move_90 rfl rfl ?_
            refine w_aload_n dX38_move_91 rfl rfl ?_
            refine w_iload_n dX38_move_92 rfl rfl ?_
            refine w_aload_n dX38_move_93 rfl rfl ?_
            obtain ⟨a23, b24, hf⟩ := Option.bind_eq_some_iff.mp hf
            refine GX38_63 b24 dX38_move_94 rfl ?_
            refine w_iload dX38_move_97 rfl ?_
            obtain ⟨x25, b26, hf⟩ := Option.bind_eq_some_iff.mp hf
            refine x_rI b26 dX38_move_99 ?_
            obtain ⟨_, b27, hf⟩ := Option.bind_eq_some_iff.mp hf
            refine x_cnI hf (e_stV (Yc := YX38_comes) (ci := 37) (av := [.ref p0, .int p1, .int x25]) (st := []) dX38_move_100 q5621 mX38_comes rfl (k_ok_some b27).1 (k_ok_some b27).2) mX38_comes.2.2.1 mX38_comes.2.2.2.2.1 (Nat.le_of_ble_eq_true rfl) (Nat.le_of_ble_eq_true rfl) (fun q hq => pX38_comes (by omega) hq) (fun q28 hf => ?_)
            refine w_if_ne 136 dX38_move_103 (by decide) (fun c29 => ?_) (fun c29 => ?_)
            · replace hf := (if_pos (show ¬ q28.1 = 0 from c29)).symm.trans hf
              exact (pX38_move_b136 hd hf).to ⟨rfl, rfl, rfl, rfl, rfl, rfl, rfl, trivial⟩
            · replace hf := (if_neg (show ¬ (¬ q28.1 = 0) from (fun z => z c29))).symm.trans hf
              exact (pX38_move_b106 hd hf).to ⟨rfl, rfl, rfl, rfl, rfl, trivial⟩
      · replace hf := (if_neg (show ¬ (¬ x12 = x1) from (fun z => z c14))).symm.trans hf
        refine w_aload_n dX38_move_58 rfl rfl ?_
        refine w_iload_n dX38_move_59 rfl rfl ?_
        refine w_bipush dX38_move_60 (v := 9) (by decide) ?_
        refine w_iadd dX38_move_62 ?_
        obtain ⟨_, b30, hf⟩ := Option.bind_eq_some_iff.mp hf
        refine x_cnV hf (e_stV (Yc := YX38_lay) (ci := 37) (av := [.int (p2 + (9 : Int32))]) (st := []) dX38_move_63 q5067 mX38_lay rfl (k_ok_some b30).1 (k_ok_some b30).2) mX38_lay.2.2.1 mX38_lay.2.2.2.2.1 (Nat.le_of_ble_eq_true rfl) (Nat.le_of_ble_eq_true rfl) (fun q hq => pX38_lay (by omega) hq) (fun q31 hf => ?_)
        refine w_goto 222 dX38_move_66 (by decide) ?_
        exact (pX38_move_b222 hd hf).to trivial
    · replace hf := (if_neg (show ¬ (¬ x7 = x1) from (fun z => z c9))).symm.trans hf
      refine w_aload_n dX38_move_36 rfl rfl ?_
      refine w_iload_n dX38_move_37 rfl rfl ?_
      refine w_iconst dX38_move_38 (v := 4) (by decide) ?_
      refine w_iadd dX38_move_39 ?_
      obtain ⟨_, b32, hf⟩ := Option.bind_eq_some_iff.mp hf
      refine x_cnV hf (e_stV (Yc := YX38_lay) (ci := 37) (av := [.int (p2 + (4 : Int32))]) (st := []) dX38_move_40 q5067 mX38_lay rfl (k_ok_some b32).1 (k_ok_some b32).2) mX38_lay.2.2.1 mX38_lay.2.2.2.2.1 (Nat.le_of_ble_eq_true rfl) (Nat.le_of_ble_eq_true rfl) (fun q hq => pX38_lay (by omega) hq) (fun q33 hf => ?_)
      refine w_goto 222 dX38_move_43 (by decide) ?_
      exact (pX38_move_b222 hd hf).to trivial
  · replace hf := (if_neg (show ¬ (¬ x1 = 0) from (fun z => z c4))).symm.trans hf
    cases hf
    exact w_vret dX38_move_23 rfl rfl
abbrev cX38_isTold : ByteArray := prog_39_method_4_code
def yX38_isTold : MethodName := ⟨RX38, "isTold", "(I)Z"⟩
def YX38_isTold : eY := (yX38_isTold, cX38_isTold, 4, (Option.some FieldType.boolean), [])
theorem mX38_isTold : e_mv YX38_isTold RX38 1 := ⟨q5631, qs345, q5632, by decide, by decide +kernel, (e_sig (by decide +kernel))⟩
theorem dX38_isTold_0 : decode cX38_isTold 0 = .ok (.iconst 0, 1) := dc_3 (by decide +kernel)
theorem dX38_isTold_1 : decode cX38_isTold 1 = .ok (.istore_n 2, 1) := dc_61 (by decide +kernel)
theorem dX38_isTold_2 : decode cX38_isTold 2 = .ok (.iconst 0, 1) := dc_3 (by decide +kernel)
theorem dX38_isTold_3 : decode cX38_isTold 3 = .ok (.istore_n 3, 1) := dc_62 (by decide +kernel)
theorem dX38_isTold_4 : decode cX38_isTold 4 = .ok (.iload_n 3, 1) := dc_29 (by decide +kernel)
theorem dX38_isTold_5 : decode cX38_isTold 5 = .ok (.aload_n 0, 1) := dc_42 (by decide +kernel)
theorem dX38_isTold_6 : decode cX38_isTold 6 = .ok (.getfield 78, 3) := dc_180 (a := 0) (b := 78) (n := 78) (by decide +kernel)
theorem dX38_isTold_9 : decode cX38_isTold 9 = .ok (.if_icmp .ge 29, 3) := dc_162 (a := 0) (b := 29) (v := 29) (by decide +kernel)
theorem dX38_isTold_12 : decode cX38_isTold 12 = .ok (.iload_n 2, 1) := dc_28 (by decide +kernel)
theorem dX38_isTold_13 : decode cX38_isTold 13 = .ok (.ifCond .ne 13, 3) := dc_154 (a := 0) (b := 13) (v := 13) (by decide +kernel)
theorem dX38_isTold_16 : decode cX38_isTold 16 = .ok (.aload_n 0, 1) := dc_42 (by decide +kernel)
theorem dX38_isTold_17 : decode cX38_isTold 17 = .ok (.getfield 36, 3) := dc_180 (a := 0) (b := 36) (n := 36) (by decide +kernel)
theorem dX38_isTold_20 : decode cX38_isTold 20 = .ok (.iload_n 3, 1) := dc_29 (by decide +kernel)
theorem dX38_isTold_21 : decode cX38_isTold 21 = .ok (.iaload, 1) := dc_46 (by decide +kernel)
theorem dX38_isTold_22 : decode cX38_isTold 22 = .ok (.iload_n 1, 1) := dc_27 (by decide +kernel)
theorem dX38_isTold_23 : decode cX38_isTold 23 = .ok (.if_icmp .ne 7, 3) := dc_160 (a := 0) (b := 7) (v := 7) (by decide +kernel)
theorem dX38_isTold_26 : decode cX38_isTold 26 = .ok (.iconst 1, 1) := dc_4 (by decide +kernel)
theorem dX38_isTold_27 : decode cX38_isTold 27 = .ok (.goto 4, 3) := dc_167 (a := 0) (b := 4) (v := 4) (by decide +kernel)
theorem dX38_isTold_30 : decode cX38_isTold 30 = .ok (.iconst 0, 1) := dc_3 (by decide +kernel)
theorem dX38_isTold_31 : decode cX38_isTold 31 = .ok (.istore_n 2, 1) := dc_61 (by decide +kernel)
theorem dX38_isTold_32 : decode cX38_isTold 32 = .ok (.iinc 3 1, 3) := dc_132 (a := 3) (b := 1) (v := 1) (by decide +kernel)
theorem dX38_isTold_35 : decode cX38_isTold 35 = .ok (.goto (-31), 3) := dc_167 (a := 255) (b := 225) (v := -31) (by decide +kernel)
theorem dX38_isTold_38 : decode cX38_isTold 38 = .ok (.iload_n 2, 1) := dc_28 (by decide +kernel)
theorem dX38_isTold_39 : decode cX38_isTold 39 = .ok (.ireturn, 1) := dc_172 (by decide +kernel)
theorem GX38_36 {w : eW} {d : Nat} {Y : eY} {pc : Nat} {ls : eL} {st : List Value} {h : eH} {Q : eO → eH → Prop} {a : Nat} {x : Nat} (hf : g_A 37 h a 12 = some x) (hd : decode Y.2.1 pc = .ok (.getfield 36, 3)) (hY : Y.1.cls = RX38) (kk : wp w d Y (pc + 3) ls (.ref x :: st) h Q) : wp w d Y pc ls (.ref a :: st) h Q := x_gA (ci := 37) (k := 12) hf hd rfl (by decide) (by rw [hY]; exact q4404) kk
theorem GX38_78 {w : eW} {d : Nat} {Y : eY} {pc : Nat} {ls : eL} {st : List Value} {h : eH} {Q : eO → eH → Prop} {a : Nat} {x : Int32} (hf : g_I 37 h a 11 = some x) (hd : decode Y.2.1 pc = .ok (.getfield 78, 3)) (hY : Y.1.cls = RX38) (kk : wp w d Y (pc + 3) ls (.int x :: st) h Q) : wp w d Y pc ls (.ref a :: st) h Q := x_gI (ci := 37) (k := 11) hf hd rfl (by decide) (by rw [hY]; exact q4403) kk
def fX38_isTold_b31 (N : Nat) (k4 : Nat → Int32 → Int32 → Int32 → eH → Option (Int32 × eH)) (l0 : Nat) (l1 : Int32) (l3 : Int32) (s0 : Int32) (h : eH) : Option (Int32 × eH) :=
  k4 l0 l1 s0 (l3 + (1 : Int32)) h
theorem pX38_isTold_b31 {w : eW} {d : Nat} (hd : 0 ≤ d) {N : Nat} {k4 : Nat → Int32 → Int32 → Int32 → eH → Option (Int32 × eH)} (hk4 : ∀ l0 l1 l2 l3 h q, k4 l0 l1 l2 l3 h = some q → wp w d YX38_isTold 4 [some (.ref l0), some (.int l1), some (.int l2), some (.int l3)] [] h (e_is (e_rn c_I q))) {l0 : Nat} {l1 : Int32} {l3 : Int32} {s0 : Int32} {h : eH} {q} (hf : fX38_isTold_b31 N k4 l0 l1 l3 s0 h = some q) : wp w d YX38_isTold 31 [some (.ref l0), some (.int l1), none, some (.int l3)] [.int s0] h (e_is (e_rn c_I q)) := by
  unfold fX38_isTold_b31 at hf
  refine w_istore_n dX38_isTold_31 rfl (by decide) (ls' := [some (.ref l0), some (.int l1), some (.int s0), some (.int l3)]) rfl ?_
  refine w_iinc dX38_isTold_32 (v := (l3 + (1 : Int32))) rfl rfl (by decide) (ls' := [some (.ref l0), some (.int l1), some (.int s0), some (.int (l3 + (1 : Int32)))]) rfl ?_
  refine w_goto 4 dX38_isTold_35 (by decide) ?_
  exact (hk4 _ _ _ _ _ _ hf).to ⟨rfl, rfl, rfl, rfl, trivial⟩
def fX38_isTold_b26 (N : Nat) (k4 : Nat → Int32 → Int32 → Int32 → eH → Option (Int32 × eH)) (l0 : Nat) (l1 : Int32) (l3 : Int32) (h : eH) : Option (Int32 × eH) :=
  fX38_isTold_b31 N k4 l0 l1 l3 (1 : Int32) h
theorem pX38_isTold_b26 {w : eW} {d : Nat} (hd : 0 ≤ d) {N : Nat} {k4 : Nat → Int32 → Int32 → Int32 → eH → Option (Int32 × eH)} (hk4 : ∀ l0 l1 l2 l3 h q, k4 l0 l1 l2 l3 h = some q → wp w d YX38_isTold 4 [some (.ref l0), some (.int l1), some (.int l2), some (.int l3)] [] h (e_is (e_rn c_I q))) {l0 : Nat} {l1 : Int32} {l3 : Int32} {h : eH} {q} (hf : fX38_isTold_b26 N k4 l0 l1 l3 h = some q) : wp w d YX38_isTold 26 [some (.ref l0), some (.int l1), none, some (.int l3)] [] h (e_is (e_rn c_I q)) := by
  unfold fX38_isTold_b26 at hf
  refine w_iconst dX38_isTold_26 (v := 1) (by decide) ?_
  refine w_goto 31 dX38_isTold_27 (by decide) ?_
  exact (pX38_isTold_b31 hd hk4 hf).to ⟨rfl, rfl, rfl, trivial⟩
def fX38_isTold_b4 (N : Nat) : Nat → Nat → Int32 → Int32 → Int32 → eH → Option (Int32 × eH)
  | 0, _, _, _, _, _ => none
  | n + 1, l0, l1, l2, l3, h =>
    (g_I 37 h l0 11).bind fun x1 =>
    if x1 ≤ l3 then
      z_r l2 (l2, h)
    else
      if ¬ l2 = 0 then
        fX38_isTold_b26 N (fX38_isTold_b4 N n) l0 l1 l3 h
      else
        (g_A 37 h l0 12).bind fun a6 =>
        (r_I 100 h a6 l3).bind fun x8 =>
        if ¬ x8 = l1 then
          fX38_isTold_b31 N (fX38_isTold_b4 N n) l0 l1 l3 (0 : Int32) h
        else
          fX38_isTold_b26 N (fX38_isTold_b4 N n) l0 l1 l3 h
theorem pX38_isTold_b4 {w : eW} {d : Nat} (hd : 0 ≤ d) {N : Nat} : ∀ (n : Nat) l0 l1 l2 l3 h q, fX38_isTold_b4 N n l0 l1 l2 l3 h = some q → wp w d YX38_isTold 4 [some (.ref l0), some (.int l1), some (.int l2), some (.int l3)] [] h (e_is (e_rn c_I q)) := by
  intro n
  induction n with
  | zero => intro l0 l1 l2 l3 h q hf; simp [fX38_isTold_b4] at hf
  | succ n ih =>
    intro l0 l1 l2 l3 h q hf
    rw [fX38_isTold_b4] at hf
    refine w_iload_n dX38_isTold_4 rfl rfl ?_
    refine w_aload_n dX38_isTold_5 rfl rfl ?_
    obtain ⟨x1, b2, hf⟩ := Option.bind_eq_some_iff.mp hf
    refine GX38_78 b2 dX38_isTold_6 rfl ?_
    refine w_icmp_ge 38 dX38_isTold_9 (by decide) (fun c3 => ?_) (fun c3 => ?_)
    · replace hf := (if_pos (show x1 ≤ l3 from c3)).symm.trans hf
      refine w_iload_n dX38_isTold_38 rfl rfl ?_
      obtain ⟨b4, rfl⟩ := z_r_some hf
      exact w_iret dX38_isTold_39 rfl b4 rfl
    · replace hf := (if_neg (show ¬ (x1 ≤ l3) from c3)).symm.trans hf
      refine w_iload_n dX38_isTold_12 rfl rfl ?_
      refine w_if_ne 26 dX38_isTold_13 (by decide) (fun c5 => ?_) (fun c5 => ?_)
      · replace hf := (if_pos (show ¬ l2 = 0 from c5)).symm.trans hf
        exact (pX38_isTold_b26 hd ih hf).to ⟨rfl, rfl, rfl, trivial⟩
      · replace hf := (if_neg (show ¬ (¬ l2 = 0) from (fun z => z c5))).symm.trans hf
        refine w_aload_n dX38_isTold_16 rfl rfl ?_
        obtain ⟨a6, b7, hf⟩ := Option.bind_eq_some_iff.mp hf
        refine GX38_36 b7 dX38_isTold_17 rfl ?_
        refine w_iload_n dX38_isTold_20 rfl rfl ?_
        obtain ⟨x8, b9, hf⟩ := Option.bind_eq_some_iff.mp hf
        refine x_rI b9 dX38_isTold_21 ?_
        refine w_iload_n dX38_isTold_22 rfl rfl ?_
        refine w_icmp_ne 30 dX38_isTold_23 (by decide) (fun c10 => ?_) (fun c10 => ?_)
        · replace hf := (if_pos (show ¬ x8 = l1 from c10)).symm.trans hf
          refine w_iconst dX38_isTold_30 (v := 0) (by decide) ?_
          exact (pX38_isTold_b31 hd ih hf).to ⟨rfl, rfl, rfl, trivial⟩
        · replace hf := (if_neg (show ¬ (¬ x8 = l1) from (fun z => z c10))).symm.trans hf
          exact (pX38_isTold_b26 hd ih hf).to ⟨rfl, rfl, rfl, trivial⟩
def fX38_isTold (N : Nat) (this : Nat) (p0 : Int32) (h : eH) : Option (Int32 × eH) :=
  fX38_isTold_b4 N N this p0 (0 : Int32) (0 : Int32) h
theorem pX38_isTold {w : eW} {d : Nat} (hd : 0 ≤ d) {N : Nat} {this : Nat} {p0 : Int32} {h : eH} {q} (hf : fX38_isTold N this p0 h = some q) : wm w d YX38_isTold [.ref this, .int p0] h (e_is (e_rn c_I q)) := by
  show wp w d YX38_isTold 0 [some (.ref this), some (.int p0), none, none] [] h _
  unfold fX38_isTold at hf
  refine w_iconst dX38_isTold_0 (v := 0) (by decide) ?_
  refine w_istore_n dX38_isTold_1 rfl (by decide) (ls' := [some (.ref this), some (.int p0), some (.int (0 : Int32)), none]) rfl ?_
  refine w_iconst dX38_isTold_2 (v := 0) (by decide) ?_
  refine w_istore_n dX38_isTold_3 rfl (by decide) (ls' := [some (.ref this), some (.int p0), some (.int (0 : Int32)), some (.int (0 : Int32))]) rfl ?_
  exact (pX38_isTold_b4 hd N _ _ _ _ _ _ hf).to ⟨rfl, rfl, rfl, rfl, trivial⟩
abbrev cX38_define : ByteArray := prog_39_method_11_code
def yX38_define : MethodName := ⟨RX38, "define", "(I)V"⟩
def YX38_define : eY := (yX38_define, cX38_define, 3, none, [])
theorem mX38_define : e_mv YX38_define RX38 1 := ⟨q5635, qs346, q5636, by decide, by decide +kernel, (e_sig (by decide +kernel))⟩
theorem dX38_define_0 : decode cX38_define 0 = .ok (.aload_n 0, 1) := dc_42 (by decide +kernel)
theorem dX38_define_1 : decode cX38_define 1 = .ok (.sipush 243, 3) := dc_17 (a := 0) (b := 243) (v := 243) (by decide +kernel)
theorem dX38_define_4 : decode cX38_define 4 = .ok (.invokevirtual 84, 3) := dc_182 (a := 0) (b := 84) (n := 84) (by decide +kernel)
theorem dX38_define_7 : decode cX38_define 7 = .ok (.aload_n 0, 1) := dc_42 (by decide +kernel)
theorem dX38_define_8 : decode cX38_define 8 = .ok (.iload_n 1, 1) := dc_27 (by decide +kernel)
theorem dX38_define_9 : decode cX38_define 9 = .ok (.invokevirtual 84, 3) := dc_182 (a := 0) (b := 84) (n := 84) (by decide +kernel)
theorem dX38_define_12 : decode cX38_define 12 = .ok (.aload_n 0, 1) := dc_42 (by decide +kernel)
theorem dX38_define_13 : decode cX38_define 13 = .ok (.aload_n 0, 1) := dc_42 (by decide +kernel)
theorem dX38_define_14 : decode cX38_define 14 = .ok (.getfield 9, 3) := dc_180 (a := 0) (b := 9) (n := 9) (by decide +kernel)
theorem dX38_define_17 : decode cX38_define 17 = .ok (.iload_n 1, 1) := dc_27 (by decide +kernel)
theorem dX38_define_18 : decode cX38_define 18 = .ok (.iaload, 1) := dc_46 (by decide +kernel)
theorem dX38_define_19 : decode cX38_define 19 = .ok (.iconst 4, 1) := dc_7 (by decide +kernel)
theorem dX38_define_20 : decode cX38_define 20 = .ok (.invokevirtual 102, 3) := dc_182 (a := 0) (b := 102) (n := 102) (by decide +kernel)
theorem dX38_define_23 : decode cX38_define 23 = .ok (.aload_n 0, 1) := dc_42 (by decide +kernel)
theorem dX38_define_24 : decode cX38_define 24 = .ok (.aload_n 0, 1) := dc_42 (by decide +kernel)
theorem dX38_define_25 : decode cX38_define 25 = .ok (.getfield 15, 3) := dc_180 (a := 0) (b := 15) (n := 15) (by decide +kernel)
theorem dX38_define_28 : decode cX38_define 28 = .ok (.iload_n 1, 1) := dc_27 (by decide +kernel)
theorem dX38_define_29 : decode cX38_define 29 = .ok (.iaload, 1) := dc_46 (by decide +kernel)
theorem dX38_define_30 : decode cX38_define 30 = .ok (.iconst 4, 1) := dc_7 (by decide +kernel)
theorem dX38_define_31 : decode cX38_define 31 = .ok (.invokevirtual 102, 3) := dc_182 (a := 0) (b := 102) (n := 102) (by decide +kernel)
theorem dX38_define_34 : decode cX38_define 34 = .ok (.aload_n 0, 1) := dc_42 (by decide +kernel)
theorem dX38_define_35 : decode cX38_define 35 = .ok (.aload_n 0, 1) := dc_42 (by decide +kernel)
theorem dX38_define_36 : decode cX38_define 36 = .ok (.getfield 18, 3) := dc_180 (a := 0) (b := 18) (n := 18) (by decide +kernel)
theorem dX38_define_39 : decode cX38_define 39 = .ok (.iload_n 1, 1) := dc_27 (by decide +kernel)
theorem dX38_define_40 : decode cX38_define 40 = .ok (.iaload, 1) := dc_46 (by decide +kernel)
theorem dX38_define_41 : decode cX38_define 41 = .ok (.iconst 4, 1) := dc_7 (by decide +kernel)
theorem dX38_define_42 : decode cX38_define 42 = .ok (.invokevirtual 102, 3) := dc_182 (a := 0) (b := 102) (n := 102) (by decide +kernel)
theorem dX38_define_45 : decode cX38_define 45 = .ok (.aload_n 0, 1) := dc_42 (by decide +kernel)
theorem dX38_define_46 : decode cX38_define 46 = .ok (.iconst 0, 1) := dc_3 (by decide +kernel)
theorem dX38_define_47 : decode cX38_define 47 = .ok (.invokevirtual 84, 3) := dc_182 (a := 0) (b := 84) (n := 84) (by decide +kernel)
theorem dX38_define_50 : decode cX38_define 50 = .ok (.aload_n 0, 1) := dc_42 (by decide +kernel)
theorem dX38_define_51 : decode cX38_define 51 = .ok (.getfield 21, 3) := dc_180 (a := 0) (b := 21) (n := 21) (by decide +kernel)
theorem dX38_define_54 : decode cX38_define 54 = .ok (.iload_n 1, 1) := dc_27 (by decide +kernel)
theorem dX38_define_55 : decode cX38_define 55 = .ok (.iaload, 1) := dc_46 (by decide +kernel)
theorem dX38_define_56 : decode cX38_define 56 = .ok (.bipush 9, 2) := dc_16 (a := 9) (v := 9) (by decide +kernel)
theorem dX38_define_58 : decode cX38_define 58 = .ok (.if_icmp .le 7, 3) := dc_164 (a := 0) (b := 7) (v := 7) (by decide +kernel)
theorem dX38_define_61 : decode cX38_define 61 = .ok (.iconst 1, 1) := dc_4 (by decide +kernel)
theorem dX38_define_62 : decode cX38_define 62 = .ok (.goto 4, 3) := dc_167 (a := 0) (b := 4) (v := 4) (by decide +kernel)
theorem dX38_define_65 : decode cX38_define 65 = .ok (.iconst 0, 1) := dc_3 (by decide +kernel)
theorem dX38_define_66 : decode cX38_define 66 = .ok (.istore_n 2, 1) := dc_61 (by decide +kernel)
theorem dX38_define_67 : decode cX38_define 67 = .ok (.aload_n 0, 1) := dc_42 (by decide +kernel)
theorem dX38_define_68 : decode cX38_define 68 = .ok (.iload_n 2, 1) := dc_28 (by decide +kernel)
theorem dX38_define_69 : decode cX38_define 69 = .ok (.ifCond .eq 8, 3) := dc_153 (a := 0) (b := 8) (v := 8) (by decide +kernel)
theorem dX38_define_72 : decode cX38_define 72 = .ok (.bipush 6, 2) := dc_16 (a := 6) (v := 6) (by decide +kernel)
theorem dX38_define_74 : decode cX38_define 74 = .ok (.goto 4, 3) := dc_167 (a := 0) (b := 4) (v := 4) (by decide +kernel)
theorem dX38_define_77 : decode cX38_define 77 = .ok (.iconst 5, 1) := dc_8 (by decide +kernel)
theorem dX38_define_78 : decode cX38_define 78 = .ok (.invokevirtual 84, 3) := dc_182 (a := 0) (b := 84) (n := 84) (by decide +kernel)
theorem dX38_define_81 : decode cX38_define 81 = .ok (.aload_n 0, 1) := dc_42 (by decide +kernel)
theorem dX38_define_82 : decode cX38_define 82 = .ok (.bipush 102, 2) := dc_16 (a := 102) (v := 102) (by decide +kernel)
theorem dX38_define_84 : decode cX38_define 84 = .ok (.invokevirtual 84, 3) := dc_182 (a := 0) (b := 84) (n := 84) (by decide +kernel)
theorem dX38_define_87 : decode cX38_define 87 = .ok (.aload_n 0, 1) := dc_42 (by decide +kernel)
theorem dX38_define_88 : decode cX38_define 88 = .ok (.bipush 111, 2) := dc_16 (a := 111) (v := 111) (by decide +kernel)
theorem dX38_define_90 : decode cX38_define 90 = .ok (.invokevirtual 84, 3) := dc_182 (a := 0) (b := 84) (n := 84) (by decide +kernel)
theorem dX38_define_93 : decode cX38_define 93 = .ok (.aload_n 0, 1) := dc_42 (by decide +kernel)
theorem dX38_define_94 : decode cX38_define 94 = .ok (.bipush 110, 2) := dc_16 (a := 110) (v := 110) (by decide +kernel)
theorem dX38_define_96 : decode cX38_define 96 = .ok (.invokevirtual 84, 3) := dc_182 (a := 0) (b := 84) (n := 84) (by decide +kernel)
theorem dX38_define_99 : decode cX38_define 99 = .ok (.aload_n 0, 1) := dc_42 (by decide +kernel)
theorem dX38_define_100 : decode cX38_define 100 = .ok (.bipush 116, 2) := dc_16 (a := 116) (v := 116) (by decide +kernel)
theorem dX38_define_102 : decode cX38_define 102 = .ok (.invokevirtual 84, 3) := dc_182 (a := 0) (b := 84) (n := 84) (by decide +kernel)
theorem dX38_define_105 : decode cX38_define 105 = .ok (.iload_n 2, 1) := dc_28 (by decide +kernel)
theorem dX38_define_106 : decode cX38_define 106 = .ok (.ifCond .eq 9, 3) := dc_153 (a := 0) (b := 9) (v := 9) (by decide +kernel)
theorem dX38_define_109 : decode cX38_define 109 = .ok (.aload_n 0, 1) := dc_42 (by decide +kernel)
theorem dX38_define_110 : decode cX38_define 110 = .ok (.bipush 49, 2) := dc_16 (a := 49) (v := 49) (by decide +kernel)
theorem dX38_define_112 : decode cX38_define 112 = .ok (.invokevirtual 84, 3) := dc_182 (a := 0) (b := 84) (n := 84) (by decide +kernel)
theorem dX38_define_115 : decode cX38_define 115 = .ok (.aload_n 0, 1) := dc_42 (by decide +kernel)
theorem dX38_define_116 : decode cX38_define 116 = .ok (.bipush 48, 2) := dc_16 (a := 48) (v := 48) (by decide +kernel)
theorem dX38_define_118 : decode cX38_define 118 = .ok (.aload_n 0, 1) := dc_42 (by decide +kernel)
theorem dX38_define_119 : decode cX38_define 119 = .ok (.getfield 21, 3) := dc_180 (a := 0) (b := 21) (n := 21) (by decide +kernel)
theorem dX38_define_122 : decode cX38_define 122 = .ok (.iload_n 1, 1) := dc_27 (by decide +kernel)
theorem dX38_define_123 : decode cX38_define 123 = .ok (.iaload, 1) := dc_46 (by decide +kernel)
theorem dX38_define_124 : decode cX38_define 124 = .ok (.bipush 10, 2) := dc_16 (a := 10) (v := 10) (by decide +kernel)
theorem dX38_define_126 : decode cX38_define 126 = .ok (.irem, 1) := dc_112 (by decide +kernel)
theorem dX38_define_127 : decode cX38_define 127 = .ok (.iadd, 1) := dc_96 (by decide +kernel)
theorem dX38_define_128 : decode cX38_define 128 = .ok (.invokevirtual 84, 3) := dc_182 (a := 0) (b := 84) (n := 84) (by decide +kernel)
theorem dX38_define_131 : decode cX38_define 131 = .ok (.return_, 1) := dc_177 (by decide +kernel)
theorem GX38_15 {w : eW} {d : Nat} {Y : eY} {pc : Nat} {ls : eL} {st : List Value} {h : eH} {Q : eO → eH → Prop} {a : Nat} {x : Nat} (hf : g_A 37 h a 1 = some x) (hd : decode Y.2.1 pc = .ok (.getfield 15, 3)) (hY : Y.1.cls = RX38) (kk : wp w d Y (pc + 3) ls (.ref x :: st) h Q) : wp w d Y pc ls (.ref a :: st) h Q := x_gA (ci := 37) (k := 1) hf hd rfl (by decide) (by rw [hY]; exact q4390) kk
theorem GX38_18 {w : eW} {d : Nat} {Y : eY} {pc : Nat} {ls : eL} {st : List Value} {h : eH} {Q : eO → eH → Prop} {a : Nat} {x : Nat} (hf : g_A 37 h a 2 = some x) (hd : decode Y.2.1 pc = .ok (.getfield 18, 3)) (hY : Y.1.cls = RX38) (kk : wp w d Y (pc + 3) ls (.ref x :: st) h Q) : wp w d Y pc ls (.ref a :: st) h Q := x_gA (ci := 37) (k := 2) hf hd rfl (by decide) (by rw [hY]; exact q4391) kk
theorem GX38_21 {w : eW} {d : Nat} {Y : eY} {pc : Nat} {ls : eL} {st : List Value} {h : eH} {Q : eO → eH → Prop} {a : Nat} {x : Nat} (hf : g_A 37 h a 3 = some x) (hd : decode Y.2.1 pc = .ok (.getfield 21, 3)) (hY : Y.1.cls = RX38) (kk : wp w d Y (pc + 3) ls (.ref x :: st) h Q) : wp w d Y pc ls (.ref a :: st) h Q := x_gA (ci := 37) (k := 3) hf hd rfl (by decide) (by rw [hY]; exact q4392) kk
theorem GX38_9 {w : eW} {d : Nat} {Y : eY} {pc : Nat} {ls : eL} {st : List Value} {h : eH} {Q : eO → eH → Prop} {a : Nat} {x : Nat} (hf : g_A 37 h a 0 = some x) (hd : decode Y.2.1 pc = .ok (.getfield 9, 3)) (hY : Y.1.cls = RX38) (kk : wp w d Y (pc + 3) ls (.ref x :: st) h Q) : wp w d Y pc ls (.ref a :: st) h Q := x_gA (ci := 37) (k := 0) hf hd rfl (by decide) (by rw [hY]; exact q4389) kk
def fX38_define_b115 (N : Nat) (l0 : Nat) (l1 : Int32) (h : eH) : Option (Unit × eH) :=
  (g_A 37 h l0 3).bind fun a1 =>
  (r_I 100 h a1 l1).bind fun x3 =>
  (k_ok 37 h l0).bind fun _ =>
  (fX38_lay l0 ((48 : Int32) + (x3 - x3 / (10 : Int32) * (10 : Int32))) h).bind fun q6 =>
  some ((), q6.2)
theorem pX38_define_b115 {w : eW} {d : Nat} (hd : 2 ≤ d + 1) {N : Nat} {l0 : Nat} {l1 : Int32} {h : eH} {q} (hf : fX38_define_b115 N l0 l1 h = some q) : wp w (d + 1) YX38_define 115 [some (.ref l0), some (.int l1), none] [] h (e_is (e_rn c_V q)) := by
  unfold fX38_define_b115 at hf
  refine w_aload_n dX38_define_115 rfl rfl ?_
  refine w_bipush dX38_define_116 (v := 48) (by decide) ?_
  refine w_aload_n dX38_define_118 rfl rfl ?_
  obtain ⟨a1, b2, hf⟩ := Option.bind_eq_some_iff.mp hf
  refine GX38_21 b2 dX38_define_119 rfl ?_
  refine w_iload_n dX38_define_122 rfl rfl ?_
  obtain ⟨x3, b4, hf⟩ := Option.bind_eq_some_iff.mp hf
  refine x_rI b4 dX38_define_123 ?_
  refine w_bipush dX38_define_124 (v := 10) (by decide) ?_
  refine w_irem dX38_define_126 (by decide) ?_
  refine w_iadd dX38_define_127 ?_
  obtain ⟨_, b5, hf⟩ := Option.bind_eq_some_iff.mp hf
  refine x_cnV hf (e_stV (Yc := YX38_lay) (ci := 37) (av := [.int ((48 : Int32) + (x3 - x3 / (10 : Int32) * (10 : Int32)))]) (st := []) dX38_define_128 q5067 mX38_lay rfl (k_ok_some b5).1 (k_ok_some b5).2) mX38_lay.2.2.1 mX38_lay.2.2.2.2.1 (Nat.le_of_ble_eq_true rfl) (Nat.le_of_ble_eq_true rfl) (fun q hq => pX38_lay (by omega) hq) (fun q6 hf => ?_)
  cases hf
  exact w_vret dX38_define_131 rfl rfl
def fX38_define_b78 (N : Nat) (l0 : Nat) (l1 : Int32) (l2 : Int32) (s0 : Nat) (s1 : Int32) (h : eH) : Option (Unit × eH) :=
  (k_ok 37 h s0).bind fun _ =>
  (fX38_lay s0 s1 h).bind fun q2 =>
  (k_ok 37 q2.2 l0).bind fun _ =>
  (fX38_lay l0 (102 : Int32) q2.2).bind fun q4 =>
  (k_ok 37 q4.2 l0).bind fun _ =>
  (fX38_lay l0 (111 : Int32) q4.2).bind fun q6 =>
  (k_ok 37 q6.2 l0).bind fun _ =>
  (fX38_lay l0 (110 : Int32) q6.2).bind fun q8 =>
  (k_ok 37 q8.2 l0).bind fun _ =>
  (fX38_lay l0 (116 : Int32) q8.2).bind fun q10 =>
  if l2 = 0 then
    fX38_define_b115 N l0 l1 q10.2
  else
    (k_ok 37 q10.2 l0).bind fun _ =>
    (fX38_lay l0 (49 : Int32) q10.2).bind fun q13 =>
    fX38_define_b115 N l0 l1 q13.2
theorem pX38_define_b78 {w : eW} {d : Nat} (hd : 2 ≤ d + 1) {N : Nat} {l0 : Nat} {l1 : Int32} {l2 : Int32} {s0 : Nat} {s1 : Int32} {h : eH} {q} (hf : fX38_define_b78 N l0 l1 l2 s0 s1 h = some q) : wp w (d + 1) YX38_define 78 [some (.ref l0), some (.int l1), some (.int l2)] [.int s1, .ref s0] h (e_is (e_rn c_V q)) := by
  unfold fX38_define_b78 at hf
  obtain ⟨_, b1, hf⟩ := Option.bind_eq_some_iff.mp hf
  refine x_cnV hf (e_stV (Yc := YX38_lay) (ci := 37) (av := [.int s1]) (st := []) dX38_define_78 q5067 mX38_lay rfl (k_ok_some b1).1 (k_ok_some b1).2) mX38_lay.2.2.1 mX38_lay.2.2.2.2.1 (Nat.le_of_ble_eq_true rfl) (Nat.le_of_ble_eq_true rfl) (fun q hq => pX38_lay (by omega) hq) (fun q2 hf => ?_)
  refine w_aload_n dX38_define_81 rfl rfl ?_
  refine w_bipush dX38_define_82 (v := 102) (by decide) ?_
  obtain ⟨_, b3, hf⟩ := Option.bind_eq_some_iff.mp hf
  refine x_cnV hf (e_stV (Yc := YX38_lay) (ci := 37) (av := [.int (102 : Int32)]) (st := []) dX38_define_84 q5067 mX38_lay rfl (k_ok_some b3).1 (k_ok_some b3).2) mX38_lay.2.2.1 mX38_lay.2.2.2.2.1 (Nat.le_of_ble_eq_true rfl) (Nat.le_of_ble_eq_true rfl) (fun q hq => pX38_lay (by omega) hq) (fun q4 hf => ?_)
  refine w_aload_n dX38_define_87 rfl rfl ?_
  refine w_bipush dX38_define_88 (v := 111) (by decide) ?_
  obtain ⟨_, b5, hf⟩ := Option.bind_eq_some_iff.mp hf
  refine x_cnV hf (e_stV (Yc := YX38_lay) (ci := 37) (av := [.int (111 : Int32)]) (st := []) dX38_define_90 q5067 mX38_lay rfl (k_ok_some b5).1 (k_ok_some b5).2) mX38_lay.2.2.1 mX38_lay.2.2.2.2.1 (Nat.le_of_ble_eq_true rfl) (Nat.le_of_ble_eq_true rfl) (fun q hq => pX38_lay (by omega) hq) (fun q6 hf => ?_)
  refine w_aload_n dX38_define_93 rfl rfl ?_
  refine w_bipush dX38_define_94 (v := 110) (by decide) ?_
  obtain ⟨_, b7, hf⟩ := Option.bind_eq_some_iff.mp hf
  refine x_cnV hf (e_stV (Yc := YX38_lay) (ci := 37) (av := [.int (110 : Int32)]) (st := []) dX38_define_96 q5067 mX38_lay rfl (k_ok_some b7).1 (k_ok_some b7).2) mX38_lay.2.2.1 mX38_lay.2.2.2.2.1 (Nat.le_of_ble_eq_true rfl) (Nat.le_of_ble_eq_true rfl) (fun q hq => pX38_lay (by omega) hq) (fun q8 hf => ?_)
  refine w_aload_n dX38_define_99 rfl rfl ?_
  refine w_bipush dX38_define_100 (v := 116) (by decide) ?_
  obtain ⟨_, b9, hf⟩ := Option.bind_eq_some_iff.mp hf
  refine x_cnV hf (e_stV (Yc := YX38_lay) (ci := 37) (av := [.int (116 : Int32)]) (st := []) dX38_define_102 q5067 mX38_lay rfl (k_ok_some b9).1 (k_ok_some b9).2) mX38_lay.2.2.1 mX38_lay.2.2.2.2.1 (Nat.le_of_ble_eq_true rfl) (Nat.le_of_ble_eq_true rfl) (fun q hq => pX38_lay (by omega) hq) (fun q10 hf => ?_)
  refine w_iload_n dX38_define_105 rfl rfl ?_
  refine w_if_eq 115 dX38_define_106 (by decide) (fun c11 => ?_) (fun c11 => ?_)
  · replace hf := (if_pos (show l2 = 0 from c11)).symm.trans hf
    exact (pX38_define_b115 hd hf).to ⟨rfl, rfl, trivial⟩
  · replace hf := (if_neg (show ¬ (l2 = 0) from c11)).symm.trans hf
    refine w_aload_n dX38_define_109 rfl rfl ?_
    refine w_bipush dX38_define_110 (v := 49) (by decide) ?_
    obtain ⟨_, b12, hf⟩ := Option.bind_eq_some_iff.mp hf
    refine x_cnV hf (e_stV (Yc := YX38_lay) (ci := 37) (av := [.int (49 : Int32)]) (st := []) dX38_define_112 q5067 mX38_lay rfl (k_ok_some b12).1 (k_ok_some b12).2) mX38_lay.2.2.1 mX38_lay.2.2.2.2.1 (Nat.le_of_ble_eq_true rfl) (Nat.le_of_ble_eq_true rfl) (fun q hq => pX38_lay (by omega) hq) (fun q13 hf => ?_)
    exact (pX38_define_b115 hd hf).to ⟨rfl, rfl, trivial⟩
def fX38_define_b66 (N : Nat) (l0 : Nat) (l1 : Int32) (s0 : Int32) (h : eH) : Option (Unit × eH) :=
  if s0 = 0 then
    fX38_define_b78 N l0 l1 s0 l0 (5 : Int32) h
  else
    fX38_define_b78 N l0 l1 s0 l0 (6 : Int32) h
theorem pX38_define_b66 {w : eW} {d : Nat} (hd : 2 ≤ d + 1) {N : Nat} {l0 : Nat} {l1 : Int32} {s0 : Int32} {h : eH} {q} (hf : fX38_define_b66 N l0 l1 s0 h = some q) : wp w (d + 1) YX38_define 66 [some (.ref l0), some (.int l1), none] [.int s0] h (e_is (e_rn c_V q)) := by
  unfold fX38_define_b66 at hf
  refine w_istore_n dX38_define_66 rfl (by decide) (ls' := [some (.ref l0), some (.int l1), some (.int s0)]) rfl ?_
  refine w_aload_n dX38_define_67 rfl rfl ?_
  refine w_iload_n dX38_define_68 rfl rfl ?_
  refine w_if_eq 77 dX38_define_69 (by decide) (fun c1 => ?_) (fun c1 => ?_)
  · replace hf := (if_pos (show s0 = 0 from c1)).symm.trans hf
    refine w_iconst dX38_define_77 (v := 5) (by decide) ?_
    exact (pX38_define_b78 hd hf).to ⟨rfl, rfl, rfl, trivial⟩
  · replace hf := (if_neg (show ¬ (s0 = 0) from c1)).symm.trans hf
    refine w_bipush dX38_define_72 (v := 6) (by decide) ?_
    refine w_goto 78 dX38_define_74 (by decide) ?_
    exact (pX38_define_b78 hd hf).to ⟨rfl, rfl, rfl, trivial⟩
def fX38_define (N : Nat) (this : Nat) (p0 : Int32) (h : eH) : Option (Unit × eH) :=
  (k_ok 37 h this).bind fun _ =>
  (fX38_lay this (243 : Int32) h).bind fun q2 =>
  (k_ok 37 q2.2 this).bind fun _ =>
  (fX38_lay this p0 q2.2).bind fun q4 =>
  (g_A 37 q4.2 this 0).bind fun a5 =>
  (r_I 100 q4.2 a5 p0).bind fun x7 =>
  (k_ok 37 q4.2 this).bind fun _ =>
  (fX38_layNumber N this x7 (4 : Int32) q4.2).bind fun q10 =>
  (g_A 37 q10.2 this 1).bind fun a11 =>
  (r_I 100 q10.2 a11 p0).bind fun x13 =>
  (k_ok 37 q10.2 this).bind fun _ =>
  (fX38_layNumber N this x13 (4 : Int32) q10.2).bind fun q16 =>
  (g_A 37 q16.2 this 2).bind fun a17 =>
  (r_I 100 q16.2 a17 p0).bind fun x19 =>
  (k_ok 37 q16.2 this).bind fun _ =>
  (fX38_layNumber N this x19 (4 : Int32) q16.2).bind fun q22 =>
  (k_ok 37 q22.2 this).bind fun _ =>
  (fX38_lay this (0 : Int32) q22.2).bind fun q24 =>
  (g_A 37 q24.2 this 3).bind fun a25 =>
  (r_I 100 q24.2 a25 p0).bind fun x27 =>
  if x27 ≤ (9 : Int32) then
    fX38_define_b66 N this p0 (0 : Int32) q24.2
  else
    fX38_define_b66 N this p0 (1 : Int32) q24.2
theorem pX38_define {w : eW} {d : Nat} (hd : 2 ≤ d) {N : Nat} {this : Nat} {p0 : Int32} {h : eH} {q} (hf : fX38_define N this p0 h = some q) : wm w d YX38_define [.ref this, .int p0] h (e_is (e_rn c_V q)) := by
  obtain ⟨d, rfl⟩ : ∃ e, d = e + 1 := ⟨d - 1, by omega⟩
  show wp w (d + 1) YX38_define 0 [some (.ref this), some (.int p0), none] [] h _
  unfold fX38_define at hf
  refine w_aload_n dX38_define_0 rfl rfl ?_
  refine w_sipush dX38_define_1 (v := 243) (by decide) ?_
  obtain ⟨_, b1, hf⟩ := Option.bind_eq_some_iff.mp hf
  refine x_cnV hf (e_stV (Yc := YX38_lay) (ci := 37) (av := [.int (243 : Int32)]) (st := []) dX38_define_4 q5067 mX38_lay rfl (k_ok_some b1).1 (k_ok_some b1).2) mX38_lay.2.2.1 mX38_lay.2.2.2.2.1 (Nat.le_of_ble_eq_true rfl) (Nat.le_of_ble_eq_true rfl) (fun q hq => pX38_lay (by omega) hq) (fun q2 hf => ?_)
  refine w_aload_n dX38_define_7 rfl rfl ?_
  refine w_iload_n dX38_define_8 rfl rfl ?_
  obtain ⟨_, b3, hf⟩ := Option.bind_eq_some_iff.mp hf
  refine x_cnV hf (e_stV (Yc := YX38_lay) (ci := 37) (av := [.int p0]) (st := []) dX38_define_9 q5067 mX38_lay rfl (k_ok_some b3).1 (k_ok_some b3).2) mX38_lay.2.2.1 mX38_lay.2.2.2.2.1 (Nat.le_of_ble_eq_true rfl) (Nat.le_of_ble_eq_true rfl) (fun q hq => pX38_lay (by omega) hq) (fun q4 hf => ?_)
  refine w_aload_n dX38_define_12 rfl rfl ?_
  refine w_aload_n dX38_define_13 rfl rfl ?_
  obtain ⟨a5, b6, hf⟩ := Option.bind_eq_some_iff.mp hf
  refine GX38_9 b6 dX38_define_14 rfl ?_
  refine w_iload_n dX38_define_17 rfl rfl ?_
  obtain ⟨x7, b8, hf⟩ := Option.bind_eq_some_iff.mp hf
  refine x_rI b8 dX38_define_18 ?_
  refine w_iconst dX38_define_19 (v := 4) (by decide) ?_
  obtain ⟨_, b9, hf⟩ := Option.bind_eq_some_iff.mp hf
  refine x_cnV hf (e_stV (Yc := YX38_layNumber) (ci := 37) (av := [.int x7, .int (4 : Int32)]) (st := []) dX38_define_20 q5072 mX38_layNumber rfl (k_ok_some b9).1 (k_ok_some b9).2) mX38_layNumber.2.2.1 mX38_layNumber.2.2.2.2.1 (Nat.le_of_ble_eq_true rfl) (Nat.le_of_ble_eq_true rfl) (fun q hq => pX38_layNumber (by omega) hq) (fun q10 hf => ?_)
  refine w_aload_n dX38_define_23 rfl rfl ?_
  refine w_aload_n dX38_define_24 rfl rfl ?_
  obtain ⟨a11, b12, hf⟩ := Option.bind_eq_some_iff.mp hf
  refine GX38_15 b12 dX38_define_25 rfl ?_
  refine w_iload_n dX38_define_28 rfl rfl ?_
  obtain ⟨x13, b14, hf⟩ := Option.bind_eq_some_iff.mp hf
  refine x_rI b14 dX38_define_29 ?_
  refine w_iconst dX38_define_30 (v := 4) (by decide) ?_
  obtain ⟨_, b15, hf⟩ := Option.bind_eq_some_iff.mp hf
  refine x_cnV hf (e_stV (Yc := YX38_layNumber) (ci := 37) (av := [.int x13, .int (4 : Int32)]) (st := []) dX38_define_31 q5072 mX38_layNumber rfl (k_ok_some b15).1 (k_ok_some b15).2) mX38_layNumber.2.2.1 mX38_layNumber.2.2.2.2.1 (Nat.le_of_ble_eq_true rfl) (Nat.le_of_ble_eq_true rfl) (fun q hq => pX38_layNumber (by omega) hq) (fun q16 hf => ?_)
  refine w_aload_n dX38_define_34 rfl rfl ?_
  refine w_aload_n dX38_define_35 rfl rfl ?_
  obtain ⟨a17, b18, hf⟩ := Option.bind_eq_some_iff.mp hf
  refine GX38_18 b18 dX38_define_36 rfl ?_
  refine w_iload_n dX38_define_39 rfl rfl ?_
  obtain ⟨x19, b20, hf⟩ := Option.bind_eq_some_iff.mp hf
  refine x_rI b20 dX38_define_40 ?_
  refine w_iconst dX38_define_41 (v := 4) (by decide) ?_
  obtain ⟨_, b21, hf⟩ := Option.bind_eq_some_iff.mp hf
  refine x_cnV hf (e_stV (Yc := YX38_layNumber) (ci := 37) (av := [.int x19, .int (4 : Int32)]) (st := []) dX38_define_42 q5072 mX38_layNumber rfl (k_ok_some b21).1 (k_ok_some b21).2) mX38_layNumber.2.2.1 mX38_layNumber.2.2.2.2.1 (Nat.le_of_ble_eq_true rfl) (Nat.le_of_ble_eq_true rfl) (fun q hq => pX38_layNumber (by omega) hq) (fun q22 hf => ?_)
  refine w_aload_n dX38_define_45 rfl rfl ?_
  refine w_iconst dX38_define_46 (v := 0) (by decide) ?_
  obtain ⟨_, b23, hf⟩ := Option.bind_eq_some_iff.mp hf
  refine x_cnV hf (e_stV (Yc := YX38_lay) (ci := 37) (av := [.int (0 : Int32)]) (st := []) dX38_define_47 q5067 mX38_lay rfl (k_ok_some b23).1 (k_ok_some b23).2) mX38_lay.2.2.1 mX38_lay.2.2.2.2.1 (Nat.le_of_ble_eq_true rfl) (Nat.le_of_ble_eq_true rfl) (fun q hq => pX38_lay (by omega) hq) (fun q24 hf => ?_)
  refine w_aload_n dX38_define_50 rfl rfl ?_
  obtain ⟨a25, b26, hf⟩ := Option.bind_eq_some_iff.mp hf
  refine GX38_21 b26 dX38_define_51 rfl ?_
  refine w_iload_n dX38_define_54 rfl rfl ?_
  obtain ⟨x27, b28, hf⟩ := Option.bind_eq_some_iff.mp hf
  refine x_rI b28 dX38_define_55 ?_
  refine w_bipush dX38_define_56 (v := 9) (by decide) ?_
  refine w_icmp_le 65 dX38_define_58 (by decide) (fun c29 => ?_) (fun c29 => ?_)
  · replace hf := (if_pos (show x27 ≤ (9 : Int32) from c29)).symm.trans hf
    refine w_iconst dX38_define_65 (v := 0) (by decide) ?_
    exact (pX38_define_b66 hd hf).to ⟨rfl, rfl, trivial⟩
  · replace hf := (if_neg (show ¬ (x27 ≤ (9 : Int32)) from c29)).symm.trans hf
    refine w_iconst dX38_define_61 (v := 1) (by decide) ?_
    refine w_goto 66 dX38_define_62 (by decide) ?_
    exact (pX38_define_b66 hd hf).to ⟨rfl, rfl, trivial⟩
abbrev cX38_character : ByteArray := prog_39_method_13_code
def yX38_character : MethodName := ⟨RX38, "character", "(III)V"⟩
def YX38_character : eY := (yX38_character, cX38_character, 4, none, [])
theorem mX38_character : e_mv YX38_character RX38 3 := ⟨q5627, qs344, q5628, by decide, by decide +kernel, (e_sig (by decide +kernel))⟩
theorem dX38_character_0 : decode cX38_character 0 = .ok (.iload_n 1, 1) := dc_27 (by decide +kernel)
theorem dX38_character_1 : decode cX38_character 1 = .ok (.iload_n 3, 1) := dc_29 (by decide +kernel)
theorem dX38_character_2 : decode cX38_character 2 = .ok (.if_icmp .eq 68, 3) := dc_159 (a := 0) (b := 68) (v := 68) (by decide +kernel)
theorem dX38_character_5 : decode cX38_character 5 = .ok (.aload_n 0, 1) := dc_42 (by decide +kernel)
theorem dX38_character_6 : decode cX38_character 6 = .ok (.iload_n 1, 1) := dc_27 (by decide +kernel)
theorem dX38_character_7 : decode cX38_character 7 = .ok (.invokevirtual 108, 3) := dc_182 (a := 0) (b := 108) (n := 108) (by decide +kernel)
theorem dX38_character_10 : decode cX38_character 10 = .ok (.ifCond .ne 28, 3) := dc_154 (a := 0) (b := 28) (v := 28) (by decide +kernel)
theorem dX38_character_13 : decode cX38_character 13 = .ok (.aload_n 0, 1) := dc_42 (by decide +kernel)
theorem dX38_character_14 : decode cX38_character 14 = .ok (.iload_n 1, 1) := dc_27 (by decide +kernel)
theorem dX38_character_15 : decode cX38_character 15 = .ok (.invokevirtual 112, 3) := dc_182 (a := 0) (b := 112) (n := 112) (by decide +kernel)
theorem dX38_character_18 : decode cX38_character 18 = .ok (.aload_n 0, 1) := dc_42 (by decide +kernel)
theorem dX38_character_19 : decode cX38_character 19 = .ok (.getfield 36, 3) := dc_180 (a := 0) (b := 36) (n := 36) (by decide +kernel)
theorem dX38_character_22 : decode cX38_character 22 = .ok (.aload_n 0, 1) := dc_42 (by decide +kernel)
theorem dX38_character_23 : decode cX38_character 23 = .ok (.getfield 78, 3) := dc_180 (a := 0) (b := 78) (n := 78) (by decide +kernel)
theorem dX38_character_26 : decode cX38_character 26 = .ok (.iload_n 1, 1) := dc_27 (by decide +kernel)
theorem dX38_character_27 : decode cX38_character 27 = .ok (.iastore, 1) := dc_79 (by decide +kernel)
theorem dX38_character_28 : decode cX38_character 28 = .ok (.aload_n 0, 1) := dc_42 (by decide +kernel)
theorem dX38_character_29 : decode cX38_character 29 = .ok (.dup, 1) := dc_89 (by decide +kernel)
theorem dX38_character_30 : decode cX38_character 30 = .ok (.getfield 78, 3) := dc_180 (a := 0) (b := 78) (n := 78) (by decide +kernel)
theorem dX38_character_33 : decode cX38_character 33 = .ok (.iconst 1, 1) := dc_4 (by decide +kernel)
theorem dX38_character_34 : decode cX38_character 34 = .ok (.iadd, 1) := dc_96 (by decide +kernel)
theorem dX38_character_35 : decode cX38_character 35 = .ok (.putfield 78, 3) := dc_181 (a := 0) (b := 78) (n := 78) (by decide +kernel)
theorem dX38_character_38 : decode cX38_character 38 = .ok (.aload_n 0, 1) := dc_42 (by decide +kernel)
theorem dX38_character_39 : decode cX38_character 39 = .ok (.iload_n 1, 1) := dc_27 (by decide +kernel)
theorem dX38_character_40 : decode cX38_character 40 = .ok (.bipush 64, 2) := dc_16 (a := 64) (v := 64) (by decide +kernel)
theorem dX38_character_42 : decode cX38_character 42 = .ok (.if_icmp .ge 11, 3) := dc_162 (a := 0) (b := 11) (v := 11) (by decide +kernel)
theorem dX38_character_45 : decode cX38_character 45 = .ok (.sipush 171, 3) := dc_17 (a := 0) (b := 171) (v := 171) (by decide +kernel)
theorem dX38_character_48 : decode cX38_character 48 = .ok (.iload_n 1, 1) := dc_27 (by decide +kernel)
theorem dX38_character_49 : decode cX38_character 49 = .ok (.iadd, 1) := dc_96 (by decide +kernel)
theorem dX38_character_50 : decode cX38_character 50 = .ok (.goto 6, 3) := dc_167 (a := 0) (b := 6) (v := 6) (by decide +kernel)
theorem dX38_character_53 : decode cX38_character 53 = .ok (.sipush 235, 3) := dc_17 (a := 0) (b := 235) (v := 235) (by decide +kernel)
theorem dX38_character_56 : decode cX38_character 56 = .ok (.invokevirtual 84, 3) := dc_182 (a := 0) (b := 84) (n := 84) (by decide +kernel)
theorem dX38_character_59 : decode cX38_character 59 = .ok (.iload_n 1, 1) := dc_27 (by decide +kernel)
theorem dX38_character_60 : decode cX38_character 60 = .ok (.bipush 63, 2) := dc_16 (a := 63) (v := 63) (by decide +kernel)
theorem dX38_character_62 : decode cX38_character 62 = .ok (.if_icmp .le 8, 3) := dc_164 (a := 0) (b := 8) (v := 8) (by decide +kernel)
theorem dX38_character_65 : decode cX38_character 65 = .ok (.aload_n 0, 1) := dc_42 (by decide +kernel)
theorem dX38_character_66 : decode cX38_character 66 = .ok (.iload_n 1, 1) := dc_27 (by decide +kernel)
theorem dX38_character_67 : decode cX38_character 67 = .ok (.invokevirtual 84, 3) := dc_182 (a := 0) (b := 84) (n := 84) (by decide +kernel)
theorem dX38_character_70 : decode cX38_character 70 = .ok (.iload_n 2, 1) := dc_28 (by decide +kernel)
theorem dX38_character_71 : decode cX38_character 71 = .ok (.bipush 127, 2) := dc_16 (a := 127) (v := 127) (by decide +kernel)
theorem dX38_character_73 : decode cX38_character 73 = .ok (.if_icmp .le 10, 3) := dc_164 (a := 0) (b := 10) (v := 10) (by decide +kernel)
theorem dX38_character_76 : decode cX38_character 76 = .ok (.aload_n 0, 1) := dc_42 (by decide +kernel)
theorem dX38_character_77 : decode cX38_character 77 = .ok (.sipush 128, 3) := dc_17 (a := 0) (b := 128) (v := 128) (by decide +kernel)
theorem dX38_character_80 : decode cX38_character 80 = .ok (.invokevirtual 84, 3) := dc_182 (a := 0) (b := 84) (n := 84) (by decide +kernel)
theorem dX38_character_83 : decode cX38_character 83 = .ok (.aload_n 0, 1) := dc_42 (by decide +kernel)
theorem dX38_character_84 : decode cX38_character 84 = .ok (.iload_n 2, 1) := dc_28 (by decide +kernel)
theorem dX38_character_85 : decode cX38_character 85 = .ok (.invokevirtual 84, 3) := dc_182 (a := 0) (b := 84) (n := 84) (by decide +kernel)
theorem dX38_character_88 : decode cX38_character 88 = .ok (.return_, 1) := dc_177 (by decide +kernel)
theorem SX38_78 {w : eW} {d : Nat} {Y : eY} {pc : Nat} {ls : eL} {st : List Value} {h : eH} {Q : eO → eH → Prop} {a : Nat} {h' : eH} {x : Int32} (hf : p_V 37 h a 11 (.int x) = some h') (hd : decode Y.2.1 pc = .ok (.putfield 78, 3)) (hY : Y.1.cls = RX38) (kk : wp w d Y (pc + 3) ls st h' Q) : wp w d Y pc ls (.int x :: .ref a :: st) h Q := x_pI (ci := 37) (k := 11) hf hd rfl (by decide) (by rw [hY]; exact q4403) rfl rfl kk
def fX38_character_b83 (N : Nat) (l0 : Nat) (l2 : Int32) (h : eH) : Option (Unit × eH) :=
  (k_ok 37 h l0).bind fun _ =>
  (fX38_lay l0 l2 h).bind fun q2 =>
  some ((), q2.2)
theorem pX38_character_b83 {w : eW} {d : Nat} (hd : 3 ≤ d + 1) {N : Nat} {l0 : Nat} {l2 : Int32} {h : eH} {q} (hf : fX38_character_b83 N l0 l2 h = some q) : wp w (d + 1) YX38_character 83 [some (.ref l0), none, some (.int l2), none] [] h (e_is (e_rn c_V q)) := by
  unfold fX38_character_b83 at hf
  refine w_aload_n dX38_character_83 rfl rfl ?_
  refine w_iload_n dX38_character_84 rfl rfl ?_
  obtain ⟨_, b1, hf⟩ := Option.bind_eq_some_iff.mp hf
  refine x_cnV hf (e_stV (Yc := YX38_lay) (ci := 37) (av := [.int l2]) (st := []) dX38_character_85 q5067 mX38_lay rfl (k_ok_some b1).1 (k_ok_some b1).2) mX38_lay.2.2.1 mX38_lay.2.2.2.2.1 (Nat.le_of_ble_eq_true rfl) (Nat.le_of_ble_eq_true rfl) (fun q hq => pX38_lay (by omega) hq) (fun q2 hf => ?_)
  cases hf
  exact w_vret dX38_character_88 rfl rfl
def fX38_character_b70 (N : Nat) (l0 : Nat) (l2 : Int32) (h : eH) : Option (Unit × eH) :=
  if l2 ≤ (127 : Int32) then
    fX38_character_b83 N l0 l2 h
  else
    (k_ok 37 h l0).bind fun _ =>
    (fX38_lay l0 (128 : Int32) h).bind fun q3 =>
    fX38_character_b83 N l0 l2 q3.2
theorem pX38_character_b70 {w : eW} {d : Nat} (hd : 3 ≤ d + 1) {N : Nat} {l0 : Nat} {l2 : Int32} {h : eH} {q} (hf : fX38_character_b70 N l0 l2 h = some q) : wp w (d + 1) YX38_character 70 [some (.ref l0), none, some (.int l2), none] [] h (e_is (e_rn c_V q)) := by
  unfold fX38_character_b70 at hf
  refine w_iload_n dX38_character_70 rfl rfl ?_
  refine w_bipush dX38_character_71 (v := 127) (by decide) ?_
  refine w_icmp_le 83 dX38_character_73 (by decide) (fun c1 => ?_) (fun c1 => ?_)
  · replace hf := (if_pos (show l2 ≤ (127 : Int32) from c1)).symm.trans hf
    exact (pX38_character_b83 hd hf).to ⟨rfl, rfl, trivial⟩
  · replace hf := (if_neg (show ¬ (l2 ≤ (127 : Int32)) from c1)).symm.trans hf
    refine w_aload_n dX38_character_76 rfl rfl ?_
    refine w_sipush dX38_character_77 (v := 128) (by decide) ?_
    obtain ⟨_, b2, hf⟩ := Option.bind_eq_some_iff.mp hf
    refine x_cnV hf (e_stV (Yc := YX38_lay) (ci := 37) (av := [.int (128 : Int32)]) (st := []) dX38_character_80 q5067 mX38_lay rfl (k_ok_some b2).1 (k_ok_some b2).2) mX38_lay.2.2.1 mX38_lay.2.2.2.2.1 (Nat.le_of_ble_eq_true rfl) (Nat.le_of_ble_eq_true rfl) (fun q hq => pX38_lay (by omega) hq) (fun q3 hf => ?_)
    exact (pX38_character_b83 hd hf).to ⟨rfl, rfl, trivial⟩
def fX38_character_b56 (N : Nat) (l0 : Nat) (l1 : Int32) (l2 : Int32) (s0 : Nat) (s1 : Int32) (h : eH) : Option (Unit × eH) :=
  (k_ok 37 h s0).bind fun _ =>
  (fX38_lay s0 s1 h).bind fun q2 =>
  if l1 ≤ (63 : Int32) then
    fX38_character_b70 N l0 l2 q2.2
  else
    (k_ok 37 q2.2 l0).bind fun _ =>
    (fX38_lay l0 l1 q2.2).bind fun q5 =>
    fX38_character_b70 N l0 l2 q5.2
theorem pX38_character_b56 {w : eW} {d : Nat} (hd : 3 ≤ d + 1) {N : Nat} {l0 : Nat} {l1 : Int32} {l2 : Int32} {s0 : Nat} {s1 : Int32} {h : eH} {q} (hf : fX38_character_b56 N l0 l1 l2 s0 s1 h = some q) : wp w (d + 1) YX38_character 56 [some (.ref l0), some (.int l1), some (.int l2), none] [.int s1, .ref s0] h (e_is (e_rn c_V q)) := by
  unfold fX38_character_b56 at hf
  obtain ⟨_, b1, hf⟩ := Option.bind_eq_some_iff.mp hf
  refine x_cnV hf (e_stV (Yc := YX38_lay) (ci := 37) (av := [.int s1]) (st := []) dX38_character_56 q5067 mX38_lay rfl (k_ok_some b1).1 (k_ok_some b1).2) mX38_lay.2.2.1 mX38_lay.2.2.2.2.1 (Nat.le_of_ble_eq_true rfl) (Nat.le_of_ble_eq_true rfl) (fun q hq => pX38_lay (by omega) hq) (fun q2 hf => ?_)
  refine w_iload_n dX38_character_59 rfl rfl ?_
  refine w_bipush dX38_character_60 (v := 63) (by decide) ?_
  refine w_icmp_le 70 dX38_character_62 (by decide) (fun c3 => ?_) (fun c3 => ?_)
  · replace hf := (if_pos (show l1 ≤ (63 : Int32) from c3)).symm.trans hf
    exact (pX38_character_b70 hd hf).to ⟨rfl, rfl, trivial⟩
  · replace hf := (if_neg (show ¬ (l1 ≤ (63 : Int32)) from c3)).symm.trans hf
    refine w_aload_n dX38_character_65 rfl rfl ?_
    refine w_iload_n dX38_character_66 rfl rfl ?_
    obtain ⟨_, b4, hf⟩ := Option.bind_eq_some_iff.mp hf
    refine x_cnV hf (e_stV (Yc := YX38_lay) (ci := 37) (av := [.int l1]) (st := []) dX38_character_67 q5067 mX38_lay rfl (k_ok_some b4).1 (k_ok_some b4).2) mX38_lay.2.2.1 mX38_lay.2.2.2.2.1 (Nat.le_of_ble_eq_true rfl) (Nat.le_of_ble_eq_true rfl) (fun q hq => pX38_lay (by omega) hq) (fun q5 hf => ?_)
    exact (pX38_character_b70 hd hf).to ⟨rfl, rfl, trivial⟩
def fX38_character_b38 (N : Nat) (l0 : Nat) (l1 : Int32) (l2 : Int32) (h : eH) : Option (Unit × eH) :=
  if (64 : Int32) ≤ l1 then
    fX38_character_b56 N l0 l1 l2 l0 (235 : Int32) h
  else
    fX38_character_b56 N l0 l1 l2 l0 ((171 : Int32) + l1) h
theorem pX38_character_b38 {w : eW} {d : Nat} (hd : 3 ≤ d + 1) {N : Nat} {l0 : Nat} {l1 : Int32} {l2 : Int32} {h : eH} {q} (hf : fX38_character_b38 N l0 l1 l2 h = some q) : wp w (d + 1) YX38_character 38 [some (.ref l0), some (.int l1), some (.int l2), none] [] h (e_is (e_rn c_V q)) := by
  unfold fX38_character_b38 at hf
  refine w_aload_n dX38_character_38 rfl rfl ?_
  refine w_iload_n dX38_character_39 rfl rfl ?_
  refine w_bipush dX38_character_40 (v := 64) (by decide) ?_
  refine w_icmp_ge 53 dX38_character_42 (by decide) (fun c1 => ?_) (fun c1 => ?_)
  · replace hf := (if_pos (show (64 : Int32) ≤ l1 from c1)).symm.trans hf
    refine w_sipush dX38_character_53 (v := 235) (by decide) ?_
    exact (pX38_character_b56 hd hf).to ⟨rfl, rfl, rfl, trivial⟩
  · replace hf := (if_neg (show ¬ ((64 : Int32) ≤ l1) from c1)).symm.trans hf
    refine w_sipush dX38_character_45 (v := 171) (by decide) ?_
    refine w_iload_n dX38_character_48 rfl rfl ?_
    refine w_iadd dX38_character_49 ?_
    refine w_goto 56 dX38_character_50 (by decide) ?_
    exact (pX38_character_b56 hd hf).to ⟨rfl, rfl, rfl, trivial⟩
def fX38_character (N : Nat) (this : Nat) (p0 : Int32) (p1 : Int32) (p2 : Int32) (h : eH) : Option (Unit × eH) :=
  if p0 = p2 then
    fX38_character_b70 N this p1 h
  else
    (k_ok 37 h this).bind fun _ =>
    (fX38_isTold N this p0 h).bind fun q3 =>
    if ¬ q3.1 = 0 then
      fX38_character_b38 N this p0 p1 q3.2
    else
      (k_ok 37 q3.2 this).bind fun _ =>
      (fX38_define N this p0 q3.2).bind fun q6 =>
      (g_A 37 q6.2 this 12).bind fun a7 =>
      (g_I 37 q6.2 this 11).bind fun x9 =>
      (q_V 100 q6.2 a7 x9 (.int p0)).bind fun h11 =>
      (g_I 37 h11 this 11).bind fun x13 =>
      (p_V 37 h11 this 11 (.int (x13 + (1 : Int32)))).bind fun h15 =>
      fX38_character_b38 N this p0 p1 h15
theorem pX38_character {w : eW} {d : Nat} (hd : 3 ≤ d) {N : Nat} {this : Nat} {p0 : Int32} {p1 : Int32} {p2 : Int32} {h : eH} {q} (hf : fX38_character N this p0 p1 p2 h = some q) : wm w d YX38_character [.ref this, .int p0, .int p1, .int p2] h (e_is (e_rn c_V q)) := by
  obtain ⟨d, rfl⟩ : ∃ e, d = e + 1 := ⟨d - 1, by omega⟩
  show wp w (d + 1) YX38_character 0 [some (.ref this), some (.int p0), some (.int p1), some (.int p2)] [] h _
  unfold fX38_character at hf
  refine w_iload_n dX38_character_0 rfl rfl ?_
  refine w_iload_n dX38_character_1 rfl rfl ?_
  refine w_icmp_eq 70 dX38_character_2 (by decide) (fun c1 => ?_) (fun c1 => ?_)
  · replace hf := (if_pos (show p0 = p2 from c1)).symm.trans hf
    exact (pX38_character_b70 hd hf).to ⟨rfl, rfl, trivial⟩
  · replace hf := (if_neg (show ¬ (p0 = p2) from c1)).symm.trans hf
    refine w_aload_n dX38_character_5 rfl rfl ?_
    refine w_iload_n dX38_character_6 rfl rfl ?_
    obtain ⟨_, b2, hf⟩ := Option.bind_eq_some_iff.mp hf
    refine x_cnI hf (e_stV (Yc := YX38_isTold) (ci := 37) (av := [.int p0]) (st := []) dX38_character_7 q5629 mX38_isTold rfl (k_ok_some b2).1 (k_ok_some b2).2) mX38_isTold.2.2.1 mX38_isTold.2.2.2.2.1 (Nat.le_of_ble_eq_true rfl) (Nat.le_of_ble_eq_true rfl) (fun q hq => pX38_isTold (by omega) hq) (fun q3 hf => ?_)
    refine w_if_ne 38 dX38_character_10 (by decide) (fun c4 => ?_) (fun c4 => ?_)
    · replace hf := (if_pos (show ¬ q3.1 = 0 from c4)).symm.trans hf
      exact (pX38_character_b38 hd hf).to ⟨rfl, rfl, rfl, trivial⟩
    · replace hf := (if_neg (show ¬ (¬ q3.1 = 0) from (fun z => z c4))).symm.trans hf
      refine w_aload_n dX38_character_13 rfl rfl ?_
      refine w_iload_n dX38_character_14 rfl rfl ?_
      obtain ⟨_, b5, hf⟩ := Option.bind_eq_some_iff.mp hf
      refine x_cnV hf (e_stV (Yc := YX38_define) (ci := 37) (av := [.int p0]) (st := []) dX38_character_15 q5633 mX38_define rfl (k_ok_some b5).1 (k_ok_some b5).2) mX38_define.2.2.1 mX38_define.2.2.2.2.1 (Nat.le_of_ble_eq_true rfl) (Nat.le_of_ble_eq_true rfl) (fun q hq => pX38_define (by omega) hq) (fun q6 hf => ?_)
      refine w_aload_n dX38_character_18 rfl rfl ?_
      obtain ⟨a7, b8, hf⟩ := Option.bind_eq_some_iff.mp hf
      refine GX38_36 b8 dX38_character_19 rfl ?_
      refine w_aload_n dX38_character_22 rfl rfl ?_
      obtain ⟨x9, b10, hf⟩ := Option.bind_eq_some_iff.mp hf
      refine GX38_78 b10 dX38_character_23 rfl ?_
      refine w_iload_n dX38_character_26 rfl rfl ?_
      obtain ⟨h11, b12, hf⟩ := Option.bind_eq_some_iff.mp hf
      refine x_qI b12 dX38_character_27 ?_
      refine w_aload_n dX38_character_28 rfl rfl ?_
      refine w_dup dX38_character_29 rfl ?_
      obtain ⟨x13, b14, hf⟩ := Option.bind_eq_some_iff.mp hf
      refine GX38_78 b14 dX38_character_30 rfl ?_
      refine w_iconst dX38_character_33 (v := 1) (by decide) ?_
      refine w_iadd dX38_character_34 ?_
      obtain ⟨h15, b16, hf⟩ := Option.bind_eq_some_iff.mp hf
      refine SX38_78 b16 dX38_character_35 rfl ?_
      exact (pX38_character_b38 hd hf).to ⟨rfl, rfl, rfl, trivial⟩
abbrev cX38_writePage : ByteArray := prog_39_method_14_code
def yX38_writePage : MethodName := ⟨RX38, "writePage", "()V"⟩
def YX38_writePage : eY := (yX38_writePage, cX38_writePage, 4, none, [])
theorem mX38_writePage : e_mv YX38_writePage RX38 0 := ⟨q5609, qs341, q5610, by decide, by decide +kernel, (e_sig (by decide +kernel))⟩
theorem dX38_writePage_0 : decode cX38_writePage 0 = .ok (.aload_n 0, 1) := dc_42 (by decide +kernel)
theorem dX38_writePage_1 : decode cX38_writePage 1 = .ok (.getfield 66, 3) := dc_180 (a := 0) (b := 66) (n := 66) (by decide +kernel)
theorem dX38_writePage_4 : decode cX38_writePage 4 = .ok (.istore_n 1, 1) := dc_60 (by decide +kernel)
theorem dX38_writePage_5 : decode cX38_writePage 5 = .ok (.aload_n 0, 1) := dc_42 (by decide +kernel)
theorem dX38_writePage_6 : decode cX38_writePage 6 = .ok (.sipush 139, 3) := dc_17 (a := 0) (b := 139) (v := 139) (by decide +kernel)
theorem dX38_writePage_9 : decode cX38_writePage 9 = .ok (.invokevirtual 84, 3) := dc_182 (a := 0) (b := 84) (n := 84) (by decide +kernel)
theorem dX38_writePage_12 : decode cX38_writePage 12 = .ok (.iconst 0, 1) := dc_3 (by decide +kernel)
theorem dX38_writePage_13 : decode cX38_writePage 13 = .ok (.istore_n 2, 1) := dc_61 (by decide +kernel)
theorem dX38_writePage_14 : decode cX38_writePage 14 = .ok (.iload_n 2, 1) := dc_28 (by decide +kernel)
theorem dX38_writePage_15 : decode cX38_writePage 15 = .ok (.bipush 10, 2) := dc_16 (a := 10) (v := 10) (by decide +kernel)
theorem dX38_writePage_17 : decode cX38_writePage 17 = .ok (.if_icmp .ge 20, 3) := dc_162 (a := 0) (b := 20) (v := 20) (by decide +kernel)
theorem dX38_writePage_20 : decode cX38_writePage 20 = .ok (.aload_n 0, 1) := dc_42 (by decide +kernel)
theorem dX38_writePage_21 : decode cX38_writePage 21 = .ok (.aload_n 0, 1) := dc_42 (by decide +kernel)
theorem dX38_writePage_22 : decode cX38_writePage 22 = .ok (.getfield 24, 3) := dc_180 (a := 0) (b := 24) (n := 24) (by decide +kernel)
theorem dX38_writePage_25 : decode cX38_writePage 25 = .ok (.iload_n 2, 1) := dc_28 (by decide +kernel)
theorem dX38_writePage_26 : decode cX38_writePage 26 = .ok (.iaload, 1) := dc_46 (by decide +kernel)
theorem dX38_writePage_27 : decode cX38_writePage 27 = .ok (.iconst 4, 1) := dc_7 (by decide +kernel)
theorem dX38_writePage_28 : decode cX38_writePage 28 = .ok (.invokevirtual 102, 3) := dc_182 (a := 0) (b := 102) (n := 102) (by decide +kernel)
theorem dX38_writePage_31 : decode cX38_writePage 31 = .ok (.iinc 2 1, 3) := dc_132 (a := 2) (b := 1) (v := 1) (by decide +kernel)
theorem dX38_writePage_34 : decode cX38_writePage 34 = .ok (.goto (-20), 3) := dc_167 (a := 255) (b := 236) (v := -20) (by decide +kernel)
theorem dX38_writePage_37 : decode cX38_writePage 37 = .ok (.aload_n 0, 1) := dc_42 (by decide +kernel)
theorem dX38_writePage_38 : decode cX38_writePage 38 = .ok (.aload_n 0, 1) := dc_42 (by decide +kernel)
theorem dX38_writePage_39 : decode cX38_writePage 39 = .ok (.getfield 32, 3) := dc_180 (a := 0) (b := 32) (n := 32) (by decide +kernel)
theorem dX38_writePage_42 : decode cX38_writePage 42 = .ok (.iconst 4, 1) := dc_7 (by decide +kernel)
theorem dX38_writePage_43 : decode cX38_writePage 43 = .ok (.invokevirtual 102, 3) := dc_182 (a := 0) (b := 102) (n := 102) (by decide +kernel)
theorem dX38_writePage_46 : decode cX38_writePage 46 = .ok (.aload_n 0, 1) := dc_42 (by decide +kernel)
theorem dX38_writePage_47 : decode cX38_writePage 47 = .ok (.iload_n 1, 1) := dc_27 (by decide +kernel)
theorem dX38_writePage_48 : decode cX38_writePage 48 = .ok (.putfield 32, 3) := dc_181 (a := 0) (b := 32) (n := 32) (by decide +kernel)
theorem dX38_writePage_51 : decode cX38_writePage 51 = .ok (.aload_n 0, 1) := dc_42 (by decide +kernel)
theorem dX38_writePage_52 : decode cX38_writePage 52 = .ok (.sipush 141, 3) := dc_17 (a := 0) (b := 141) (v := 141) (by decide +kernel)
theorem dX38_writePage_55 : decode cX38_writePage 55 = .ok (.invokevirtual 84, 3) := dc_182 (a := 0) (b := 84) (n := 84) (by decide +kernel)
theorem dX38_writePage_58 : decode cX38_writePage 58 = .ok (.iconst 0, 1) := dc_3 (by decide +kernel)
theorem dX38_writePage_59 : decode cX38_writePage 59 = .ok (.istore_n 2, 1) := dc_61 (by decide +kernel)
theorem dX38_writePage_60 : decode cX38_writePage 60 = .ok (.iload_n 2, 1) := dc_28 (by decide +kernel)
theorem dX38_writePage_61 : decode cX38_writePage 61 = .ok (.bipush 6, 2) := dc_16 (a := 6) (v := 6) (by decide +kernel)
theorem dX38_writePage_63 : decode cX38_writePage 63 = .ok (.if_icmp .ge 16, 3) := dc_162 (a := 0) (b := 16) (v := 16) (by decide +kernel)
theorem dX38_writePage_66 : decode cX38_writePage 66 = .ok (.aload_n 0, 1) := dc_42 (by decide +kernel)
theorem dX38_writePage_67 : decode cX38_writePage 67 = .ok (.getfield 63, 3) := dc_180 (a := 0) (b := 63) (n := 63) (by decide +kernel)
theorem dX38_writePage_70 : decode cX38_writePage 70 = .ok (.iload_n 2, 1) := dc_28 (by decide +kernel)
theorem dX38_writePage_71 : decode cX38_writePage 71 = .ok (.iconst 0, 1) := dc_3 (by decide +kernel)
theorem dX38_writePage_72 : decode cX38_writePage 72 = .ok (.iastore, 1) := dc_79 (by decide +kernel)
theorem dX38_writePage_73 : decode cX38_writePage 73 = .ok (.iinc 2 1, 3) := dc_132 (a := 2) (b := 1) (v := 1) (by decide +kernel)
theorem dX38_writePage_76 : decode cX38_writePage 76 = .ok (.goto (-16), 3) := dc_167 (a := 255) (b := 240) (v := -16) (by decide +kernel)
theorem dX38_writePage_79 : decode cX38_writePage 79 = .ok (.iconst (-1), 1) := dc_2 (by decide +kernel)
theorem dX38_writePage_80 : decode cX38_writePage 80 = .ok (.istore_n 2, 1) := dc_61 (by decide +kernel)
theorem dX38_writePage_81 : decode cX38_writePage 81 = .ok (.iconst 0, 1) := dc_3 (by decide +kernel)
theorem dX38_writePage_82 : decode cX38_writePage 82 = .ok (.istore_n 3, 1) := dc_62 (by decide +kernel)
theorem dX38_writePage_83 : decode cX38_writePage 83 = .ok (.iload_n 3, 1) := dc_29 (by decide +kernel)
theorem dX38_writePage_84 : decode cX38_writePage 84 = .ok (.aload_n 0, 1) := dc_42 (by decide +kernel)
theorem dX38_writePage_85 : decode cX38_writePage 85 = .ok (.getfield 88, 3) := dc_180 (a := 0) (b := 88) (n := 88) (by decide +kernel)
theorem dX38_writePage_88 : decode cX38_writePage 88 = .ok (.if_icmp .ge 100, 3) := dc_162 (a := 0) (b := 100) (v := 100) (by decide +kernel)
theorem dX38_writePage_91 : decode cX38_writePage 91 = .ok (.aload_n 0, 1) := dc_42 (by decide +kernel)
theorem dX38_writePage_92 : decode cX38_writePage 92 = .ok (.aload_n 0, 1) := dc_42 (by decide +kernel)
theorem dX38_writePage_93 : decode cX38_writePage 93 = .ok (.getfield 60, 3) := dc_180 (a := 0) (b := 60) (n := 60) (by decide +kernel)
theorem dX38_writePage_96 : decode cX38_writePage 96 = .ok (.iload_n 3, 1) := dc_29 (by decide +kernel)
theorem dX38_writePage_97 : decode cX38_writePage 97 = .ok (.sipush 157, 3) := dc_17 (a := 0) (b := 157) (v := 157) (by decide +kernel)
theorem dX38_writePage_100 : decode cX38_writePage 100 = .ok (.iconst 4, 1) := dc_7 (by decide +kernel)
theorem dX38_writePage_101 : decode cX38_writePage 101 = .ok (.invokevirtual 115, 3) := dc_182 (a := 0) (b := 115) (n := 115) (by decide +kernel)
theorem dX38_writePage_104 : decode cX38_writePage 104 = .ok (.aload_n 0, 1) := dc_42 (by decide +kernel)
theorem dX38_writePage_105 : decode cX38_writePage 105 = .ok (.aload_n 0, 1) := dc_42 (by decide +kernel)
theorem dX38_writePage_106 : decode cX38_writePage 106 = .ok (.getfield 57, 3) := dc_180 (a := 0) (b := 57) (n := 57) (by decide +kernel)
theorem dX38_writePage_109 : decode cX38_writePage 109 = .ok (.iload_n 3, 1) := dc_29 (by decide +kernel)
theorem dX38_writePage_110 : decode cX38_writePage 110 = .ok (.sipush 143, 3) := dc_17 (a := 0) (b := 143) (v := 143) (by decide +kernel)
theorem dX38_writePage_113 : decode cX38_writePage 113 = .ok (.iconst 2, 1) := dc_5 (by decide +kernel)
theorem dX38_writePage_114 : decode cX38_writePage 114 = .ok (.invokevirtual 115, 3) := dc_182 (a := 0) (b := 115) (n := 115) (by decide +kernel)
theorem dX38_writePage_117 : decode cX38_writePage 117 = .ok (.aload_n 0, 1) := dc_42 (by decide +kernel)
theorem dX38_writePage_118 : decode cX38_writePage 118 = .ok (.getfield 39, 3) := dc_180 (a := 0) (b := 39) (n := 39) (by decide +kernel)
theorem dX38_writePage_121 : decode cX38_writePage 121 = .ok (.iload_n 3, 1) := dc_29 (by decide +kernel)
theorem dX38_writePage_122 : decode cX38_writePage 122 = .ok (.iaload, 1) := dc_46 (by decide +kernel)
theorem dX38_writePage_123 : decode cX38_writePage 123 = .ok (.ifCond .ge 35, 3) := dc_156 (a := 0) (b := 35) (v := 35) (by decide +kernel)
theorem dX38_writePage_126 : decode cX38_writePage 126 = .ok (.aload_n 0, 1) := dc_42 (by decide +kernel)
theorem dX38_writePage_127 : decode cX38_writePage 127 = .ok (.sipush 137, 3) := dc_17 (a := 0) (b := 137) (v := 137) (by decide +kernel)
theorem dX38_writePage_130 : decode cX38_writePage 130 = .ok (.invokevirtual 84, 3) := dc_182 (a := 0) (b := 84) (n := 84) (by decide +kernel)
theorem dX38_writePage_133 : decode cX38_writePage 133 = .ok (.aload_n 0, 1) := dc_42 (by decide +kernel)
theorem dX38_writePage_134 : decode cX38_writePage 134 = .ok (.aload_n 0, 1) := dc_42 (by decide +kernel)
theorem dX38_writePage_135 : decode cX38_writePage 135 = .ok (.getfield 51, 3) := dc_180 (a := 0) (b := 51) (n := 51) (by decide +kernel)
theorem dX38_writePage_138 : decode cX38_writePage 138 = .ok (.iload_n 3, 1) := dc_29 (by decide +kernel)
theorem dX38_writePage_139 : decode cX38_writePage 139 = .ok (.iaload, 1) := dc_46 (by decide +kernel)
theorem dX38_writePage_140 : decode cX38_writePage 140 = .ok (.iconst 4, 1) := dc_7 (by decide +kernel)
theorem dX38_writePage_141 : decode cX38_writePage 141 = .ok (.invokevirtual 102, 3) := dc_182 (a := 0) (b := 102) (n := 102) (by decide +kernel)
theorem dX38_writePage_144 : decode cX38_writePage 144 = .ok (.aload_n 0, 1) := dc_42 (by decide +kernel)
theorem dX38_writePage_145 : decode cX38_writePage 145 = .ok (.aload_n 0, 1) := dc_42 (by decide +kernel)
theorem dX38_writePage_146 : decode cX38_writePage 146 = .ok (.getfield 42, 3) := dc_180 (a := 0) (b := 42) (n := 42) (by decide +kernel)
theorem dX38_writePage_149 : decode cX38_writePage 149 = .ok (.iload_n 3, 1) := dc_29 (by decide +kernel)
theorem dX38_writePage_150 : decode cX38_writePage 150 = .ok (.iaload, 1) := dc_46 (by decide +kernel)
theorem dX38_writePage_151 : decode cX38_writePage 151 = .ok (.iconst 4, 1) := dc_7 (by decide +kernel)
theorem dX38_writePage_152 : decode cX38_writePage 152 = .ok (.invokevirtual 102, 3) := dc_182 (a := 0) (b := 102) (n := 102) (by decide +kernel)
theorem dX38_writePage_155 : decode cX38_writePage 155 = .ok (.goto 27, 3) := dc_167 (a := 0) (b := 27) (v := 27) (by decide +kernel)
theorem dX38_writePage_158 : decode cX38_writePage 158 = .ok (.aload_n 0, 1) := dc_42 (by decide +kernel)
theorem dX38_writePage_159 : decode cX38_writePage 159 = .ok (.aload_n 0, 1) := dc_42 (by decide +kernel)
theorem dX38_writePage_160 : decode cX38_writePage 160 = .ok (.getfield 39, 3) := dc_180 (a := 0) (b := 39) (n := 39) (by decide +kernel)
theorem dX38_writePage_163 : decode cX38_writePage 163 = .ok (.iload_n 3, 1) := dc_29 (by decide +kernel)
theorem dX38_writePage_164 : decode cX38_writePage 164 = .ok (.iaload, 1) := dc_46 (by decide +kernel)
theorem dX38_writePage_165 : decode cX38_writePage 165 = .ok (.aload_n 0, 1) := dc_42 (by decide +kernel)
theorem dX38_writePage_166 : decode cX38_writePage 166 = .ok (.getfield 42, 3) := dc_180 (a := 0) (b := 42) (n := 42) (by decide +kernel)
theorem dX38_writePage_169 : decode cX38_writePage 169 = .ok (.iload_n 3, 1) := dc_29 (by decide +kernel)
theorem dX38_writePage_170 : decode cX38_writePage 170 = .ok (.iaload, 1) := dc_46 (by decide +kernel)
theorem dX38_writePage_171 : decode cX38_writePage 171 = .ok (.iload_n 2, 1) := dc_28 (by decide +kernel)
theorem dX38_writePage_172 : decode cX38_writePage 172 = .ok (.invokevirtual 119, 3) := dc_182 (a := 0) (b := 119) (n := 119) (by decide +kernel)
theorem dX38_writePage_175 : decode cX38_writePage 175 = .ok (.aload_n 0, 1) := dc_42 (by decide +kernel)
theorem dX38_writePage_176 : decode cX38_writePage 176 = .ok (.getfield 39, 3) := dc_180 (a := 0) (b := 39) (n := 39) (by decide +kernel)
theorem dX38_writePage_179 : decode cX38_writePage 179 = .ok (.iload_n 3, 1) := dc_29 (by decide +kernel)
theorem dX38_writePage_180 : decode cX38_writePage 180 = .ok (.iaload, 1) := dc_46 (by decide +kernel)
theorem dX38_writePage_181 : decode cX38_writePage 181 = .ok (.istore_n 2, 1) := dc_61 (by decide +kernel)
theorem dX38_writePage_182 : decode cX38_writePage 182 = .ok (.iinc 3 1, 3) := dc_132 (a := 3) (b := 1) (v := 1) (by decide +kernel)
theorem dX38_writePage_185 : decode cX38_writePage 185 = .ok (.goto (-102), 3) := dc_167 (a := 255) (b := 154) (v := -102) (by decide +kernel)
theorem dX38_writePage_188 : decode cX38_writePage 188 = .ok (.aload_n 0, 1) := dc_42 (by decide +kernel)
theorem dX38_writePage_189 : decode cX38_writePage 189 = .ok (.sipush 142, 3) := dc_17 (a := 0) (b := 142) (v := 142) (by decide +kernel)
theorem dX38_writePage_192 : decode cX38_writePage 192 = .ok (.invokevirtual 84, 3) := dc_182 (a := 0) (b := 84) (n := 84) (by decide +kernel)
theorem dX38_writePage_195 : decode cX38_writePage 195 = .ok (.aload_n 0, 1) := dc_42 (by decide +kernel)
theorem dX38_writePage_196 : decode cX38_writePage 196 = .ok (.sipush 140, 3) := dc_17 (a := 0) (b := 140) (v := 140) (by decide +kernel)
theorem dX38_writePage_199 : decode cX38_writePage 199 = .ok (.invokevirtual 84, 3) := dc_182 (a := 0) (b := 84) (n := 84) (by decide +kernel)
theorem dX38_writePage_202 : decode cX38_writePage 202 = .ok (.return_, 1) := dc_177 (by decide +kernel)
theorem GX38_24 {w : eW} {d : Nat} {Y : eY} {pc : Nat} {ls : eL} {st : List Value} {h : eH} {Q : eO → eH → Prop} {a : Nat} {x : Nat} (hf : g_A 37 h a 4 = some x) (hd : decode Y.2.1 pc = .ok (.getfield 24, 3)) (hY : Y.1.cls = RX38) (kk : wp w d Y (pc + 3) ls (.ref x :: st) h Q) : wp w d Y pc ls (.ref a :: st) h Q := x_gA (ci := 37) (k := 4) hf hd rfl (by decide) (by rw [hY]; exact q4393) kk
theorem GX38_32 {w : eW} {d : Nat} {Y : eY} {pc : Nat} {ls : eL} {st : List Value} {h : eH} {Q : eO → eH → Prop} {a : Nat} {x : Int32} (hf : g_I 37 h a 8 = some x) (hd : decode Y.2.1 pc = .ok (.getfield 32, 3)) (hY : Y.1.cls = RX38) (kk : wp w d Y (pc + 3) ls (.int x :: st) h Q) : wp w d Y pc ls (.ref a :: st) h Q := x_gI (ci := 37) (k := 8) hf hd rfl (by decide) (by rw [hY]; exact q4400) kk
theorem GX38_39 {w : eW} {d : Nat} {Y : eY} {pc : Nat} {ls : eL} {st : List Value} {h : eH} {Q : eO → eH → Prop} {a : Nat} {x : Nat} (hf : g_A 37 h a 14 = some x) (hd : decode Y.2.1 pc = .ok (.getfield 39, 3)) (hY : Y.1.cls = RX38) (kk : wp w d Y (pc + 3) ls (.ref x :: st) h Q) : wp w d Y pc ls (.ref a :: st) h Q := x_gA (ci := 37) (k := 14) hf hd rfl (by decide) (by rw [hY]; exact q4407) kk
theorem GX38_42 {w : eW} {d : Nat} {Y : eY} {pc : Nat} {ls : eL} {st : List Value} {h : eH} {Q : eO → eH → Prop} {a : Nat} {x : Nat} (hf : g_A 37 h a 15 = some x) (hd : decode Y.2.1 pc = .ok (.getfield 42, 3)) (hY : Y.1.cls = RX38) (kk : wp w d Y (pc + 3) ls (.ref x :: st) h Q) : wp w d Y pc ls (.ref a :: st) h Q := x_gA (ci := 37) (k := 15) hf hd rfl (by decide) (by rw [hY]; exact q4409) kk
theorem GX38_51 {w : eW} {d : Nat} {Y : eY} {pc : Nat} {ls : eL} {st : List Value} {h : eH} {Q : eO → eH → Prop} {a : Nat} {x : Nat} (hf : g_A 37 h a 18 = some x) (hd : decode Y.2.1 pc = .ok (.getfield 51, 3)) (hY : Y.1.cls = RX38) (kk : wp w d Y (pc + 3) ls (.ref x :: st) h Q) : wp w d Y pc ls (.ref a :: st) h Q := x_gA (ci := 37) (k := 18) hf hd rfl (by decide) (by rw [hY]; exact q4415) kk
def fX38_writePage_b182 (N : Nat) (k83 : Nat → Int32 → Int32 → eH → Option (Unit × eH)) (l0 : Nat) (l2 : Int32) (l3 : Int32) (h : eH) : Option (Unit × eH) :=
  k83 l0 l2 (l3 + (1 : Int32)) h
theorem pX38_writePage_b182 {w : eW} {d : Nat} (hd : 4 ≤ d + 1) {N : Nat} {k83 : Nat → Int32 → Int32 → eH → Option (Unit × eH)} (hk83 : ∀ l0 l2 l3 h q, k83 l0 l2 l3 h = some q → wp w (d + 1) YX38_writePage 83 [some (.ref l0), none, some (.int l2), some (.int l3)] [] h (e_is (e_rn c_V q))) {l0 : Nat} {l2 : Int32} {l3 : Int32} {h : eH} {q} (hf : fX38_writePage_b182 N k83 l0 l2 l3 h = some q) : wp w (d + 1) YX38_writePage 182 [some (.ref l0), none, some (.int l2), some (.int l3)] [] h (e_is (e_rn c_V q)) := by
  unfold fX38_writePage_b182 at hf
  refine w_iinc dX38_writePage_182 (v := (l3 + (1 : Int32))) rfl rfl (by decide) (ls' := [some (.ref l0), none, some (.int l2), some (.int (l3 + (1 : Int32)))]) rfl ?_
  refine w_goto 83 dX38_writePage_185 (by decide) ?_
  exact (hk83 _ _ _ _ _ hf).to ⟨rfl, rfl, rfl, trivial⟩
def fX38_writePage_b83 (N : Nat) : Nat → Nat → Int32 → Int32 → eH → Option (Unit × eH)
  | 0, _, _, _, _ => none
  | n + 1, l0, l2, l3, h =>
    (g_I 37 h l0 13).bind fun x1 =>
    if x1 ≤ l3 then
      (k_ok 37 h l0).bind fun _ =>
      (fX38_lay l0 (142 : Int32) h).bind fun q5 =>
      (k_ok 37 q5.2 l0).bind fun _ =>
      (fX38_lay l0 (140 : Int32) q5.2).bind fun q7 =>
      some ((), q7.2)
    else
      (g_A 37 h l0 21).bind fun a8 =>
      (k_ok 37 h l0).bind fun _ =>
      (fX38_move N l0 a8 l3 (157 : Int32) (4 : Int32) h).bind fun q11 =>
      (g_A 37 q11.2 l0 20).bind fun a12 =>
      (k_ok 37 q11.2 l0).bind fun _ =>
      (fX38_move N l0 a12 l3 (143 : Int32) (2 : Int32) q11.2).bind fun q15 =>
      (g_A 37 q15.2 l0 14).bind fun a16 =>
      (r_I 100 q15.2 a16 l3).bind fun x18 =>
      if 0 ≤ x18 then
        (g_A 37 q15.2 l0 14).bind fun a21 =>
        (r_I 100 q15.2 a21 l3).bind fun x23 =>
        (g_A 37 q15.2 l0 15).bind fun a25 =>
        (r_I 100 q15.2 a25 l3).bind fun x27 =>
        (k_ok 37 q15.2 l0).bind fun _ =>
        (fX38_character N l0 x23 x27 l2 q15.2).bind fun q30 =>
        (g_A 37 q30.2 l0 14).bind fun a31 =>
        (r_I 100 q30.2 a31 l3).bind fun x33 =>
        fX38_writePage_b182 N (fX38_writePage_b83 N n) l0 x33 l3 q30.2
      else
        (k_ok 37 q15.2 l0).bind fun _ =>
        (fX38_lay l0 (137 : Int32) q15.2).bind fun q36 =>
        (g_A 37 q36.2 l0 18).bind fun a37 =>
        (r_I 100 q36.2 a37 l3).bind fun x39 =>
        (k_ok 37 q36.2 l0).bind fun _ =>
        (fX38_layNumber N l0 x39 (4 : Int32) q36.2).bind fun q42 =>
        (g_A 37 q42.2 l0 15).bind fun a43 =>
        (r_I 100 q42.2 a43 l3).bind fun x45 =>
        (k_ok 37 q42.2 l0).bind fun _ =>
        (fX38_layNumber N l0 x45 (4 : Int32) q42.2).bind fun q48 =>
        fX38_writePage_b182 N (fX38_writePage_b83 N n) l0 l2 l3 q48.2
theorem pX38_writePage_b83 {w : eW} {d : Nat} (hd : 4 ≤ d + 1) {N : Nat} : ∀ (n : Nat) l0 l2 l3 h q, fX38_writePage_b83 N n l0 l2 l3 h = some q → wp w (d + 1) YX38_writePage 83 [some (.ref l0), none, some (.int l2), some (.int l3)] [] h (e_is (e_rn c_V q)) := by
  intro n
  induction n with
  | zero => intro l0 l2 l3 h q hf; simp [fX38_writePage_b83] at hf
  | succ n ih =>
    intro l0 l2 l3 h q hf
    rw [fX38_writePage_b83] at hf
    refine w_iload_n dX38_writePage_83 rfl rfl ?_
    refine w_aload_n dX38_writePage_84 rfl rfl ?_
    obtain ⟨x1, b2, hf⟩ := Option.bind_eq_some_iff.mp hf
    refine GX38_88 b2 dX38_writePage_85 rfl ?_
    refine w_icmp_ge 188 dX38_writePage_88 (by decide) (fun c3 => ?_) (fun c3 => ?_)
    · replace hf := (if_pos (show x1 ≤ l3 from c3)).symm.trans hf
      refine w_aload_n dX38_writePage_188 rfl rfl ?_
      refine w_sipush dX38_writePage_189 (v := 142) (by decide) ?_
      obtain ⟨_, b4, hf⟩ := Option.bind_eq_some_iff.mp hf
      refine x_cnV hf (e_stV (Yc := YX38_lay) (ci := 37) (av := [.int (142 : Int32)]) (st := []) dX38_writePage_192 q5067 mX38_lay rfl (k_ok_some b4).1 (k_ok_some b4).2) mX38_lay.2.2.1 mX38_lay.2.2.2.2.1 (Nat.le_of_ble_eq_true rfl) (Nat.le_of_ble_eq_true rfl) (fun q hq => pX38_lay (by omega) hq) (fun q5 hf => ?_)
      refine w_aload_n dX38_writePage_195 rfl rfl ?_
      refine w_sipush dX38_writePage_196 (v := 140) (by decide) ?_
      obtain ⟨_, b6, hf⟩ := Option.bind_eq_some_iff.mp hf
      refine x_cnV hf (e_stV (Yc := YX38_lay) (ci := 37) (av := [.int (140 : Int32)]) (st := []) dX38_writePage_199 q5067 mX38_lay rfl (k_ok_some b6).1 (k_ok_some b6).2) mX38_lay.2.2.1 mX38_lay.2.2.2.2.1 (Nat.le_of_ble_eq_true rfl) (Nat.le_of_ble_eq_true rfl) (fun q hq => pX38_lay (by omega) hq) (fun q7 hf => ?_)
      cases hf
      exact w_vret dX38_writePage_202 rfl rfl
    · replace hf := (if_neg (show ¬ (x1 ≤ l3) from c3)).symm.trans hf
      refine w_aload_n dX38_writePage_91 rfl rfl ?_
      refine w_aload_n dX38_writePage_92 rfl rfl ?_
      obtain ⟨a8, b9, hf⟩ := Option.bind_eq_some_iff.mp hf
      refine GX38_60 b9 dX38_writePage_93 rfl ?_
      refine w_iload_n dX38_writePage_96 rfl rfl ?_
      refine w_sipush dX38_writePage_97 (v := 157) (by decide) ?_
      refine w_iconst dX38_writePage_100 (v := 4) (by decide) ?_
      obtain ⟨_, b10, hf⟩ := Option.bind_eq_some_iff.mp hf
      refine x_cnV hf (e_stV (Yc := YX38_move) (ci := 37) (av := [.ref a8, .int l3, .int (157 : Int32), .int (4 : Int32)]) (st := []) dX38_writePage_101 q5611 mX38_move rfl (k_ok_some b10).1 (k_ok_some b10).2) mX38_move.2.2.1 mX38_move.2.2.2.2.1 (Nat.le_of_ble_eq_true rfl) (Nat.le_of_ble_eq_true rfl) (fun q hq => pX38_move (by omega) hq) (fun q11 hf => ?_)
      refine w_aload_n dX38_writePage_104 rfl rfl ?_
      refine w_aload_n dX38_writePage_105 rfl rfl ?_
      obtain ⟨a12, b13, hf⟩ := Option.bind_eq_some_iff.mp hf
      refine GX38_57 b13 dX38_writePage_106 rfl ?_
      refine w_iload_n dX38_writePage_109 rfl rfl ?_
      refine w_sipush dX38_writePage_110 (v := 143) (by decide) ?_
      refine w_iconst dX38_writePage_113 (v := 2) (by decide) ?_
      obtain ⟨_, b14, hf⟩ := Option.bind_eq_some_iff.mp hf
      refine x_cnV hf (e_stV (Yc := YX38_move) (ci := 37) (av := [.ref a12, .int l3, .int (143 : Int32), .int (2 : Int32)]) (st := []) dX38_writePage_114 q5611 mX38_move rfl (k_ok_some b14).1 (k_ok_some b14).2) mX38_move.2.2.1 mX38_move.2.2.2.2.1 (Nat.le_of_ble_eq_true rfl) (Nat.le_of_ble_eq_true rfl) (fun q hq => pX38_move (by omega) hq) (fun q15 hf => ?_)
      refine w_aload_n dX38_writePage_117 rfl rfl ?_
      obtain ⟨a16, b17, hf⟩ := Option.bind_eq_some_iff.mp hf
      refine GX38_39 b17 dX38_writePage_118 rfl ?_
      refine w_iload_n dX38_writePage_121 rfl rfl ?_
      obtain ⟨x18, b19, hf⟩ := Option.bind_eq_some_iff.mp hf
      refine x_rI b19 dX38_writePage_122 ?_
      refine w_if_ge 158 dX38_writePage_123 (by decide) (fun c20 => ?_) (fun c20 => ?_)
      · replace hf := (if_pos (show 0 ≤ x18 from c20)).symm.trans hf
        refine w_aload_n dX38_writePage_158 rfl rfl ?_
        refine w_aload_n dX38_writePage_159 rfl rfl ?_
        obtain ⟨a21, b22, hf⟩ := Option.bind_eq_some_iff.mp hf
        refine GX38_39 b22 dX38_writePage_160 rfl ?_
        refine w_iload_n dX38_writePage_163 rfl rfl ?_
        obtain ⟨x23, b24, hf⟩ := Option.bind_eq_some_iff.mp hf
        refine x_rI b24 dX38_writePage_164 ?_
        refine w_aload_n dX38_writePage_165 rfl rfl ?_
        obtain ⟨a25, b26, hf⟩ := Option.bind_eq_some_iff.mp hf
        refine GX38_42 b26 dX38_writePage_166 rfl ?_
        refine w_iload_n dX38_writePage_169 rfl rfl ?_
        obtain ⟨x27, b28, hf⟩ := Option.bind_eq_some_iff.mp hf
        refine x_rI b28 dX38_writePage_170 ?_
        refine w_iload_n dX38_writePage_171 rfl rfl ?_
        obtain ⟨_, b29, hf⟩ := Option.bind_eq_some_iff.mp hf
        refine x_cnV hf (e_stV (Yc := YX38_character) (ci := 37) (av := [.int x23, .int x27, .int l2]) (st := []) dX38_writePage_172 q5625 mX38_character rfl (k_ok_some b29).1 (k_ok_some b29).2) mX38_character.2.2.1 mX38_character.2.2.2.2.1 (Nat.le_of_ble_eq_true rfl) (Nat.le_of_ble_eq_true rfl) (fun q hq => pX38_character (by omega) hq) (fun q30 hf => ?_)
        refine w_aload_n dX38_writePage_175 rfl rfl ?_
        obtain ⟨a31, b32, hf⟩ := Option.bind_eq_some_iff.mp hf
        refine GX38_39 b32 dX38_writePage_176 rfl ?_
        refine w_iload_n dX38_writePage_179 rfl rfl ?_
        obtain ⟨x33, b34, hf⟩ := Option.bind_eq_some_iff.mp hf
        refine x_rI b34 dX38_writePage_180 ?_
        refine w_istore_n dX38_writePage_181 rfl (by decide) (ls' := [some (.ref l0), none, some (.int x33), some (.int l3)]) rfl ?_
        exact (pX38_writePage_b182 hd ih hf).to ⟨rfl, rfl, rfl, trivial⟩
      · replace hf := (if_neg (show ¬ (0 ≤ x18) from c20)).symm.trans hf
        refine w_aload_n dX38_writePage_126 rfl rfl ?_
        refine w_sipush dX38_writePage_127 (v := 137) (by decide) ?_
        obtain ⟨_, b35, hf⟩ := Option.bind_eq_some_iff.mp hf
        refine x_cnV hf (e_stV (Yc := YX38_lay) (ci := 37) (av := [.int (137 : Int32)]) (st := []) dX38_writePage_130 q5067 mX38_lay rfl (k_ok_some b35).1 (k_ok_some b35).2) mX38_lay.2.2.1 mX38_lay.2.2.2.2.1 (Nat.le_of_ble_eq_true rfl) (Nat.le_of_ble_eq_true rfl) (fun q hq => pX38_lay (by omega) hq) (fun q36 hf => ?_)
        refine w_aload_n dX38_writePage_133 rfl rfl ?_
        refine w_aload_n dX38_writePage_134 rfl rfl ?_
        obtain ⟨a37, b38, hf⟩ := Option.bind_eq_some_iff.mp hf
        refine GX38_51 b38 dX38_writePage_135 rfl ?_
        refine w_iload_n dX38_writePage_138 rfl rfl ?_
        obtain ⟨x39, b40, hf⟩ := Option.bind_eq_some_iff.mp hf
        refine x_rI b40 dX38_writePage_139 ?_
        refine w_iconst dX38_writePage_140 (v := 4) (by decide) ?_
        obtain ⟨_, b41, hf⟩ := Option.bind_eq_some_iff.mp hf
        refine x_cnV hf (e_stV (Yc := YX38_layNumber) (ci := 37) (av := [.int x39, .int (4 : Int32)]) (st := []) dX38_writePage_141 q5072 mX38_layNumber rfl (k_ok_some b41).1 (k_ok_some b41).2) mX38_layNumber.2.2.1 mX38_layNumber.2.2.2.2.1 (Nat.le_of_ble_eq_true rfl) (Nat.le_of_ble_eq_true rfl) (fun q hq => pX38_layNumber (by omega) hq) (fun q42 hf => ?_)
        refine w_aload_n dX38_writePage_144 rfl rfl ?_
        refine w_aload_n dX38_writePage_145 rfl rfl ?_
        obtain ⟨a43, b44, hf⟩ := Option.bind_eq_some_iff.mp hf
        refine GX38_42 b44 dX38_writePage_146 rfl ?_
        refine w_iload_n dX38_writePage_149 rfl rfl ?_
        obtain ⟨x45, b46, hf⟩ := Option.bind_eq_some_iff.mp hf
        refine x_rI b46 dX38_writePage_150 ?_
        refine w_iconst dX38_writePage_151 (v := 4) (by decide) ?_
        obtain ⟨_, b47, hf⟩ := Option.bind_eq_some_iff.mp hf
        refine x_cnV hf (e_stV (Yc := YX38_layNumber) (ci := 37) (av := [.int x45, .int (4 : Int32)]) (st := []) dX38_writePage_152 q5072 mX38_layNumber rfl (k_ok_some b47).1 (k_ok_some b47).2) mX38_layNumber.2.2.1 mX38_layNumber.2.2.2.2.1 (Nat.le_of_ble_eq_true rfl) (Nat.le_of_ble_eq_true rfl) (fun q hq => pX38_layNumber (by omega) hq) (fun q48 hf => ?_)
        refine w_goto 182 dX38_writePage_155 (by decide) ?_
        exact (pX38_writePage_b182 hd ih hf).to ⟨rfl, rfl, rfl, trivial⟩
def fX38_writePage_b60 (N : Nat) : Nat → Nat → Int32 → eH → Option (Unit × eH)
  | 0, _, _, _ => none
  | n + 1, l0, l2, h =>
    if (6 : Int32) ≤ l2 then
      fX38_writePage_b83 N N l0 (-1 : Int32) (0 : Int32) h
    else
      (g_A 37 h l0 22).bind fun a2 =>
      (q_V 100 h a2 l2 (.int (0 : Int32))).bind fun h4 =>
      fX38_writePage_b60 N n l0 (l2 + (1 : Int32)) h4
theorem pX38_writePage_b60 {w : eW} {d : Nat} (hd : 4 ≤ d + 1) {N : Nat} : ∀ (n : Nat) l0 l2 h q, fX38_writePage_b60 N n l0 l2 h = some q → wp w (d + 1) YX38_writePage 60 [some (.ref l0), none, some (.int l2), none] [] h (e_is (e_rn c_V q)) := by
  intro n
  induction n with
  | zero => intro l0 l2 h q hf; simp [fX38_writePage_b60] at hf
  | succ n ih =>
    intro l0 l2 h q hf
    rw [fX38_writePage_b60] at hf
    refine w_iload_n dX38_writePage_60 rfl rfl ?_
    refine w_bipush dX38_writePage_61 (v := 6) (by decide) ?_
    refine w_icmp_ge 79 dX38_writePage_63 (by decide) (fun c1 => ?_) (fun c1 => ?_)
    · replace hf := (if_pos (show (6 : Int32) ≤ l2 from c1)).symm.trans hf
      refine w_iconst dX38_writePage_79 (v := -1) (by decide) ?_
      refine w_istore_n dX38_writePage_80 rfl (by decide) (ls' := [some (.ref l0), none, some (.int (-1 : Int32)), none]) rfl ?_
      refine w_iconst dX38_writePage_81 (v := 0) (by decide) ?_
      refine w_istore_n dX38_writePage_82 rfl (by decide) (ls' := [some (.ref l0), none, some (.int (-1 : Int32)), some (.int (0 : Int32))]) rfl ?_
      exact (pX38_writePage_b83 hd N _ _ _ _ _ hf).to ⟨rfl, rfl, rfl, trivial⟩
    · replace hf := (if_neg (show ¬ ((6 : Int32) ≤ l2) from c1)).symm.trans hf
      refine w_aload_n dX38_writePage_66 rfl rfl ?_
      obtain ⟨a2, b3, hf⟩ := Option.bind_eq_some_iff.mp hf
      refine GX38_63 b3 dX38_writePage_67 rfl ?_
      refine w_iload_n dX38_writePage_70 rfl rfl ?_
      refine w_iconst dX38_writePage_71 (v := 0) (by decide) ?_
      obtain ⟨h4, b5, hf⟩ := Option.bind_eq_some_iff.mp hf
      refine x_qI b5 dX38_writePage_72 ?_
      refine w_iinc dX38_writePage_73 (v := (l2 + (1 : Int32))) rfl rfl (by decide) (ls' := [some (.ref l0), none, some (.int (l2 + (1 : Int32))), none]) rfl ?_
      refine w_goto 60 dX38_writePage_76 (by decide) ?_
      exact (ih _ _ _ _ hf).to ⟨rfl, rfl, trivial⟩
def fX38_writePage_b14 (N : Nat) : Nat → Nat → Int32 → Int32 → eH → Option (Unit × eH)
  | 0, _, _, _, _ => none
  | n + 1, l0, l1, l2, h =>
    if (10 : Int32) ≤ l2 then
      (g_I 37 h l0 8).bind fun x2 =>
      (k_ok 37 h l0).bind fun _ =>
      (fX38_layNumber N l0 x2 (4 : Int32) h).bind fun q5 =>
      (p_V 37 q5.2 l0 8 (.int l1)).bind fun h6 =>
      (k_ok 37 h6 l0).bind fun _ =>
      (fX38_lay l0 (141 : Int32) h6).bind fun q9 =>
      fX38_writePage_b60 N N l0 (0 : Int32) q9.2
    else
      (g_A 37 h l0 4).bind fun a10 =>
      (r_I 100 h a10 l2).bind fun x12 =>
      (k_ok 37 h l0).bind fun _ =>
      (fX38_layNumber N l0 x12 (4 : Int32) h).bind fun q15 =>
      fX38_writePage_b14 N n l0 l1 (l2 + (1 : Int32)) q15.2
theorem pX38_writePage_b14 {w : eW} {d : Nat} (hd : 4 ≤ d + 1) {N : Nat} : ∀ (n : Nat) l0 l1 l2 h q, fX38_writePage_b14 N n l0 l1 l2 h = some q → wp w (d + 1) YX38_writePage 14 [some (.ref l0), some (.int l1), some (.int l2), none] [] h (e_is (e_rn c_V q)) := by
  intro n
  induction n with
  | zero => intro l0 l1 l2 h q hf; simp [fX38_writePage_b14] at hf
  | succ n ih =>
    intro l0 l1 l2 h q hf
    rw [fX38_writePage_b14] at hf
    refine w_iload_n dX38_writePage_14 rfl rfl ?_
    refine w_bipush dX38_writePage_15 (v := 10) (by decide) ?_
    refine w_icmp_ge 37 dX38_writePage_17 (by decide) (fun c1 => ?_) (fun c1 => ?_)
    · replace hf := (if_pos (show (10 : Int32) ≤ l2 from c1)).symm.trans hf
      refine w_aload_n dX38_writePage_37 rfl rfl ?_
      refine w_aload_n dX38_writePage_38 rfl rfl ?_
      obtain ⟨x2, b3, hf⟩ := Option.bind_eq_some_iff.mp hf
      refine GX38_32 b3 dX38_writePage_39 rfl ?_
      refine w_iconst dX38_writePage_42 (v := 4) (by decide) ?_
      obtain ⟨_, b4, hf⟩ := Option.bind_eq_some_iff.mp hf
      refine x_cnV hf (e_stV (Yc := YX38_layNumber) (ci := 37) (av := [.int x2, .int (4 : Int32)]) (st := []) dX38_writePage_43 q5072 mX38_layNumber rfl (k_ok_some b4).1 (k_ok_some b4).2) mX38_layNumber.2.2.1 mX38_layNumber.2.2.2.2.1 (Nat.le_of_ble_eq_true rfl) (Nat.le_of_ble_eq_true rfl) (fun q hq => pX38_layNumber (by omega) hq) (fun q5 hf => ?_)
      refine w_aload_n dX38_writePage_46 rfl rfl ?_
      refine w_iload_n dX38_writePage_47 rfl rfl ?_
      obtain ⟨h6, b7, hf⟩ := Option.bind_eq_some_iff.mp hf
      refine SX38_32 b7 dX38_writePage_48 rfl ?_
      refine w_aload_n dX38_writePage_51 rfl rfl ?_
      refine w_sipush dX38_writePage_52 (v := 141) (by decide) ?_
      obtain ⟨_, b8, hf⟩ := Option.bind_eq_some_iff.mp hf
      refine x_cnV hf (e_stV (Yc := YX38_lay) (ci := 37) (av := [.int (141 : Int32)]) (st := []) dX38_writePage_55 q5067 mX38_lay rfl (k_ok_some b8).1 (k_ok_some b8).2) mX38_lay.2.2.1 mX38_lay.2.2.2.2.1 (Nat.le_of_ble_eq_true rfl) (Nat.le_of_ble_eq_true rfl) (fun q hq => pX38_lay (by omega) hq) (fun q9 hf => ?_)
      refine w_iconst dX38_writePage_58 (v := 0) (by decide) ?_
      refine w_istore_n dX38_writePage_59 rfl (by decide) (ls' := [some (.ref l0), some (.int l1), some (.int (0 : Int32)), none]) rfl ?_
      exact (pX38_writePage_b60 hd N _ _ _ _ hf).to ⟨rfl, rfl, trivial⟩
    · replace hf := (if_neg (show ¬ ((10 : Int32) ≤ l2) from c1)).symm.trans hf
      refine w_aload_n dX38_writePage_20 rfl rfl ?_
      refine w_aload_n dX38_writePage_21 rfl rfl ?_
      obtain ⟨a10, b11, hf⟩ := Option.bind_eq_some_iff.mp hf
      refine GX38_24 b11 dX38_writePage_22 rfl ?_
      refine w_iload_n dX38_writePage_25 rfl rfl ?_
      obtain ⟨x12, b13, hf⟩ := Option.bind_eq_some_iff.mp hf
      refine x_rI b13 dX38_writePage_26 ?_
      refine w_iconst dX38_writePage_27 (v := 4) (by decide) ?_
      obtain ⟨_, b14, hf⟩ := Option.bind_eq_some_iff.mp hf
      refine x_cnV hf (e_stV (Yc := YX38_layNumber) (ci := 37) (av := [.int x12, .int (4 : Int32)]) (st := []) dX38_writePage_28 q5072 mX38_layNumber rfl (k_ok_some b14).1 (k_ok_some b14).2) mX38_layNumber.2.2.1 mX38_layNumber.2.2.2.2.1 (Nat.le_of_ble_eq_true rfl) (Nat.le_of_ble_eq_true rfl) (fun q hq => pX38_layNumber (by omega) hq) (fun q15 hf => ?_)
      refine w_iinc dX38_writePage_31 (v := (l2 + (1 : Int32))) rfl rfl (by decide) (ls' := [some (.ref l0), some (.int l1), some (.int (l2 + (1 : Int32))), none]) rfl ?_
      refine w_goto 14 dX38_writePage_34 (by decide) ?_
      exact (ih _ _ _ _ _ hf).to ⟨rfl, rfl, rfl, trivial⟩
def fX38_writePage (N : Nat) (this : Nat) (h : eH) : Option (Unit × eH) :=
  (g_I 37 h this 5).bind fun x1 =>
  (k_ok 37 h this).bind fun _ =>
  (fX38_lay this (139 : Int32) h).bind fun q4 =>
  fX38_writePage_b14 N N this x1 (0 : Int32) q4.2
theorem pX38_writePage {w : eW} {d : Nat} (hd : 4 ≤ d) {N : Nat} {this : Nat} {h : eH} {q} (hf : fX38_writePage N this h = some q) : wm w d YX38_writePage [.ref this] h (e_is (e_rn c_V q)) := by
  obtain ⟨d, rfl⟩ : ∃ e, d = e + 1 := ⟨d - 1, by omega⟩
  show wp w (d + 1) YX38_writePage 0 [some (.ref this), none, none, none] [] h _
  unfold fX38_writePage at hf
  refine w_aload_n dX38_writePage_0 rfl rfl ?_
  obtain ⟨x1, b2, hf⟩ := Option.bind_eq_some_iff.mp hf
  refine GX38_66 b2 dX38_writePage_1 rfl ?_
  refine w_istore_n dX38_writePage_4 rfl (by decide) (ls' := [some (.ref this), some (.int x1), none, none]) rfl ?_
  refine w_aload_n dX38_writePage_5 rfl rfl ?_
  refine w_sipush dX38_writePage_6 (v := 139) (by decide) ?_
  obtain ⟨_, b3, hf⟩ := Option.bind_eq_some_iff.mp hf
  refine x_cnV hf (e_stV (Yc := YX38_lay) (ci := 37) (av := [.int (139 : Int32)]) (st := []) dX38_writePage_9 q5067 mX38_lay rfl (k_ok_some b3).1 (k_ok_some b3).2) mX38_lay.2.2.1 mX38_lay.2.2.2.2.1 (Nat.le_of_ble_eq_true rfl) (Nat.le_of_ble_eq_true rfl) (fun q hq => pX38_lay (by omega) hq) (fun q4 hf => ?_)
  refine w_iconst dX38_writePage_12 (v := 0) (by decide) ?_
  refine w_istore_n dX38_writePage_13 rfl (by decide) (ls' := [some (.ref this), some (.int x1), some (.int (0 : Int32)), none]) rfl ?_
  exact (pX38_writePage_b14 hd N _ _ _ _ _ hf).to ⟨rfl, rfl, rfl, trivial⟩
abbrev cX38_fits : ByteArray := prog_39_method_15_code
def yX38_fits : MethodName := ⟨RX38, "fits", "()Z"⟩
def YX38_fits : eY := (yX38_fits, cX38_fits, 5, (Option.some FieldType.boolean), [])
theorem mX38_fits : e_mv YX38_fits RX38 0 := ⟨q5600, q5601, q5602, by decide, by decide +kernel, (e_sig (by decide +kernel))⟩
theorem dX38_fits_0 : decode cX38_fits 0 = .ok (.aload_n 0, 1) := dc_42 (by decide +kernel)
theorem dX38_fits_1 : decode cX38_fits 1 = .ok (.invokevirtual 123, 3) := dc_182 (a := 0) (b := 123) (n := 123) (by decide +kernel)
theorem dX38_fits_4 : decode cX38_fits 4 = .ok (.aload_n 0, 1) := dc_42 (by decide +kernel)
theorem dX38_fits_5 : decode cX38_fits 5 = .ok (.getfield 66, 3) := dc_180 (a := 0) (b := 66) (n := 66) (by decide +kernel)
theorem dX38_fits_8 : decode cX38_fits 8 = .ok (.istore_n 1, 1) := dc_60 (by decide +kernel)
theorem dX38_fits_9 : decode cX38_fits 9 = .ok (.aload_n 0, 1) := dc_42 (by decide +kernel)
theorem dX38_fits_10 : decode cX38_fits 10 = .ok (.getfield 78, 3) := dc_180 (a := 0) (b := 78) (n := 78) (by decide +kernel)
theorem dX38_fits_13 : decode cX38_fits 13 = .ok (.istore_n 2, 1) := dc_61 (by decide +kernel)
theorem dX38_fits_14 : decode cX38_fits 14 = .ok (.aload_n 0, 1) := dc_42 (by decide +kernel)
theorem dX38_fits_15 : decode cX38_fits 15 = .ok (.getfield 32, 3) := dc_180 (a := 0) (b := 32) (n := 32) (by decide +kernel)
theorem dX38_fits_18 : decode cX38_fits 18 = .ok (.istore_n 3, 1) := dc_62 (by decide +kernel)
theorem dX38_fits_19 : decode cX38_fits 19 = .ok (.aload_n 0, 1) := dc_42 (by decide +kernel)
theorem dX38_fits_20 : decode cX38_fits 20 = .ok (.invokevirtual 126, 3) := dc_182 (a := 0) (b := 126) (n := 126) (by decide +kernel)
theorem dX38_fits_23 : decode cX38_fits 23 = .ok (.aload_n 0, 1) := dc_42 (by decide +kernel)
theorem dX38_fits_24 : decode cX38_fits 24 = .ok (.getfield 66, 3) := dc_180 (a := 0) (b := 66) (n := 66) (by decide +kernel)
theorem dX38_fits_27 : decode cX38_fits 27 = .ok (.ldc 129, 2) := dc_18 (a := 129) (by decide +kernel)
theorem dX38_fits_29 : decode cX38_fits 29 = .ok (.if_icmp .gt 7, 3) := dc_163 (a := 0) (b := 7) (v := 7) (by decide +kernel)
theorem dX38_fits_32 : decode cX38_fits 32 = .ok (.iconst 1, 1) := dc_4 (by decide +kernel)
theorem dX38_fits_33 : decode cX38_fits 33 = .ok (.goto 4, 3) := dc_167 (a := 0) (b := 4) (v := 4) (by decide +kernel)
theorem dX38_fits_36 : decode cX38_fits 36 = .ok (.iconst 0, 1) := dc_3 (by decide +kernel)
theorem dX38_fits_37 : decode cX38_fits 37 = .ok (.istore 4, 2) := dc_54 (a := 4) (by decide +kernel)
theorem dX38_fits_39 : decode cX38_fits 39 = .ok (.aload_n 0, 1) := dc_42 (by decide +kernel)
theorem dX38_fits_40 : decode cX38_fits 40 = .ok (.iload_n 1, 1) := dc_27 (by decide +kernel)
theorem dX38_fits_41 : decode cX38_fits 41 = .ok (.putfield 66, 3) := dc_181 (a := 0) (b := 66) (n := 66) (by decide +kernel)
theorem dX38_fits_44 : decode cX38_fits 44 = .ok (.aload_n 0, 1) := dc_42 (by decide +kernel)
theorem dX38_fits_45 : decode cX38_fits 45 = .ok (.iload_n 2, 1) := dc_28 (by decide +kernel)
theorem dX38_fits_46 : decode cX38_fits 46 = .ok (.putfield 78, 3) := dc_181 (a := 0) (b := 78) (n := 78) (by decide +kernel)
theorem dX38_fits_49 : decode cX38_fits 49 = .ok (.aload_n 0, 1) := dc_42 (by decide +kernel)
theorem dX38_fits_50 : decode cX38_fits 50 = .ok (.iload_n 3, 1) := dc_29 (by decide +kernel)
theorem dX38_fits_51 : decode cX38_fits 51 = .ok (.putfield 32, 3) := dc_181 (a := 0) (b := 32) (n := 32) (by decide +kernel)
theorem dX38_fits_54 : decode cX38_fits 54 = .ok (.iload 4, 2) := dc_21 (a := 4) (by decide +kernel)
theorem dX38_fits_56 : decode cX38_fits 56 = .ok (.ireturn, 1) := dc_172 (by decide +kernel)
def fX38_fits_b37 (N : Nat) (l0 : Nat) (l1 : Int32) (l2 : Int32) (l3 : Int32) (s0 : Int32) (h : eH) : Option (Int32 × eH) :=
  (p_V 37 h l0 5 (.int l1)).bind fun h1 =>
  (p_V 37 h1 l0 11 (.int l2)).bind fun h3 =>
  (p_V 37 h3 l0 8 (.int l3)).bind fun h5 =>
  z_r s0 (s0, h5)
theorem pX38_fits_b37 {w : eW} {d : Nat} (hd : 5 ≤ d + 1) {N : Nat} {l0 : Nat} {l1 : Int32} {l2 : Int32} {l3 : Int32} {s0 : Int32} {h : eH} {q} (hf : fX38_fits_b37 N l0 l1 l2 l3 s0 h = some q) : wp w (d + 1) YX38_fits 37 [some (.ref l0), some (.int l1), some (.int l2), some (.int l3), none] [.int s0] h (e_is (e_rn c_I q)) := by
  unfold fX38_fits_b37 at hf
  refine w_istore dX38_fits_37 (by decide) (ls' := [some (.ref l0), some (.int l1), some (.int l2), some (.int l3), some (.int s0)]) rfl ?_
  refine w_aload_n dX38_fits_39 rfl rfl ?_
  refine w_iload_n dX38_fits_40 rfl rfl ?_
  obtain ⟨h1, b2, hf⟩ := Option.bind_eq_some_iff.mp hf
  refine SX38_66 b2 dX38_fits_41 rfl ?_
  refine w_aload_n dX38_fits_44 rfl rfl ?_
  refine w_iload_n dX38_fits_45 rfl rfl ?_
  obtain ⟨h3, b4, hf⟩ := Option.bind_eq_some_iff.mp hf
  refine SX38_78 b4 dX38_fits_46 rfl ?_
  refine w_aload_n dX38_fits_49 rfl rfl ?_
  refine w_iload_n dX38_fits_50 rfl rfl ?_
  obtain ⟨h5, b6, hf⟩ := Option.bind_eq_some_iff.mp hf
  refine SX38_32 b6 dX38_fits_51 rfl ?_
  refine w_iload dX38_fits_54 rfl ?_
  obtain ⟨b7, rfl⟩ := z_r_some hf
  exact w_iret dX38_fits_56 rfl b7 rfl
def fX38_fits (N : Nat) (this : Nat) (h : eH) : Option (Int32 × eH) :=
  (k_ok 37 h this).bind fun _ =>
  (fX38_findMoves N this h).bind fun q2 =>
  (g_I 37 q2.2 this 5).bind fun x3 =>
  (g_I 37 q2.2 this 11).bind fun x5 =>
  (g_I 37 q2.2 this 8).bind fun x7 =>
  (k_ok 37 q2.2 this).bind fun _ =>
  (fX38_writePage N this q2.2).bind fun q10 =>
  (g_I 37 q10.2 this 5).bind fun x11 =>
  if (200000 : Int32) < x11 then
    fX38_fits_b37 N this x3 x5 x7 (0 : Int32) q10.2
  else
    fX38_fits_b37 N this x3 x5 x7 (1 : Int32) q10.2
theorem pX38_fits {w : eW} {d : Nat} (hd : 5 ≤ d) {N : Nat} {this : Nat} {h : eH} {q} (hf : fX38_fits N this h = some q) : wm w d YX38_fits [.ref this] h (e_is (e_rn c_I q)) := by
  obtain ⟨d, rfl⟩ : ∃ e, d = e + 1 := ⟨d - 1, by omega⟩
  show wp w (d + 1) YX38_fits 0 [some (.ref this), none, none, none, none] [] h _
  unfold fX38_fits at hf
  refine w_aload_n dX38_fits_0 rfl rfl ?_
  obtain ⟨_, b1, hf⟩ := Option.bind_eq_some_iff.mp hf
  refine x_cnV hf (e_stV (Yc := YX38_findMoves) (ci := 37) (av := []) (st := []) dX38_fits_1 q5603 mX38_findMoves rfl (k_ok_some b1).1 (k_ok_some b1).2) mX38_findMoves.2.2.1 mX38_findMoves.2.2.2.2.1 (Nat.le_of_ble_eq_true rfl) (Nat.le_of_ble_eq_true rfl) (fun q hq => pX38_findMoves (by omega) hq) (fun q2 hf => ?_)
  refine w_aload_n dX38_fits_4 rfl rfl ?_
  obtain ⟨x3, b4, hf⟩ := Option.bind_eq_some_iff.mp hf
  refine GX38_66 b4 dX38_fits_5 rfl ?_
  refine w_istore_n dX38_fits_8 rfl (by decide) (ls' := [some (.ref this), some (.int x3), none, none, none]) rfl ?_
  refine w_aload_n dX38_fits_9 rfl rfl ?_
  obtain ⟨x5, b6, hf⟩ := Option.bind_eq_some_iff.mp hf
  refine GX38_78 b6 dX38_fits_10 rfl ?_
  refine w_istore_n dX38_fits_13 rfl (by decide) (ls' := [some (.ref this), some (.int x3), some (.int x5), none, none]) rfl ?_
  refine w_aload_n dX38_fits_14 rfl rfl ?_
  obtain ⟨x7, b8, hf⟩ := Option.bind_eq_some_iff.mp hf
  refine GX38_32 b8 dX38_fits_15 rfl ?_
  refine w_istore_n dX38_fits_18 rfl (by decide) (ls' := [some (.ref this), some (.int x3), some (.int x5), some (.int x7), none]) rfl ?_
  refine w_aload_n dX38_fits_19 rfl rfl ?_
  obtain ⟨_, b9, hf⟩ := Option.bind_eq_some_iff.mp hf
  refine x_cnV hf (e_stV (Yc := YX38_writePage) (ci := 37) (av := []) (st := []) dX38_fits_20 q5607 mX38_writePage rfl (k_ok_some b9).1 (k_ok_some b9).2) mX38_writePage.2.2.1 mX38_writePage.2.2.2.2.1 (Nat.le_of_ble_eq_true rfl) (Nat.le_of_ble_eq_true rfl) (fun q hq => pX38_writePage (by omega) hq) (fun q10 hf => ?_)
  refine w_aload_n dX38_fits_23 rfl rfl ?_
  obtain ⟨x11, b12, hf⟩ := Option.bind_eq_some_iff.mp hf
  refine GX38_66 b12 dX38_fits_24 rfl ?_
  refine w_ldc dX38_fits_27 q5637 ?_
  refine w_icmp_gt 36 dX38_fits_29 (by decide) (fun c13 => ?_) (fun c13 => ?_)
  · replace hf := (if_pos (show (200000 : Int32) < x11 from c13)).symm.trans hf
    refine w_iconst dX38_fits_36 (v := 0) (by decide) ?_
    exact (pX38_fits_b37 hd hf).to ⟨rfl, rfl, rfl, rfl, trivial⟩
  · replace hf := (if_neg (show ¬ ((200000 : Int32) < x11) from c13)).symm.trans hf
    refine w_iconst dX38_fits_32 (v := 1) (by decide) ?_
    refine w_goto 37 dX38_fits_33 (by decide) ?_
    exact (pX38_fits_b37 hd hf).to ⟨rfl, rfl, rfl, rfl, trivial⟩
abbrev cX38_ship : ByteArray := prog_39_method_16_code
def yX38_ship : MethodName := ⟨RX38, "ship", "()V"⟩
def YX38_ship : eY := (yX38_ship, cX38_ship, 2, none, [])
theorem mX38_ship : e_mv YX38_ship RX38 0 := ⟨q5640, q5641, q5642, by decide, by decide +kernel, (e_sig (by decide +kernel))⟩
theorem dX38_ship_0 : decode cX38_ship 0 = .ok (.aload_n 0, 1) := dc_42 (by decide +kernel)
theorem dX38_ship_1 : decode cX38_ship 1 = .ok (.invokevirtual 126, 3) := dc_182 (a := 0) (b := 126) (n := 126) (by decide +kernel)
theorem dX38_ship_4 : decode cX38_ship 4 = .ok (.iconst 0, 1) := dc_3 (by decide +kernel)
theorem dX38_ship_5 : decode cX38_ship 5 = .ok (.istore_n 1, 1) := dc_60 (by decide +kernel)
theorem dX38_ship_6 : decode cX38_ship 6 = .ok (.iload_n 1, 1) := dc_27 (by decide +kernel)
theorem dX38_ship_7 : decode cX38_ship 7 = .ok (.aload_n 0, 1) := dc_42 (by decide +kernel)
theorem dX38_ship_8 : decode cX38_ship 8 = .ok (.getfield 88, 3) := dc_180 (a := 0) (b := 88) (n := 88) (by decide +kernel)
theorem dX38_ship_11 : decode cX38_ship 11 = .ok (.if_icmp .ge 83, 3) := dc_162 (a := 0) (b := 83) (v := 83) (by decide +kernel)
theorem dX38_ship_14 : decode cX38_ship 14 = .ok (.aload_n 0, 1) := dc_42 (by decide +kernel)
theorem dX38_ship_15 : decode cX38_ship 15 = .ok (.aload_n 0, 1) := dc_42 (by decide +kernel)
theorem dX38_ship_16 : decode cX38_ship 16 = .ok (.getfield 48, 3) := dc_180 (a := 0) (b := 48) (n := 48) (by decide +kernel)
theorem dX38_ship_19 : decode cX38_ship 19 = .ok (.iload_n 1, 1) := dc_27 (by decide +kernel)
theorem dX38_ship_20 : decode cX38_ship 20 = .ok (.iaload, 1) := dc_46 (by decide +kernel)
theorem dX38_ship_21 : decode cX38_ship 21 = .ok (.aload_n 0, 1) := dc_42 (by decide +kernel)
theorem dX38_ship_22 : decode cX38_ship 22 = .ok (.getfield 72, 3) := dc_180 (a := 0) (b := 72) (n := 72) (by decide +kernel)
theorem dX38_ship_25 : decode cX38_ship 25 = .ok (.if_icmp .le 12, 3) := dc_164 (a := 0) (b := 12) (v := 12) (by decide +kernel)
theorem dX38_ship_28 : decode cX38_ship 28 = .ok (.aload_n 0, 1) := dc_42 (by decide +kernel)
theorem dX38_ship_29 : decode cX38_ship 29 = .ok (.getfield 48, 3) := dc_180 (a := 0) (b := 48) (n := 48) (by decide +kernel)
theorem dX38_ship_32 : decode cX38_ship 32 = .ok (.iload_n 1, 1) := dc_27 (by decide +kernel)
theorem dX38_ship_33 : decode cX38_ship 33 = .ok (.iaload, 1) := dc_46 (by decide +kernel)
theorem dX38_ship_34 : decode cX38_ship 34 = .ok (.goto 7, 3) := dc_167 (a := 0) (b := 7) (v := 7) (by decide +kernel)
theorem dX38_ship_37 : decode cX38_ship 37 = .ok (.aload_n 0, 1) := dc_42 (by decide +kernel)
theorem dX38_ship_38 : decode cX38_ship 38 = .ok (.getfield 72, 3) := dc_180 (a := 0) (b := 72) (n := 72) (by decide +kernel)
theorem dX38_ship_41 : decode cX38_ship 41 = .ok (.putfield 72, 3) := dc_181 (a := 0) (b := 72) (n := 72) (by decide +kernel)
theorem dX38_ship_44 : decode cX38_ship 44 = .ok (.aload_n 0, 1) := dc_42 (by decide +kernel)
theorem dX38_ship_45 : decode cX38_ship 45 = .ok (.aload_n 0, 1) := dc_42 (by decide +kernel)
theorem dX38_ship_46 : decode cX38_ship 46 = .ok (.getfield 45, 3) := dc_180 (a := 0) (b := 45) (n := 45) (by decide +kernel)
theorem dX38_ship_49 : decode cX38_ship 49 = .ok (.iload_n 1, 1) := dc_27 (by decide +kernel)
theorem dX38_ship_50 : decode cX38_ship 50 = .ok (.iaload, 1) := dc_46 (by decide +kernel)
theorem dX38_ship_51 : decode cX38_ship 51 = .ok (.aload_n 0, 1) := dc_42 (by decide +kernel)
theorem dX38_ship_52 : decode cX38_ship 52 = .ok (.getfield 54, 3) := dc_180 (a := 0) (b := 54) (n := 54) (by decide +kernel)
theorem dX38_ship_55 : decode cX38_ship 55 = .ok (.iload_n 1, 1) := dc_27 (by decide +kernel)
theorem dX38_ship_56 : decode cX38_ship 56 = .ok (.iaload, 1) := dc_46 (by decide +kernel)
theorem dX38_ship_57 : decode cX38_ship 57 = .ok (.iadd, 1) := dc_96 (by decide +kernel)
theorem dX38_ship_58 : decode cX38_ship 58 = .ok (.aload_n 0, 1) := dc_42 (by decide +kernel)
theorem dX38_ship_59 : decode cX38_ship 59 = .ok (.getfield 75, 3) := dc_180 (a := 0) (b := 75) (n := 75) (by decide +kernel)
theorem dX38_ship_62 : decode cX38_ship 62 = .ok (.if_icmp .le 19, 3) := dc_164 (a := 0) (b := 19) (v := 19) (by decide +kernel)
theorem dX38_ship_65 : decode cX38_ship 65 = .ok (.aload_n 0, 1) := dc_42 (by decide +kernel)
theorem dX38_ship_66 : decode cX38_ship 66 = .ok (.getfield 45, 3) := dc_180 (a := 0) (b := 45) (n := 45) (by decide +kernel)
theorem dX38_ship_69 : decode cX38_ship 69 = .ok (.iload_n 1, 1) := dc_27 (by decide +kernel)
theorem dX38_ship_70 : decode cX38_ship 70 = .ok (.iaload, 1) := dc_46 (by decide +kernel)
theorem dX38_ship_71 : decode cX38_ship 71 = .ok (.aload_n 0, 1) := dc_42 (by decide +kernel)
theorem dX38_ship_72 : decode cX38_ship 72 = .ok (.getfield 54, 3) := dc_180 (a := 0) (b := 54) (n := 54) (by decide +kernel)
theorem dX38_ship_75 : decode cX38_ship 75 = .ok (.iload_n 1, 1) := dc_27 (by decide +kernel)
theorem dX38_ship_76 : decode cX38_ship 76 = .ok (.iaload, 1) := dc_46 (by decide +kernel)
theorem dX38_ship_77 : decode cX38_ship 77 = .ok (.iadd, 1) := dc_96 (by decide +kernel)
theorem dX38_ship_78 : decode cX38_ship 78 = .ok (.goto 7, 3) := dc_167 (a := 0) (b := 7) (v := 7) (by decide +kernel)
theorem dX38_ship_81 : decode cX38_ship 81 = .ok (.aload_n 0, 1) := dc_42 (by decide +kernel)
theorem dX38_ship_82 : decode cX38_ship 82 = .ok (.getfield 75, 3) := dc_180 (a := 0) (b := 75) (n := 75) (by decide +kernel)
theorem dX38_ship_85 : decode cX38_ship 85 = .ok (.putfield 75, 3) := dc_181 (a := 0) (b := 75) (n := 75) (by decide +kernel)
theorem dX38_ship_88 : decode cX38_ship 88 = .ok (.iinc 1 1, 3) := dc_132 (a := 1) (b := 1) (v := 1) (by decide +kernel)
theorem dX38_ship_91 : decode cX38_ship 91 = .ok (.goto (-85), 3) := dc_167 (a := 255) (b := 171) (v := -85) (by decide +kernel)
theorem dX38_ship_94 : decode cX38_ship 94 = .ok (.aload_n 0, 1) := dc_42 (by decide +kernel)
theorem dX38_ship_95 : decode cX38_ship 95 = .ok (.dup, 1) := dc_89 (by decide +kernel)
theorem dX38_ship_96 : decode cX38_ship 96 = .ok (.getfield 69, 3) := dc_180 (a := 0) (b := 69) (n := 69) (by decide +kernel)
theorem dX38_ship_99 : decode cX38_ship 99 = .ok (.iconst 1, 1) := dc_4 (by decide +kernel)
theorem dX38_ship_100 : decode cX38_ship 100 = .ok (.iadd, 1) := dc_96 (by decide +kernel)
theorem dX38_ship_101 : decode cX38_ship 101 = .ok (.putfield 69, 3) := dc_181 (a := 0) (b := 69) (n := 69) (by decide +kernel)
theorem dX38_ship_104 : decode cX38_ship 104 = .ok (.return_, 1) := dc_177 (by decide +kernel)
theorem GX38_69 {w : eW} {d : Nat} {Y : eY} {pc : Nat} {ls : eL} {st : List Value} {h : eH} {Q : eO → eH → Prop} {a : Nat} {x : Int32} (hf : g_I 37 h a 7 = some x) (hd : decode Y.2.1 pc = .ok (.getfield 69, 3)) (hY : Y.1.cls = RX38) (kk : wp w d Y (pc + 3) ls (.int x :: st) h Q) : wp w d Y pc ls (.ref a :: st) h Q := x_gI (ci := 37) (k := 7) hf hd rfl (by decide) (by rw [hY]; exact q4399) kk
theorem GX38_72 {w : eW} {d : Nat} {Y : eY} {pc : Nat} {ls : eL} {st : List Value} {h : eH} {Q : eO → eH → Prop} {a : Nat} {x : Int32} (hf : g_I 37 h a 9 = some x) (hd : decode Y.2.1 pc = .ok (.getfield 72, 3)) (hY : Y.1.cls = RX38) (kk : wp w d Y (pc + 3) ls (.int x :: st) h Q) : wp w d Y pc ls (.ref a :: st) h Q := x_gI (ci := 37) (k := 9) hf hd rfl (by decide) (by rw [hY]; exact q4401) kk
theorem GX38_75 {w : eW} {d : Nat} {Y : eY} {pc : Nat} {ls : eL} {st : List Value} {h : eH} {Q : eO → eH → Prop} {a : Nat} {x : Int32} (hf : g_I 37 h a 10 = some x) (hd : decode Y.2.1 pc = .ok (.getfield 75, 3)) (hY : Y.1.cls = RX38) (kk : wp w d Y (pc + 3) ls (.int x :: st) h Q) : wp w d Y pc ls (.ref a :: st) h Q := x_gI (ci := 37) (k := 10) hf hd rfl (by decide) (by rw [hY]; exact q4402) kk
theorem SX38_69 {w : eW} {d : Nat} {Y : eY} {pc : Nat} {ls : eL} {st : List Value} {h : eH} {Q : eO → eH → Prop} {a : Nat} {h' : eH} {x : Int32} (hf : p_V 37 h a 7 (.int x) = some h') (hd : decode Y.2.1 pc = .ok (.putfield 69, 3)) (hY : Y.1.cls = RX38) (kk : wp w d Y (pc + 3) ls st h' Q) : wp w d Y pc ls (.int x :: .ref a :: st) h Q := x_pI (ci := 37) (k := 7) hf hd rfl (by decide) (by rw [hY]; exact q4399) rfl rfl kk
theorem SX38_72 {w : eW} {d : Nat} {Y : eY} {pc : Nat} {ls : eL} {st : List Value} {h : eH} {Q : eO → eH → Prop} {a : Nat} {h' : eH} {x : Int32} (hf : p_V 37 h a 9 (.int x) = some h') (hd : decode Y.2.1 pc = .ok (.putfield 72, 3)) (hY : Y.1.cls = RX38) (kk : wp w d Y (pc + 3) ls st h' Q) : wp w d Y pc ls (.int x :: .ref a :: st) h Q := x_pI (ci := 37) (k := 9) hf hd rfl (by decide) (by rw [hY]; exact q4401) rfl rfl kk
theorem SX38_75 {w : eW} {d : Nat} {Y : eY} {pc : Nat} {ls : eL} {st : List Value} {h : eH} {Q : eO → eH → Prop} {a : Nat} {h' : eH} {x : Int32} (hf : p_V 37 h a 10 (.int x) = some h') (hd : decode Y.2.1 pc = .ok (.putfield 75, 3)) (hY : Y.1.cls = RX38) (kk : wp w d Y (pc + 3) ls st h' Q) : wp w d Y pc ls (.int x :: .ref a :: st) h Q := x_pI (ci := 37) (k := 10) hf hd rfl (by decide) (by rw [hY]; exact q4402) rfl rfl kk
def fX38_ship_b85 (N : Nat) (k6 : Nat → Int32 → eH → Option (Unit × eH)) (l0 : Nat) (l1 : Int32) (s0 : Nat) (s1 : Int32) (h : eH) : Option (Unit × eH) :=
  (p_V 37 h s0 10 (.int s1)).bind fun h1 =>
  k6 l0 (l1 + (1 : Int32)) h1
theorem pX38_ship_b85 {w : eW} {d : Nat} (hd : 5 ≤ d + 1) {N : Nat} {k6 : Nat → Int32 → eH → Option (Unit × eH)} (hk6 : ∀ l0 l1 h q, k6 l0 l1 h = some q → wp w (d + 1) YX38_ship 6 [some (.ref l0), some (.int l1)] [] h (e_is (e_rn c_V q))) {l0 : Nat} {l1 : Int32} {s0 : Nat} {s1 : Int32} {h : eH} {q} (hf : fX38_ship_b85 N k6 l0 l1 s0 s1 h = some q) : wp w (d + 1) YX38_ship 85 [some (.ref l0), some (.int l1)] [.int s1, .ref s0] h (e_is (e_rn c_V q)) := by
  unfold fX38_ship_b85 at hf
  obtain ⟨h1, b2, hf⟩ := Option.bind_eq_some_iff.mp hf
  refine SX38_75 b2 dX38_ship_85 rfl ?_
  refine w_iinc dX38_ship_88 (v := (l1 + (1 : Int32))) rfl rfl (by decide) (ls' := [some (.ref l0), some (.int (l1 + (1 : Int32)))]) rfl ?_
  refine w_goto 6 dX38_ship_91 (by decide) ?_
  exact (hk6 _ _ _ _ hf).to ⟨rfl, rfl, trivial⟩
def fX38_ship_b41 (N : Nat) (k6 : Nat → Int32 → eH → Option (Unit × eH)) (l0 : Nat) (l1 : Int32) (s0 : Nat) (s1 : Int32) (h : eH) : Option (Unit × eH) :=
  (p_V 37 h s0 9 (.int s1)).bind fun h1 =>
  (g_A 37 h1 l0 16).bind fun a3 =>
  (r_I 100 h1 a3 l1).bind fun x5 =>
  (g_A 37 h1 l0 19).bind fun a7 =>
  (r_I 100 h1 a7 l1).bind fun x9 =>
  (g_I 37 h1 l0 10).bind fun x11 =>
  if (x5 + x9) ≤ x11 then
    (g_I 37 h1 l0 10).bind fun x14 =>
    fX38_ship_b85 N k6 l0 l1 l0 x14 h1
  else
    (g_A 37 h1 l0 16).bind fun a16 =>
    (r_I 100 h1 a16 l1).bind fun x18 =>
    (g_A 37 h1 l0 19).bind fun a20 =>
    (r_I 100 h1 a20 l1).bind fun x22 =>
    fX38_ship_b85 N k6 l0 l1 l0 (x18 + x22) h1
theorem pX38_ship_b41 {w : eW} {d : Nat} (hd : 5 ≤ d + 1) {N : Nat} {k6 : Nat → Int32 → eH → Option (Unit × eH)} (hk6 : ∀ l0 l1 h q, k6 l0 l1 h = some q → wp w (d + 1) YX38_ship 6 [some (.ref l0), some (.int l1)] [] h (e_is (e_rn c_V q))) {l0 : Nat} {l1 : Int32} {s0 : Nat} {s1 : Int32} {h : eH} {q} (hf : fX38_ship_b41 N k6 l0 l1 s0 s1 h = some q) : wp w (d + 1) YX38_ship 41 [some (.ref l0), some (.int l1)] [.int s1, .ref s0] h (e_is (e_rn c_V q)) := by
  unfold fX38_ship_b41 at hf
  obtain ⟨h1, b2, hf⟩ := Option.bind_eq_some_iff.mp hf
  refine SX38_72 b2 dX38_ship_41 rfl ?_
  refine w_aload_n dX38_ship_44 rfl rfl ?_
  refine w_aload_n dX38_ship_45 rfl rfl ?_
  obtain ⟨a3, b4, hf⟩ := Option.bind_eq_some_iff.mp hf
  refine GX38_45 b4 dX38_ship_46 rfl ?_
  refine w_iload_n dX38_ship_49 rfl rfl ?_
  obtain ⟨x5, b6, hf⟩ := Option.bind_eq_some_iff.mp hf
  refine x_rI b6 dX38_ship_50 ?_
  refine w_aload_n dX38_ship_51 rfl rfl ?_
  obtain ⟨a7, b8, hf⟩ := Option.bind_eq_some_iff.mp hf
  refine GX38_54 b8 dX38_ship_52 rfl ?_
  refine w_iload_n dX38_ship_55 rfl rfl ?_
  obtain ⟨x9, b10, hf⟩ := Option.bind_eq_some_iff.mp hf
  refine x_rI b10 dX38_ship_56 ?_
  refine w_iadd dX38_ship_57 ?_
  refine w_aload_n dX38_ship_58 rfl rfl ?_
  obtain ⟨x11, b12, hf⟩ := Option.bind_eq_some_iff.mp hf
  refine GX38_75 b12 dX38_ship_59 rfl ?_
  refine w_icmp_le 81 dX38_ship_62 (by decide) (fun c13 => ?_) (fun c13 => ?_)
  · replace hf := (if_pos (show (x5 + x9) ≤ x11 from c13)).symm.trans hf
    refine w_aload_n dX38_ship_81 rfl rfl ?_
    obtain ⟨x14, b15, hf⟩ := Option.bind_eq_some_iff.mp hf
    refine GX38_75 b15 dX38_ship_82 rfl ?_
    exact (pX38_ship_b85 hd hk6 hf).to ⟨rfl, rfl, trivial⟩
  · replace hf := (if_neg (show ¬ ((x5 + x9) ≤ x11) from c13)).symm.trans hf
    refine w_aload_n dX38_ship_65 rfl rfl ?_
    obtain ⟨a16, b17, hf⟩ := Option.bind_eq_some_iff.mp hf
    refine GX38_45 b17 dX38_ship_66 rfl ?_
    refine w_iload_n dX38_ship_69 rfl rfl ?_
    obtain ⟨x18, b19, hf⟩ := Option.bind_eq_some_iff.mp hf
    refine x_rI b19 dX38_ship_70 ?_
    refine w_aload_n dX38_ship_71 rfl rfl ?_
    obtain ⟨a20, b21, hf⟩ := Option.bind_eq_some_iff.mp hf
    refine GX38_54 b21 dX38_ship_72 rfl ?_
    refine w_iload_n dX38_ship_75 rfl rfl ?_
    obtain ⟨x22, b23, hf⟩ := Option.bind_eq_some_iff.mp hf
    refine x_rI b23 dX38_ship_76 ?_
    refine w_iadd dX38_ship_77 ?_
    refine w_goto 85 dX38_ship_78 (by decide) ?_
    exact (pX38_ship_b85 hd hk6 hf).to ⟨rfl, rfl, trivial⟩
def fX38_ship_b6 (N : Nat) : Nat → Nat → Int32 → eH → Option (Unit × eH)
  | 0, _, _, _ => none
  | n + 1, l0, l1, h =>
    (g_I 37 h l0 13).bind fun x1 =>
    if x1 ≤ l1 then
      (g_I 37 h l0 7).bind fun x4 =>
      (p_V 37 h l0 7 (.int (x4 + (1 : Int32)))).bind fun h6 =>
      some ((), h6)
    else
      (g_A 37 h l0 17).bind fun a8 =>
      (r_I 100 h a8 l1).bind fun x10 =>
      (g_I 37 h l0 9).bind fun x12 =>
      if x10 ≤ x12 then
        (g_I 37 h l0 9).bind fun x15 =>
        fX38_ship_b41 N (fX38_ship_b6 N n) l0 l1 l0 x15 h
      else
        (g_A 37 h l0 17).bind fun a17 =>
        (r_I 100 h a17 l1).bind fun x19 =>
        fX38_ship_b41 N (fX38_ship_b6 N n) l0 l1 l0 x19 h
theorem pX38_ship_b6 {w : eW} {d : Nat} (hd : 5 ≤ d + 1) {N : Nat} : ∀ (n : Nat) l0 l1 h q, fX38_ship_b6 N n l0 l1 h = some q → wp w (d + 1) YX38_ship 6 [some (.ref l0), some (.int l1)] [] h (e_is (e_rn c_V q)) := by
  intro n
  induction n with
  | zero => intro l0 l1 h q hf; simp [fX38_ship_b6] at hf
  | succ n ih =>
    intro l0 l1 h q hf
    rw [fX38_ship_b6] at hf
    refine w_iload_n dX38_ship_6 rfl rfl ?_
    refine w_aload_n dX38_ship_7 rfl rfl ?_
    obtain ⟨x1, b2, hf⟩ := Option.bind_eq_some_iff.mp hf
    refine GX38_88 b2 dX38_ship_8 rfl ?_
    refine w_icmp_ge 94 dX38_ship_11 (by decide) (fun c3 => ?_) (fun c3 => ?_)
    · replace hf := (if_pos (show x1 ≤ l1 from c3)).symm.trans hf
      refine w_aload_n dX38_ship_94 rfl rfl ?_
      refine w_dup dX38_ship_95 rfl ?_
      obtain ⟨x4, b5, hf⟩ := Option.bind_eq_some_iff.mp hf
      refine GX38_69 b5 dX38_ship_96 rfl ?_
      refine w_iconst dX38_ship_99 (v := 1) (by decide) ?_
      refine w_iadd dX38_ship_100 ?_
      obtain ⟨h6, b7, hf⟩ := Option.bind_eq_some_iff.mp hf
      refine SX38_69 b7 dX38_ship_101 rfl ?_
      cases hf
      exact w_vret dX38_ship_104 rfl rfl
    · replace hf := (if_neg (show ¬ (x1 ≤ l1) from c3)).symm.trans hf
      refine w_aload_n dX38_ship_14 rfl rfl ?_
      refine w_aload_n dX38_ship_15 rfl rfl ?_
      obtain ⟨a8, b9, hf⟩ := Option.bind_eq_some_iff.mp hf
      refine GX38_48 b9 dX38_ship_16 rfl ?_
      refine w_iload_n dX38_ship_19 rfl rfl ?_
      obtain ⟨x10, b11, hf⟩ := Option.bind_eq_some_iff.mp hf
      refine x_rI b11 dX38_ship_20 ?_
      refine w_aload_n dX38_ship_21 rfl rfl ?_
      obtain ⟨x12, b13, hf⟩ := Option.bind_eq_some_iff.mp hf
      refine GX38_72 b13 dX38_ship_22 rfl ?_
      refine w_icmp_le 37 dX38_ship_25 (by decide) (fun c14 => ?_) (fun c14 => ?_)
      · replace hf := (if_pos (show x10 ≤ x12 from c14)).symm.trans hf
        refine w_aload_n dX38_ship_37 rfl rfl ?_
        obtain ⟨x15, b16, hf⟩ := Option.bind_eq_some_iff.mp hf
        refine GX38_72 b16 dX38_ship_38 rfl ?_
        exact (pX38_ship_b41 hd ih hf).to ⟨rfl, rfl, trivial⟩
      · replace hf := (if_neg (show ¬ (x10 ≤ x12) from c14)).symm.trans hf
        refine w_aload_n dX38_ship_28 rfl rfl ?_
        obtain ⟨a17, b18, hf⟩ := Option.bind_eq_some_iff.mp hf
        refine GX38_48 b18 dX38_ship_29 rfl ?_
        refine w_iload_n dX38_ship_32 rfl rfl ?_
        obtain ⟨x19, b20, hf⟩ := Option.bind_eq_some_iff.mp hf
        refine x_rI b20 dX38_ship_33 ?_
        refine w_goto 41 dX38_ship_34 (by decide) ?_
        exact (pX38_ship_b41 hd ih hf).to ⟨rfl, rfl, trivial⟩
def fX38_ship (N : Nat) (this : Nat) (h : eH) : Option (Unit × eH) :=
  (k_ok 37 h this).bind fun _ =>
  (fX38_writePage N this h).bind fun q2 =>
  fX38_ship_b6 N N this (0 : Int32) q2.2
theorem pX38_ship {w : eW} {d : Nat} (hd : 5 ≤ d) {N : Nat} {this : Nat} {h : eH} {q} (hf : fX38_ship N this h = some q) : wm w d YX38_ship [.ref this] h (e_is (e_rn c_V q)) := by
  obtain ⟨d, rfl⟩ : ∃ e, d = e + 1 := ⟨d - 1, by omega⟩
  show wp w (d + 1) YX38_ship 0 [some (.ref this), none] [] h _
  unfold fX38_ship at hf
  refine w_aload_n dX38_ship_0 rfl rfl ?_
  obtain ⟨_, b1, hf⟩ := Option.bind_eq_some_iff.mp hf
  refine x_cnV hf (e_stV (Yc := YX38_writePage) (ci := 37) (av := []) (st := []) dX38_ship_1 q5607 mX38_writePage rfl (k_ok_some b1).1 (k_ok_some b1).2) mX38_writePage.2.2.1 mX38_writePage.2.2.2.2.1 (Nat.le_of_ble_eq_true rfl) (Nat.le_of_ble_eq_true rfl) (fun q hq => pX38_writePage (by omega) hq) (fun q2 hf => ?_)
  refine w_iconst dX38_ship_4 (v := 0) (by decide) ?_
  refine w_istore_n dX38_ship_5 rfl (by decide) (ls' := [some (.ref this), some (.int (0 : Int32))]) rfl ?_
  exact (pX38_ship_b6 hd N _ _ _ _ hf).to ⟨rfl, rfl, trivial⟩
abbrev cX35_setAt : ByteArray := prog_37_method_13_code
def yX35_setAt : MethodName := ⟨RX35, "setAt", "(IIZ)V"⟩
def YX35_setAt : eY := (yX35_setAt, cX35_setAt, 5, none, [])
theorem mX35_setAt : e_mv YX35_setAt RX35 3 := ⟨q5207, qs264, q5208, by decide, by decide +kernel, (e_sig (by decide +kernel))⟩
theorem dX35_setAt_0 : decode cX35_setAt 0 = .ok (.iload_n 3, 1) := dc_29 (by decide +kernel)
theorem dX35_setAt_1 : decode cX35_setAt 1 = .ok (.ifCond .eq 7, 3) := dc_153 (a := 0) (b := 7) (v := 7) (by decide +kernel)
theorem dX35_setAt_4 : decode cX35_setAt 4 = .ok (.iconst 0, 1) := dc_3 (by decide +kernel)
theorem dX35_setAt_5 : decode cX35_setAt 5 = .ok (.goto 7, 3) := dc_167 (a := 0) (b := 7) (v := 7) (by decide +kernel)
theorem dX35_setAt_8 : decode cX35_setAt 8 = .ok (.aload_n 0, 1) := dc_42 (by decide +kernel)
theorem dX35_setAt_9 : decode cX35_setAt 9 = .ok (.getfield 323, 3) := dc_180 (a := 1) (b := 67) (n := 323) (by decide +kernel)
theorem dX35_setAt_12 : decode cX35_setAt 12 = .ok (.istore 4, 2) := dc_54 (a := 4) (by decide +kernel)
theorem dX35_setAt_14 : decode cX35_setAt 14 = .ok (.iload 4, 2) := dc_21 (a := 4) (by decide +kernel)
theorem dX35_setAt_16 : decode cX35_setAt 16 = .ok (.aload_n 0, 1) := dc_42 (by decide +kernel)
theorem dX35_setAt_17 : decode cX35_setAt 17 = .ok (.getfield 323, 3) := dc_180 (a := 1) (b := 67) (n := 323) (by decide +kernel)
theorem dX35_setAt_20 : decode cX35_setAt 20 = .ok (.if_icmp .gt 30, 3) := dc_163 (a := 0) (b := 30) (v := 30) (by decide +kernel)
theorem dX35_setAt_23 : decode cX35_setAt 23 = .ok (.aload_n 0, 1) := dc_42 (by decide +kernel)
theorem dX35_setAt_24 : decode cX35_setAt 24 = .ok (.getfield 321, 3) := dc_180 (a := 1) (b := 65) (n := 321) (by decide +kernel)
theorem dX35_setAt_27 : decode cX35_setAt 27 = .ok (.ifCond .ne 23, 3) := dc_154 (a := 0) (b := 23) (v := 23) (by decide +kernel)
theorem dX35_setAt_30 : decode cX35_setAt 30 = .ok (.aload_n 0, 1) := dc_42 (by decide +kernel)
theorem dX35_setAt_31 : decode cX35_setAt 31 = .ok (.getfield 65, 3) := dc_180 (a := 0) (b := 65) (n := 65) (by decide +kernel)
theorem dX35_setAt_34 : decode cX35_setAt 34 = .ok (.sipush 3812, 3) := dc_17 (a := 14) (b := 228) (v := 3812) (by decide +kernel)
theorem dX35_setAt_37 : decode cX35_setAt 37 = .ok (.iload 4, 2) := dc_21 (a := 4) (by decide +kernel)
theorem dX35_setAt_39 : decode cX35_setAt 39 = .ok (.imul, 1) := dc_104 (by decide +kernel)
theorem dX35_setAt_40 : decode cX35_setAt 40 = .ok (.iload_n 1, 1) := dc_27 (by decide +kernel)
theorem dX35_setAt_41 : decode cX35_setAt 41 = .ok (.iadd, 1) := dc_96 (by decide +kernel)
theorem dX35_setAt_42 : decode cX35_setAt 42 = .ok (.iload_n 2, 1) := dc_28 (by decide +kernel)
theorem dX35_setAt_43 : decode cX35_setAt 43 = .ok (.iastore, 1) := dc_79 (by decide +kernel)
theorem dX35_setAt_44 : decode cX35_setAt 44 = .ok (.iinc 4 1, 3) := dc_132 (a := 4) (b := 1) (v := 1) (by decide +kernel)
theorem dX35_setAt_47 : decode cX35_setAt 47 = .ok (.goto (-33), 3) := dc_167 (a := 255) (b := 223) (v := -33) (by decide +kernel)
theorem dX35_setAt_50 : decode cX35_setAt 50 = .ok (.return_, 1) := dc_177 (by decide +kernel)
def fX35_setAt_b50 (N : Nat)  (h : eH) : Option (Unit × eH) :=
  some ((), h)
theorem pX35_setAt_b50 {w : eW} {d : Nat} (hd : 0 ≤ d) {N : Nat}  {h : eH} {q} (hf : fX35_setAt_b50 N h = some q) : wp w d YX35_setAt 50 [none, none, none, none, none] [] h (e_is (e_rn c_V q)) := by
  unfold fX35_setAt_b50 at hf
  cases hf
  exact w_vret dX35_setAt_50 rfl rfl
def fX35_setAt_b14 (N : Nat) : Nat → Nat → Int32 → Int32 → Int32 → eH → Option (Unit × eH)
  | 0, _, _, _, _, _ => none
  | n + 1, l0, l1, l2, l4, h =>
    (g_I 34 h l0 21).bind fun x1 =>
    if x1 < l4 then
      fX35_setAt_b50 N h
    else
      (g_I 34 h l0 46).bind fun x4 =>
      if ¬ x4 = 0 then
        fX35_setAt_b50 N h
      else
        (g_A 34 h l0 22).bind fun a7 =>
        (q_V 100 h a7 (((3812 : Int32) * l4) + l1) (.int l2)).bind fun h9 =>
        fX35_setAt_b14 N n l0 l1 l2 (l4 + (1 : Int32)) h9
theorem pX35_setAt_b14 {w : eW} {d : Nat} (hd : 0 ≤ d) {N : Nat} : ∀ (n : Nat) l0 l1 l2 l4 h q, fX35_setAt_b14 N n l0 l1 l2 l4 h = some q → wp w d YX35_setAt 14 [some (.ref l0), some (.int l1), some (.int l2), none, some (.int l4)] [] h (e_is (e_rn c_V q)) := by
  intro n
  induction n with
  | zero => intro l0 l1 l2 l4 h q hf; simp [fX35_setAt_b14] at hf
  | succ n ih =>
    intro l0 l1 l2 l4 h q hf
    rw [fX35_setAt_b14] at hf
    refine w_iload dX35_setAt_14 rfl ?_
    refine w_aload_n dX35_setAt_16 rfl rfl ?_
    obtain ⟨x1, b2, hf⟩ := Option.bind_eq_some_iff.mp hf
    refine GX35_323 b2 dX35_setAt_17 rfl ?_
    refine w_icmp_gt 50 dX35_setAt_20 (by decide) (fun c3 => ?_) (fun c3 => ?_)
    · replace hf := (if_pos (show x1 < l4 from c3)).symm.trans hf
      exact (pX35_setAt_b50 hd hf).to trivial
    · replace hf := (if_neg (show ¬ (x1 < l4) from c3)).symm.trans hf
      refine w_aload_n dX35_setAt_23 rfl rfl ?_
      obtain ⟨x4, b5, hf⟩ := Option.bind_eq_some_iff.mp hf
      refine GX35_321 b5 dX35_setAt_24 rfl ?_
      refine w_if_ne 50 dX35_setAt_27 (by decide) (fun c6 => ?_) (fun c6 => ?_)
      · replace hf := (if_pos (show ¬ x4 = 0 from c6)).symm.trans hf
        exact (pX35_setAt_b50 hd hf).to trivial
      · replace hf := (if_neg (show ¬ (¬ x4 = 0) from (fun z => z c6))).symm.trans hf
        refine w_aload_n dX35_setAt_30 rfl rfl ?_
        obtain ⟨a7, b8, hf⟩ := Option.bind_eq_some_iff.mp hf
        refine GX35_65 b8 dX35_setAt_31 rfl ?_
        refine w_sipush dX35_setAt_34 (v := 3812) (by decide) ?_
        refine w_iload dX35_setAt_37 rfl ?_
        refine w_imul dX35_setAt_39 ?_
        refine w_iload_n dX35_setAt_40 rfl rfl ?_
        refine w_iadd dX35_setAt_41 ?_
        refine w_iload_n dX35_setAt_42 rfl rfl ?_
        obtain ⟨h9, b10, hf⟩ := Option.bind_eq_some_iff.mp hf
        refine x_qI b10 dX35_setAt_43 ?_
        refine w_iinc dX35_setAt_44 (v := (l4 + (1 : Int32))) rfl rfl (by decide) (ls' := [some (.ref l0), some (.int l1), some (.int l2), none, some (.int (l4 + (1 : Int32)))]) rfl ?_
        refine w_goto 14 dX35_setAt_47 (by decide) ?_
        exact (ih _ _ _ _ _ _ hf).to ⟨rfl, rfl, rfl, rfl, trivial⟩
def fX35_setAt_b12 (N : Nat) (l0 : Nat) (l1 : Int32) (l2 : Int32) (s0 : Int32) (h : eH) : Option (Unit × eH) :=
  fX35_setAt_b14 N N l0 l1 l2 s0 h
theorem pX35_setAt_b12 {w : eW} {d : Nat} (hd : 0 ≤ d) {N : Nat} {l0 : Nat} {l1 : Int32} {l2 : Int32} {s0 : Int32} {h : eH} {q} (hf : fX35_setAt_b12 N l0 l1 l2 s0 h = some q) : wp w d YX35_setAt 12 [some (.ref l0), some (.int l1), some (.int l2), none, none] [.int s0] h (e_is (e_rn c_V q)) := by
  unfold fX35_setAt_b12 at hf
  refine w_istore dX35_setAt_12 (by decide) (ls' := [some (.ref l0), some (.int l1), some (.int l2), none, some (.int s0)]) rfl ?_
  exact (pX35_setAt_b14 hd N _ _ _ _ _ _ hf).to ⟨rfl, rfl, rfl, rfl, trivial⟩
def fX35_setAt (N : Nat) (this : Nat) (p0 : Int32) (p1 : Int32) (p2 : Int32) (h : eH) : Option (Unit × eH) :=
  if p2 = 0 then
    (g_I 34 h this 21).bind fun x2 =>
    fX35_setAt_b12 N this p0 p1 x2 h
  else
    fX35_setAt_b12 N this p0 p1 (0 : Int32) h
theorem pX35_setAt {w : eW} {d : Nat} (hd : 0 ≤ d) {N : Nat} {this : Nat} {p0 : Int32} {p1 : Int32} {p2 : Int32} {h : eH} {q} (hf : fX35_setAt N this p0 p1 p2 h = some q) : wm w d YX35_setAt [.ref this, .int p0, .int p1, .int p2] h (e_is (e_rn c_V q)) := by
  show wp w d YX35_setAt 0 [some (.ref this), some (.int p0), some (.int p1), some (.int p2), none] [] h _
  unfold fX35_setAt at hf
  refine w_iload_n dX35_setAt_0 rfl rfl ?_
  refine w_if_eq 8 dX35_setAt_1 (by decide) (fun c1 => ?_) (fun c1 => ?_)
  · replace hf := (if_pos (show p2 = 0 from c1)).symm.trans hf
    refine w_aload_n dX35_setAt_8 rfl rfl ?_
    obtain ⟨x2, b3, hf⟩ := Option.bind_eq_some_iff.mp hf
    refine GX35_323 b3 dX35_setAt_9 rfl ?_
    exact (pX35_setAt_b12 hd hf).to ⟨rfl, rfl, rfl, trivial⟩
  · replace hf := (if_neg (show ¬ (p2 = 0) from c1)).symm.trans hf
    refine w_iconst dX35_setAt_4 (v := 0) (by decide) ?_
    refine w_goto 12 dX35_setAt_5 (by decide) ?_
    exact (pX35_setAt_b12 hd hf).to ⟨rfl, rfl, rfl, trivial⟩
abbrev cX35_ship : ByteArray := prog_37_method_163_code
def yX35_ship : MethodName := ⟨RX35, "ship", "()V"⟩
def YX35_ship : eY := (yX35_ship, cX35_ship, 5, none, [])
theorem mX35_ship : e_mv YX35_ship RX35 0 := ⟨q5516, qs323, q5517, by decide, by decide +kernel, (e_sig (by decide +kernel))⟩
theorem dX35_ship_0 : decode cX35_ship 0 = .ok (.aload_n 0, 1) := dc_42 (by decide +kernel)
theorem dX35_ship_1 : decode cX35_ship 1 = .ok (.getfield 385, 3) := dc_180 (a := 1) (b := 129) (n := 385) (by decide +kernel)
theorem dX35_ship_4 : decode cX35_ship 4 = .ok (.aload_n 0, 1) := dc_42 (by decide +kernel)
theorem dX35_ship_5 : decode cX35_ship 5 = .ok (.getfield 382, 3) := dc_180 (a := 1) (b := 126) (n := 382) (by decide +kernel)
theorem dX35_ship_8 : decode cX35_ship 8 = .ok (.isub, 1) := dc_100 (by decide +kernel)
theorem dX35_ship_9 : decode cX35_ship 9 = .ok (.i2l, 1) := dc_133 (by decide +kernel)
theorem dX35_ship_10 : decode cX35_ship 10 = .ok (.lstore_n 1, 1) := dc_64 (by decide +kernel)
theorem dX35_ship_11 : decode cX35_ship 11 = .ok (.aload_n 0, 1) := dc_42 (by decide +kernel)
theorem dX35_ship_12 : decode cX35_ship 12 = .ok (.getfield 382, 3) := dc_180 (a := 1) (b := 126) (n := 382) (by decide +kernel)
theorem dX35_ship_15 : decode cX35_ship 15 = .ok (.istore_n 3, 1) := dc_62 (by decide +kernel)
theorem dX35_ship_16 : decode cX35_ship 16 = .ok (.iload_n 3, 1) := dc_29 (by decide +kernel)
theorem dX35_ship_17 : decode cX35_ship 17 = .ok (.aload_n 0, 1) := dc_42 (by decide +kernel)
theorem dX35_ship_18 : decode cX35_ship 18 = .ok (.getfield 385, 3) := dc_180 (a := 1) (b := 129) (n := 385) (by decide +kernel)
theorem dX35_ship_21 : decode cX35_ship 21 = .ok (.if_icmp .ge 47, 3) := dc_162 (a := 0) (b := 47) (v := 47) (by decide +kernel)
theorem dX35_ship_24 : decode cX35_ship 24 = .ok (.aload_n 0, 1) := dc_42 (by decide +kernel)
theorem dX35_ship_25 : decode cX35_ship 25 = .ok (.getfield 195, 3) := dc_180 (a := 0) (b := 195) (n := 195) (by decide +kernel)
theorem dX35_ship_28 : decode cX35_ship 28 = .ok (.iload_n 3, 1) := dc_29 (by decide +kernel)
theorem dX35_ship_29 : decode cX35_ship 29 = .ok (.iaload, 1) := dc_46 (by decide +kernel)
theorem dX35_ship_30 : decode cX35_ship 30 = .ok (.iconst 5, 1) := dc_8 (by decide +kernel)
theorem dX35_ship_31 : decode cX35_ship 31 = .ok (.if_icmp .ne 29, 3) := dc_160 (a := 0) (b := 29) (v := 29) (by decide +kernel)
theorem dX35_ship_34 : decode cX35_ship 34 = .ok (.aload_n 0, 1) := dc_42 (by decide +kernel)
theorem dX35_ship_35 : decode cX35_ship 35 = .ok (.getfield 210, 3) := dc_180 (a := 0) (b := 210) (n := 210) (by decide +kernel)
theorem dX35_ship_38 : decode cX35_ship 38 = .ok (.iload_n 3, 1) := dc_29 (by decide +kernel)
theorem dX35_ship_39 : decode cX35_ship 39 = .ok (.iaload, 1) := dc_46 (by decide +kernel)
theorem dX35_ship_40 : decode cX35_ship 40 = .ok (.ifCond .lt 20, 3) := dc_155 (a := 0) (b := 20) (v := 20) (by decide +kernel)
theorem dX35_ship_43 : decode cX35_ship 43 = .ok (.lload_n 1, 1) := dc_31 (by decide +kernel)
theorem dX35_ship_44 : decode cX35_ship 44 = .ok (.aload_n 0, 1) := dc_42 (by decide +kernel)
theorem dX35_ship_45 : decode cX35_ship 45 = .ok (.getfield 181, 3) := dc_180 (a := 0) (b := 181) (n := 181) (by decide +kernel)
theorem dX35_ship_48 : decode cX35_ship 48 = .ok (.aload_n 0, 1) := dc_42 (by decide +kernel)
theorem dX35_ship_49 : decode cX35_ship 49 = .ok (.getfield 210, 3) := dc_180 (a := 0) (b := 210) (n := 210) (by decide +kernel)
theorem dX35_ship_52 : decode cX35_ship 52 = .ok (.iload_n 3, 1) := dc_29 (by decide +kernel)
theorem dX35_ship_53 : decode cX35_ship 53 = .ok (.iaload, 1) := dc_46 (by decide +kernel)
theorem dX35_ship_54 : decode cX35_ship 54 = .ok (.iaload, 1) := dc_46 (by decide +kernel)
theorem dX35_ship_55 : decode cX35_ship 55 = .ok (.i2l, 1) := dc_133 (by decide +kernel)
theorem dX35_ship_56 : decode cX35_ship 56 = .ok (.ladd, 1) := dc_97 (by decide +kernel)
theorem dX35_ship_57 : decode cX35_ship 57 = .ok (.goto 4, 3) := dc_167 (a := 0) (b := 4) (v := 4) (by decide +kernel)
theorem dX35_ship_60 : decode cX35_ship 60 = .ok (.lload_n 1, 1) := dc_31 (by decide +kernel)
theorem dX35_ship_61 : decode cX35_ship 61 = .ok (.lstore_n 1, 1) := dc_64 (by decide +kernel)
theorem dX35_ship_62 : decode cX35_ship 62 = .ok (.iinc 3 1, 3) := dc_132 (a := 3) (b := 1) (v := 1) (by decide +kernel)
theorem dX35_ship_65 : decode cX35_ship 65 = .ok (.goto (-49), 3) := dc_167 (a := 255) (b := 207) (v := -49) (by decide +kernel)
theorem dX35_ship_68 : decode cX35_ship 68 = .ok (.aload_n 0, 1) := dc_42 (by decide +kernel)
theorem dX35_ship_69 : decode cX35_ship 69 = .ok (.iconst 0, 1) := dc_3 (by decide +kernel)
theorem dX35_ship_70 : decode cX35_ship 70 = .ok (.putfield 1006, 3) := dc_181 (a := 3) (b := 238) (n := 1006) (by decide +kernel)
theorem dX35_ship_73 : decode cX35_ship 73 = .ok (.lload_n 1, 1) := dc_31 (by decide +kernel)
theorem dX35_ship_74 : decode cX35_ship 74 = .ok (.ldc2_w 1101, 3) := dc_20 (a := 4) (b := 77) (n := 1101) (by decide +kernel)
theorem dX35_ship_77 : decode cX35_ship 77 = .ok (.lcmp, 1) := dc_148 (by decide +kernel)
theorem dX35_ship_78 : decode cX35_ship 78 = .ok (.ifCond .gt 10, 3) := dc_157 (a := 0) (b := 10) (v := 10) (by decide +kernel)
theorem dX35_ship_81 : decode cX35_ship 81 = .ok (.aload_n 0, 1) := dc_42 (by decide +kernel)
theorem dX35_ship_82 : decode cX35_ship 82 = .ok (.invokevirtual 1103, 3) := dc_182 (a := 4) (b := 79) (n := 1103) (by decide +kernel)
theorem dX35_ship_85 : decode cX35_ship 85 = .ok (.ifCond .ne 10, 3) := dc_154 (a := 0) (b := 10) (v := 10) (by decide +kernel)
theorem dX35_ship_88 : decode cX35_ship 88 = .ok (.aload_n 0, 1) := dc_42 (by decide +kernel)
theorem dX35_ship_89 : decode cX35_ship 89 = .ok (.bipush 17, 2) := dc_16 (a := 17) (v := 17) (by decide +kernel)
theorem dX35_ship_91 : decode cX35_ship 91 = .ok (.invokevirtual 428, 3) := dc_182 (a := 1) (b := 172) (n := 428) (by decide +kernel)
theorem dX35_ship_94 : decode cX35_ship 94 = .ok (.return_, 1) := dc_177 (by decide +kernel)
theorem dX35_ship_95 : decode cX35_ship 95 = .ok (.aload_n 0, 1) := dc_42 (by decide +kernel)
theorem dX35_ship_96 : decode cX35_ship 96 = .ok (.invokevirtual 1106, 3) := dc_182 (a := 4) (b := 82) (n := 1106) (by decide +kernel)
theorem dX35_ship_99 : decode cX35_ship 99 = .ok (.ifCond .ne 10, 3) := dc_154 (a := 0) (b := 10) (v := 10) (by decide +kernel)
theorem dX35_ship_102 : decode cX35_ship 102 = .ok (.aload_n 0, 1) := dc_42 (by decide +kernel)
theorem dX35_ship_103 : decode cX35_ship 103 = .ok (.bipush 16, 2) := dc_16 (a := 16) (v := 16) (by decide +kernel)
theorem dX35_ship_105 : decode cX35_ship 105 = .ok (.invokevirtual 428, 3) := dc_182 (a := 1) (b := 172) (n := 428) (by decide +kernel)
theorem dX35_ship_108 : decode cX35_ship 108 = .ok (.return_, 1) := dc_177 (by decide +kernel)
theorem dX35_ship_109 : decode cX35_ship 109 = .ok (.aload_n 0, 1) := dc_42 (by decide +kernel)
theorem dX35_ship_110 : decode cX35_ship 110 = .ok (.getfield 42, 3) := dc_180 (a := 0) (b := 42) (n := 42) (by decide +kernel)
theorem dX35_ship_113 : decode cX35_ship 113 = .ok (.aload_n 0, 1) := dc_42 (by decide +kernel)
theorem dX35_ship_114 : decode cX35_ship 114 = .ok (.getfield 1006, 3) := dc_180 (a := 3) (b := 238) (n := 1006) (by decide +kernel)
theorem dX35_ship_117 : decode cX35_ship 117 = .ok (.putfield 1109, 3) := dc_181 (a := 4) (b := 85) (n := 1109) (by decide +kernel)
theorem dX35_ship_120 : decode cX35_ship 120 = .ok (.iconst 0, 1) := dc_3 (by decide +kernel)
theorem dX35_ship_121 : decode cX35_ship 121 = .ok (.istore_n 3, 1) := dc_62 (by decide +kernel)
theorem dX35_ship_122 : decode cX35_ship 122 = .ok (.iload_n 3, 1) := dc_29 (by decide +kernel)
theorem dX35_ship_123 : decode cX35_ship 123 = .ok (.aload_n 0, 1) := dc_42 (by decide +kernel)
theorem dX35_ship_124 : decode cX35_ship 124 = .ok (.getfield 1006, 3) := dc_180 (a := 3) (b := 238) (n := 1006) (by decide +kernel)
theorem dX35_ship_127 : decode cX35_ship 127 = .ok (.if_icmp .ge 180, 3) := dc_162 (a := 0) (b := 180) (v := 180) (by decide +kernel)
theorem dX35_ship_130 : decode cX35_ship 130 = .ok (.aload_n 0, 1) := dc_42 (by decide +kernel)
theorem dX35_ship_131 : decode cX35_ship 131 = .ok (.getfield 216, 3) := dc_180 (a := 0) (b := 216) (n := 216) (by decide +kernel)
theorem dX35_ship_134 : decode cX35_ship 134 = .ok (.iload_n 3, 1) := dc_29 (by decide +kernel)
theorem dX35_ship_135 : decode cX35_ship 135 = .ok (.iaload, 1) := dc_46 (by decide +kernel)
theorem dX35_ship_136 : decode cX35_ship 136 = .ok (.ifCond .ge 7, 3) := dc_156 (a := 0) (b := 7) (v := 7) (by decide +kernel)
theorem dX35_ship_139 : decode cX35_ship 139 = .ok (.iconst 1, 1) := dc_4 (by decide +kernel)
theorem dX35_ship_140 : decode cX35_ship 140 = .ok (.goto 4, 3) := dc_167 (a := 0) (b := 4) (v := 4) (by decide +kernel)
theorem dX35_ship_143 : decode cX35_ship 143 = .ok (.iconst 0, 1) := dc_3 (by decide +kernel)
theorem dX35_ship_144 : decode cX35_ship 144 = .ok (.istore 4, 2) := dc_54 (a := 4) (by decide +kernel)
theorem dX35_ship_146 : decode cX35_ship 146 = .ok (.aload_n 0, 1) := dc_42 (by decide +kernel)
theorem dX35_ship_147 : decode cX35_ship 147 = .ok (.getfield 42, 3) := dc_180 (a := 0) (b := 42) (n := 42) (by decide +kernel)
theorem dX35_ship_150 : decode cX35_ship 150 = .ok (.getfield 1110, 3) := dc_180 (a := 4) (b := 86) (n := 1110) (by decide +kernel)
theorem dX35_ship_153 : decode cX35_ship 153 = .ok (.iload_n 3, 1) := dc_29 (by decide +kernel)
theorem dX35_ship_154 : decode cX35_ship 154 = .ok (.aload_n 0, 1) := dc_42 (by decide +kernel)
theorem dX35_ship_155 : decode cX35_ship 155 = .ok (.getfield 216, 3) := dc_180 (a := 0) (b := 216) (n := 216) (by decide +kernel)
theorem dX35_ship_158 : decode cX35_ship 158 = .ok (.iload_n 3, 1) := dc_29 (by decide +kernel)
theorem dX35_ship_159 : decode cX35_ship 159 = .ok (.iaload, 1) := dc_46 (by decide +kernel)
theorem dX35_ship_160 : decode cX35_ship 160 = .ok (.iastore, 1) := dc_79 (by decide +kernel)
theorem dX35_ship_161 : decode cX35_ship 161 = .ok (.aload_n 0, 1) := dc_42 (by decide +kernel)
theorem dX35_ship_162 : decode cX35_ship 162 = .ok (.getfield 42, 3) := dc_180 (a := 0) (b := 42) (n := 42) (by decide +kernel)
theorem dX35_ship_165 : decode cX35_ship 165 = .ok (.getfield 1112, 3) := dc_180 (a := 4) (b := 88) (n := 1112) (by decide +kernel)
theorem dX35_ship_168 : decode cX35_ship 168 = .ok (.iload_n 3, 1) := dc_29 (by decide +kernel)
theorem dX35_ship_169 : decode cX35_ship 169 = .ok (.iload 4, 2) := dc_21 (a := 4) (by decide +kernel)
theorem dX35_ship_171 : decode cX35_ship 171 = .ok (.ifCond .eq 13, 3) := dc_153 (a := 0) (b := 13) (v := 13) (by decide +kernel)
theorem dX35_ship_174 : decode cX35_ship 174 = .ok (.aload_n 0, 1) := dc_42 (by decide +kernel)
theorem dX35_ship_175 : decode cX35_ship 175 = .ok (.getfield 228, 3) := dc_180 (a := 0) (b := 228) (n := 228) (by decide +kernel)
theorem dX35_ship_178 : decode cX35_ship 178 = .ok (.iload_n 3, 1) := dc_29 (by decide +kernel)
theorem dX35_ship_179 : decode cX35_ship 179 = .ok (.laload, 1) := dc_47 (by decide +kernel)
theorem dX35_ship_180 : decode cX35_ship 180 = .ok (.l2i, 1) := dc_136 (by decide +kernel)
theorem dX35_ship_181 : decode cX35_ship 181 = .ok (.goto 9, 3) := dc_167 (a := 0) (b := 9) (v := 9) (by decide +kernel)
theorem dX35_ship_184 : decode cX35_ship 184 = .ok (.aload_n 0, 1) := dc_42 (by decide +kernel)
theorem dX35_ship_185 : decode cX35_ship 185 = .ok (.getfield 219, 3) := dc_180 (a := 0) (b := 219) (n := 219) (by decide +kernel)
theorem dX35_ship_188 : decode cX35_ship 188 = .ok (.iload_n 3, 1) := dc_29 (by decide +kernel)
theorem dX35_ship_189 : decode cX35_ship 189 = .ok (.iaload, 1) := dc_46 (by decide +kernel)
theorem dX35_ship_190 : decode cX35_ship 190 = .ok (.iastore, 1) := dc_79 (by decide +kernel)
theorem dX35_ship_191 : decode cX35_ship 191 = .ok (.aload_n 0, 1) := dc_42 (by decide +kernel)
theorem dX35_ship_192 : decode cX35_ship 192 = .ok (.getfield 42, 3) := dc_180 (a := 0) (b := 42) (n := 42) (by decide +kernel)
theorem dX35_ship_195 : decode cX35_ship 195 = .ok (.getfield 1115, 3) := dc_180 (a := 4) (b := 91) (n := 1115) (by decide +kernel)
theorem dX35_ship_198 : decode cX35_ship 198 = .ok (.iload_n 3, 1) := dc_29 (by decide +kernel)
theorem dX35_ship_199 : decode cX35_ship 199 = .ok (.aload_n 0, 1) := dc_42 (by decide +kernel)
theorem dX35_ship_200 : decode cX35_ship 200 = .ok (.getfield 222, 3) := dc_180 (a := 0) (b := 222) (n := 222) (by decide +kernel)
theorem dX35_ship_203 : decode cX35_ship 203 = .ok (.iload_n 3, 1) := dc_29 (by decide +kernel)
theorem dX35_ship_204 : decode cX35_ship 204 = .ok (.laload, 1) := dc_47 (by decide +kernel)
theorem dX35_ship_205 : decode cX35_ship 205 = .ok (.l2i, 1) := dc_136 (by decide +kernel)
theorem dX35_ship_206 : decode cX35_ship 206 = .ok (.iastore, 1) := dc_79 (by decide +kernel)
theorem dX35_ship_207 : decode cX35_ship 207 = .ok (.aload_n 0, 1) := dc_42 (by decide +kernel)
theorem dX35_ship_208 : decode cX35_ship 208 = .ok (.getfield 42, 3) := dc_180 (a := 0) (b := 42) (n := 42) (by decide +kernel)
theorem dX35_ship_211 : decode cX35_ship 211 = .ok (.getfield 1118, 3) := dc_180 (a := 4) (b := 94) (n := 1118) (by decide +kernel)
theorem dX35_ship_214 : decode cX35_ship 214 = .ok (.iload_n 3, 1) := dc_29 (by decide +kernel)
theorem dX35_ship_215 : decode cX35_ship 215 = .ok (.iload 4, 2) := dc_21 (a := 4) (by decide +kernel)
theorem dX35_ship_217 : decode cX35_ship 217 = .ok (.ifCond .eq 19, 3) := dc_153 (a := 0) (b := 19) (v := 19) (by decide +kernel)
theorem dX35_ship_220 : decode cX35_ship 220 = .ok (.aload_n 0, 1) := dc_42 (by decide +kernel)
theorem dX35_ship_221 : decode cX35_ship 221 = .ok (.getfield 225, 3) := dc_180 (a := 0) (b := 225) (n := 225) (by decide +kernel)
theorem dX35_ship_224 : decode cX35_ship 224 = .ok (.iload_n 3, 1) := dc_29 (by decide +kernel)
theorem dX35_ship_225 : decode cX35_ship 225 = .ok (.laload, 1) := dc_47 (by decide +kernel)
theorem dX35_ship_226 : decode cX35_ship 226 = .ok (.aload_n 0, 1) := dc_42 (by decide +kernel)
theorem dX35_ship_227 : decode cX35_ship 227 = .ok (.getfield 234, 3) := dc_180 (a := 0) (b := 234) (n := 234) (by decide +kernel)
theorem dX35_ship_230 : decode cX35_ship 230 = .ok (.iload_n 3, 1) := dc_29 (by decide +kernel)
theorem dX35_ship_231 : decode cX35_ship 231 = .ok (.laload, 1) := dc_47 (by decide +kernel)
theorem dX35_ship_232 : decode cX35_ship 232 = .ok (.ladd, 1) := dc_97 (by decide +kernel)
theorem dX35_ship_233 : decode cX35_ship 233 = .ok (.goto 9, 3) := dc_167 (a := 0) (b := 9) (v := 9) (by decide +kernel)
theorem dX35_ship_236 : decode cX35_ship 236 = .ok (.aload_n 0, 1) := dc_42 (by decide +kernel)
theorem dX35_ship_237 : decode cX35_ship 237 = .ok (.getfield 225, 3) := dc_180 (a := 0) (b := 225) (n := 225) (by decide +kernel)
theorem dX35_ship_240 : decode cX35_ship 240 = .ok (.iload_n 3, 1) := dc_29 (by decide +kernel)
theorem dX35_ship_241 : decode cX35_ship 241 = .ok (.laload, 1) := dc_47 (by decide +kernel)
theorem dX35_ship_242 : decode cX35_ship 242 = .ok (.l2i, 1) := dc_136 (by decide +kernel)
theorem dX35_ship_243 : decode cX35_ship 243 = .ok (.iastore, 1) := dc_79 (by decide +kernel)
theorem dX35_ship_244 : decode cX35_ship 244 = .ok (.aload_n 0, 1) := dc_42 (by decide +kernel)
theorem dX35_ship_245 : decode cX35_ship 245 = .ok (.getfield 42, 3) := dc_180 (a := 0) (b := 42) (n := 42) (by decide +kernel)
theorem dX35_ship_248 : decode cX35_ship 248 = .ok (.getfield 1121, 3) := dc_180 (a := 4) (b := 97) (n := 1121) (by decide +kernel)
theorem dX35_ship_251 : decode cX35_ship 251 = .ok (.iload_n 3, 1) := dc_29 (by decide +kernel)
theorem dX35_ship_252 : decode cX35_ship 252 = .ok (.iload 4, 2) := dc_21 (a := 4) (by decide +kernel)
theorem dX35_ship_254 : decode cX35_ship 254 = .ok (.ifCond .eq 19, 3) := dc_153 (a := 0) (b := 19) (v := 19) (by decide +kernel)
theorem dX35_ship_257 : decode cX35_ship 257 = .ok (.aload_n 0, 1) := dc_42 (by decide +kernel)
theorem dX35_ship_258 : decode cX35_ship 258 = .ok (.getfield 231, 3) := dc_180 (a := 0) (b := 231) (n := 231) (by decide +kernel)
theorem dX35_ship_261 : decode cX35_ship 261 = .ok (.iload_n 3, 1) := dc_29 (by decide +kernel)
theorem dX35_ship_262 : decode cX35_ship 262 = .ok (.laload, 1) := dc_47 (by decide +kernel)
theorem dX35_ship_263 : decode cX35_ship 263 = .ok (.aload_n 0, 1) := dc_42 (by decide +kernel)
theorem dX35_ship_264 : decode cX35_ship 264 = .ok (.getfield 234, 3) := dc_180 (a := 0) (b := 234) (n := 234) (by decide +kernel)
theorem dX35_ship_267 : decode cX35_ship 267 = .ok (.iload_n 3, 1) := dc_29 (by decide +kernel)
theorem dX35_ship_268 : decode cX35_ship 268 = .ok (.laload, 1) := dc_47 (by decide +kernel)
theorem dX35_ship_269 : decode cX35_ship 269 = .ok (.ladd, 1) := dc_97 (by decide +kernel)
theorem dX35_ship_270 : decode cX35_ship 270 = .ok (.goto 4, 3) := dc_167 (a := 0) (b := 4) (v := 4) (by decide +kernel)
theorem dX35_ship_273 : decode cX35_ship 273 = .ok (.lconst 0, 1) := dc_9 (by decide +kernel)
theorem dX35_ship_274 : decode cX35_ship 274 = .ok (.l2i, 1) := dc_136 (by decide +kernel)
theorem dX35_ship_275 : decode cX35_ship 275 = .ok (.iastore, 1) := dc_79 (by decide +kernel)
theorem dX35_ship_276 : decode cX35_ship 276 = .ok (.aload_n 0, 1) := dc_42 (by decide +kernel)
theorem dX35_ship_277 : decode cX35_ship 277 = .ok (.getfield 42, 3) := dc_180 (a := 0) (b := 42) (n := 42) (by decide +kernel)
theorem dX35_ship_280 : decode cX35_ship 280 = .ok (.getfield 1124, 3) := dc_180 (a := 4) (b := 100) (n := 1124) (by decide +kernel)
theorem dX35_ship_283 : decode cX35_ship 283 = .ok (.iload_n 3, 1) := dc_29 (by decide +kernel)
theorem dX35_ship_284 : decode cX35_ship 284 = .ok (.iload 4, 2) := dc_21 (a := 4) (by decide +kernel)
theorem dX35_ship_286 : decode cX35_ship 286 = .ok (.ifCond .eq 7, 3) := dc_153 (a := 0) (b := 7) (v := 7) (by decide +kernel)
theorem dX35_ship_289 : decode cX35_ship 289 = .ok (.lconst 0, 1) := dc_9 (by decide +kernel)
theorem dX35_ship_290 : decode cX35_ship 290 = .ok (.goto 9, 3) := dc_167 (a := 0) (b := 9) (v := 9) (by decide +kernel)
theorem dX35_ship_293 : decode cX35_ship 293 = .ok (.aload_n 0, 1) := dc_42 (by decide +kernel)
theorem dX35_ship_294 : decode cX35_ship 294 = .ok (.getfield 228, 3) := dc_180 (a := 0) (b := 228) (n := 228) (by decide +kernel)
theorem dX35_ship_297 : decode cX35_ship 297 = .ok (.iload_n 3, 1) := dc_29 (by decide +kernel)
theorem dX35_ship_298 : decode cX35_ship 298 = .ok (.laload, 1) := dc_47 (by decide +kernel)
theorem dX35_ship_299 : decode cX35_ship 299 = .ok (.l2i, 1) := dc_136 (by decide +kernel)
theorem dX35_ship_300 : decode cX35_ship 300 = .ok (.iastore, 1) := dc_79 (by decide +kernel)
theorem dX35_ship_301 : decode cX35_ship 301 = .ok (.iinc 3 1, 3) := dc_132 (a := 3) (b := 1) (v := 1) (by decide +kernel)
theorem dX35_ship_304 : decode cX35_ship 304 = .ok (.goto (-182), 3) := dc_167 (a := 255) (b := 74) (v := -182) (by decide +kernel)
theorem dX35_ship_307 : decode cX35_ship 307 = .ok (.iconst 0, 1) := dc_3 (by decide +kernel)
theorem dX35_ship_308 : decode cX35_ship 308 = .ok (.istore_n 3, 1) := dc_62 (by decide +kernel)
theorem dX35_ship_309 : decode cX35_ship 309 = .ok (.iload_n 3, 1) := dc_29 (by decide +kernel)
theorem dX35_ship_310 : decode cX35_ship 310 = .ok (.bipush 10, 2) := dc_16 (a := 10) (v := 10) (by decide +kernel)
theorem dX35_ship_312 : decode cX35_ship 312 = .ok (.if_icmp .ge 23, 3) := dc_162 (a := 0) (b := 23) (v := 23) (by decide +kernel)
theorem dX35_ship_315 : decode cX35_ship 315 = .ok (.aload_n 0, 1) := dc_42 (by decide +kernel)
theorem dX35_ship_316 : decode cX35_ship 316 = .ok (.getfield 42, 3) := dc_180 (a := 0) (b := 42) (n := 42) (by decide +kernel)
theorem dX35_ship_319 : decode cX35_ship 319 = .ok (.getfield 1125, 3) := dc_180 (a := 4) (b := 101) (n := 1125) (by decide +kernel)
theorem dX35_ship_322 : decode cX35_ship 322 = .ok (.iload_n 3, 1) := dc_29 (by decide +kernel)
theorem dX35_ship_323 : decode cX35_ship 323 = .ok (.aload_n 0, 1) := dc_42 (by decide +kernel)
theorem dX35_ship_324 : decode cX35_ship 324 = .ok (.iload_n 3, 1) := dc_29 (by decide +kernel)
theorem dX35_ship_325 : decode cX35_ship 325 = .ok (.invokevirtual 907, 3) := dc_182 (a := 3) (b := 139) (n := 907) (by decide +kernel)
theorem dX35_ship_328 : decode cX35_ship 328 = .ok (.iastore, 1) := dc_79 (by decide +kernel)
theorem dX35_ship_329 : decode cX35_ship 329 = .ok (.iinc 3 1, 3) := dc_132 (a := 3) (b := 1) (v := 1) (by decide +kernel)
theorem dX35_ship_332 : decode cX35_ship 332 = .ok (.goto (-23), 3) := dc_167 (a := 255) (b := 233) (v := -23) (by decide +kernel)
theorem dX35_ship_335 : decode cX35_ship 335 = .ok (.aload_n 0, 1) := dc_42 (by decide +kernel)
theorem dX35_ship_336 : decode cX35_ship 336 = .ok (.getfield 42, 3) := dc_180 (a := 0) (b := 42) (n := 42) (by decide +kernel)
theorem dX35_ship_339 : decode cX35_ship 339 = .ok (.invokevirtual 1128, 3) := dc_182 (a := 4) (b := 104) (n := 1128) (by decide +kernel)
theorem dX35_ship_342 : decode cX35_ship 342 = .ok (.ifCond .ne 12, 3) := dc_154 (a := 0) (b := 12) (v := 12) (by decide +kernel)
theorem dX35_ship_345 : decode cX35_ship 345 = .ok (.aload_n 0, 1) := dc_42 (by decide +kernel)
theorem dX35_ship_346 : decode cX35_ship 346 = .ok (.bipush 17, 2) := dc_16 (a := 17) (v := 17) (by decide +kernel)
theorem dX35_ship_348 : decode cX35_ship 348 = .ok (.invokevirtual 428, 3) := dc_182 (a := 1) (b := 172) (n := 428) (by decide +kernel)
theorem dX35_ship_351 : decode cX35_ship 351 = .ok (.goto 55, 3) := dc_167 (a := 0) (b := 55) (v := 55) (by decide +kernel)
theorem dX35_ship_354 : decode cX35_ship 354 = .ok (.aload_n 0, 1) := dc_42 (by decide +kernel)
theorem dX35_ship_355 : decode cX35_ship 355 = .ok (.iconst 0, 1) := dc_3 (by decide +kernel)
theorem dX35_ship_356 : decode cX35_ship 356 = .ok (.invokevirtual 907, 3) := dc_182 (a := 3) (b := 139) (n := 907) (by decide +kernel)
theorem dX35_ship_359 : decode cX35_ship 359 = .ok (.ldc_w 1131, 3) := dc_19 (a := 4) (b := 107) (n := 1131) (by decide +kernel)
theorem dX35_ship_362 : decode cX35_ship 362 = .ok (.if_icmp .ne 12, 3) := dc_160 (a := 0) (b := 12) (v := 12) (by decide +kernel)
theorem dX35_ship_365 : decode cX35_ship 365 = .ok (.aload_n 0, 1) := dc_42 (by decide +kernel)
theorem dX35_ship_366 : decode cX35_ship 366 = .ok (.bipush 7, 2) := dc_16 (a := 7) (v := 7) (by decide +kernel)
theorem dX35_ship_368 : decode cX35_ship 368 = .ok (.invokevirtual 428, 3) := dc_182 (a := 1) (b := 172) (n := 428) (by decide +kernel)
theorem dX35_ship_371 : decode cX35_ship 371 = .ok (.goto 35, 3) := dc_167 (a := 0) (b := 35) (v := 35) (by decide +kernel)
theorem dX35_ship_374 : decode cX35_ship 374 = .ok (.aload_n 0, 1) := dc_42 (by decide +kernel)
theorem dX35_ship_375 : decode cX35_ship 375 = .ok (.getfield 42, 3) := dc_180 (a := 0) (b := 42) (n := 42) (by decide +kernel)
theorem dX35_ship_378 : decode cX35_ship 378 = .ok (.invokevirtual 1132, 3) := dc_182 (a := 4) (b := 108) (n := 1132) (by decide +kernel)
theorem dX35_ship_381 : decode cX35_ship 381 = .ok (.aload_n 0, 1) := dc_42 (by decide +kernel)
theorem dX35_ship_382 : decode cX35_ship 382 = .ok (.dup, 1) := dc_89 (by decide +kernel)
theorem dX35_ship_383 : decode cX35_ship 383 = .ok (.getfield 303, 3) := dc_180 (a := 1) (b := 47) (n := 303) (by decide +kernel)
theorem dX35_ship_386 : decode cX35_ship 386 = .ok (.iconst 1, 1) := dc_4 (by decide +kernel)
theorem dX35_ship_387 : decode cX35_ship 387 = .ok (.iadd, 1) := dc_96 (by decide +kernel)
theorem dX35_ship_388 : decode cX35_ship 388 = .ok (.putfield 303, 3) := dc_181 (a := 1) (b := 47) (n := 303) (by decide +kernel)
theorem dX35_ship_391 : decode cX35_ship 391 = .ok (.aload_n 0, 1) := dc_42 (by decide +kernel)
theorem dX35_ship_392 : decode cX35_ship 392 = .ok (.sipush 1716, 3) := dc_17 (a := 6) (b := 180) (v := 1716) (by decide +kernel)
theorem dX35_ship_395 : decode cX35_ship 395 = .ok (.aload_n 0, 1) := dc_42 (by decide +kernel)
theorem dX35_ship_396 : decode cX35_ship 396 = .ok (.iconst 0, 1) := dc_3 (by decide +kernel)
theorem dX35_ship_397 : decode cX35_ship 397 = .ok (.invokevirtual 907, 3) := dc_182 (a := 3) (b := 139) (n := 907) (by decide +kernel)
theorem dX35_ship_400 : decode cX35_ship 400 = .ok (.iconst 1, 1) := dc_4 (by decide +kernel)
theorem dX35_ship_401 : decode cX35_ship 401 = .ok (.iadd, 1) := dc_96 (by decide +kernel)
theorem dX35_ship_402 : decode cX35_ship 402 = .ok (.iconst 1, 1) := dc_4 (by decide +kernel)
theorem dX35_ship_403 : decode cX35_ship 403 = .ok (.invokevirtual 477, 3) := dc_182 (a := 1) (b := 221) (n := 477) (by decide +kernel)
theorem dX35_ship_406 : decode cX35_ship 406 = .ok (.return_, 1) := dc_177 (by decide +kernel)
theorem GX35_1110 {w : eW} {d : Nat} {Y : eY} {pc : Nat} {ls : eL} {st : List Value} {h : eH} {Q : eO → eH → Prop} {a : Nat} {x : Nat} (hf : g_A 37 h a 14 = some x) (hd : decode Y.2.1 pc = .ok (.getfield 1110, 3)) (hY : Y.1.cls = RX35) (kk : wp w d Y (pc + 3) ls (.ref x :: st) h Q) : wp w d Y pc ls (.ref a :: st) h Q := x_gAN (ci := 37) (k := 14) hf hd rfl (by decide) (by rw [hY]; exact q4408) kk
theorem GX35_1112 {w : eW} {d : Nat} {Y : eY} {pc : Nat} {ls : eL} {st : List Value} {h : eH} {Q : eO → eH → Prop} {a : Nat} {x : Nat} (hf : g_A 37 h a 15 = some x) (hd : decode Y.2.1 pc = .ok (.getfield 1112, 3)) (hY : Y.1.cls = RX35) (kk : wp w d Y (pc + 3) ls (.ref x :: st) h Q) : wp w d Y pc ls (.ref a :: st) h Q := x_gAN (ci := 37) (k := 15) hf hd rfl (by decide) (by rw [hY]; exact q4410) kk
theorem GX35_1115 {w : eW} {d : Nat} {Y : eY} {pc : Nat} {ls : eL} {st : List Value} {h : eH} {Q : eO → eH → Prop} {a : Nat} {x : Nat} (hf : g_A 37 h a 16 = some x) (hd : decode Y.2.1 pc = .ok (.getfield 1115, 3)) (hY : Y.1.cls = RX35) (kk : wp w d Y (pc + 3) ls (.ref x :: st) h Q) : wp w d Y pc ls (.ref a :: st) h Q := x_gAN (ci := 37) (k := 16) hf hd rfl (by decide) (by rw [hY]; exact q4412) kk
theorem GX35_1118 {w : eW} {d : Nat} {Y : eY} {pc : Nat} {ls : eL} {st : List Value} {h : eH} {Q : eO → eH → Prop} {a : Nat} {x : Nat} (hf : g_A 37 h a 17 = some x) (hd : decode Y.2.1 pc = .ok (.getfield 1118, 3)) (hY : Y.1.cls = RX35) (kk : wp w d Y (pc + 3) ls (.ref x :: st) h Q) : wp w d Y pc ls (.ref a :: st) h Q := x_gAN (ci := 37) (k := 17) hf hd rfl (by decide) (by rw [hY]; exact q4414) kk
theorem GX35_1121 {w : eW} {d : Nat} {Y : eY} {pc : Nat} {ls : eL} {st : List Value} {h : eH} {Q : eO → eH → Prop} {a : Nat} {x : Nat} (hf : g_A 37 h a 18 = some x) (hd : decode Y.2.1 pc = .ok (.getfield 1121, 3)) (hY : Y.1.cls = RX35) (kk : wp w d Y (pc + 3) ls (.ref x :: st) h Q) : wp w d Y pc ls (.ref a :: st) h Q := x_gAN (ci := 37) (k := 18) hf hd rfl (by decide) (by rw [hY]; exact q4416) kk
theorem GX35_1124 {w : eW} {d : Nat} {Y : eY} {pc : Nat} {ls : eL} {st : List Value} {h : eH} {Q : eO → eH → Prop} {a : Nat} {x : Nat} (hf : g_A 37 h a 19 = some x) (hd : decode Y.2.1 pc = .ok (.getfield 1124, 3)) (hY : Y.1.cls = RX35) (kk : wp w d Y (pc + 3) ls (.ref x :: st) h Q) : wp w d Y pc ls (.ref a :: st) h Q := x_gAN (ci := 37) (k := 19) hf hd rfl (by decide) (by rw [hY]; exact q4418) kk
theorem GX35_1125 {w : eW} {d : Nat} {Y : eY} {pc : Nat} {ls : eL} {st : List Value} {h : eH} {Q : eO → eH → Prop} {a : Nat} {x : Nat} (hf : g_A 37 h a 4 = some x) (hd : decode Y.2.1 pc = .ok (.getfield 1125, 3)) (hY : Y.1.cls = RX35) (kk : wp w d Y (pc + 3) ls (.ref x :: st) h Q) : wp w d Y pc ls (.ref a :: st) h Q := x_gAN (ci := 37) (k := 4) hf hd rfl (by decide) (by rw [hY]; exact q4394) kk
theorem GX35_181 {w : eW} {d : Nat} {Y : eY} {pc : Nat} {ls : eL} {st : List Value} {h : eH} {Q : eO → eH → Prop} {a : Nat} {x : Nat} (hf : g_A 34 h a 76 = some x) (hd : decode Y.2.1 pc = .ok (.getfield 181, 3)) (hY : Y.1.cls = RX35) (kk : wp w d Y (pc + 3) ls (.ref x :: st) h Q) : wp w d Y pc ls (.ref a :: st) h Q := x_gA (ci := 34) (k := 76) hf hd rfl (by decide) (by rw [hY]; exact q4577) kk
theorem GX35_42 {w : eW} {d : Nat} {Y : eY} {pc : Nat} {ls : eL} {st : List Value} {h : eH} {Q : eO → eH → Prop} {a : Nat} {x : Nat} (hf : g_A 34 h a 7 = some x) (hd : decode Y.2.1 pc = .ok (.getfield 42, 3)) (hY : Y.1.cls = RX35) (kk : wp w d Y (pc + 3) ls (.ref x :: st) h Q) : wp w d Y pc ls (.ref a :: st) h Q := x_gA (ci := 34) (k := 7) hf hd rfl (by decide) (by rw [hY]; exact q4509) kk
theorem SX35_1109 {w : eW} {d : Nat} {Y : eY} {pc : Nat} {ls : eL} {st : List Value} {h : eH} {Q : eO → eH → Prop} {a : Nat} {h' : eH} {x : Int32} (hf : p_V 37 h a 13 (.int x) = some h') (hd : decode Y.2.1 pc = .ok (.putfield 1109, 3)) (hY : Y.1.cls = RX35) (kk : wp w d Y (pc + 3) ls st h' Q) : wp w d Y pc ls (.int x :: .ref a :: st) h Q := x_pIN (ci := 37) (k := 13) hf hd rfl (by decide) (by rw [hY]; exact q4406) rfl rfl kk
def fX35_ship_b61 (N : Nat) (sL : Nat → Int32 → Int64 → Int64 → eH → Option (Int32 × eH)) (k16 : Nat → Int64 → Int32 → eH → Option (Unit × eH)) (l0 : Nat) (l3 : Int32) (s0 : Int64) (h : eH) : Option (Unit × eH) :=
  k16 l0 s0 (l3 + (1 : Int32)) h
theorem pX35_ship_b61 {w : eW} {d : Nat} {dr : Nat} (hd : dr + 6 ≤ d + 1) (hdr : 12 ≤ dr) {N : Nat} {sL : Nat → Int32 → Int64 → Int64 → eH → Option (Int32 × eH)} (hsL : ∀ a t0 t1 t2 h q, sL a t0 t1 t2 h = some q → wm w dr YX35_layBox [.ref a, .int t0, .long t1, .long t2] h (e_is (e_rn c_I q))) {k16 : Nat → Int64 → Int32 → eH → Option (Unit × eH)} (hk16 : ∀ l0 l1 l3 h q, k16 l0 l1 l3 h = some q → wp w (d + 1) YX35_ship 16 [some (.ref l0), some (.long l1), none, some (.int l3), none] [] h (e_is (e_rn c_V q))) {l0 : Nat} {l3 : Int32} {s0 : Int64} {h : eH} {q} (hf : fX35_ship_b61 N sL k16 l0 l3 s0 h = some q) : wp w (d + 1) YX35_ship 61 [some (.ref l0), none, none, some (.int l3), none] [.long s0] h (e_is (e_rn c_V q)) := by
  unfold fX35_ship_b61 at hf
  refine w_lstore_n dX35_ship_61 rfl (by decide) (ls' := [some (.ref l0), some (.long s0), none, some (.int l3), none]) rfl ?_
  refine w_iinc dX35_ship_62 (v := (l3 + (1 : Int32))) rfl rfl (by decide) (ls' := [some (.ref l0), some (.long s0), none, some (.int (l3 + (1 : Int32))), none]) rfl ?_
  refine w_goto 16 dX35_ship_65 (by decide) ?_
  exact (hk16 _ _ _ _ _ hf).to ⟨rfl, rfl, rfl, trivial⟩
def fX35_ship_b60 (N : Nat) (sL : Nat → Int32 → Int64 → Int64 → eH → Option (Int32 × eH)) (k16 : Nat → Int64 → Int32 → eH → Option (Unit × eH)) (l0 : Nat) (l1 : Int64) (l3 : Int32) (h : eH) : Option (Unit × eH) :=
  fX35_ship_b61 N sL k16 l0 l3 l1 h
theorem pX35_ship_b60 {w : eW} {d : Nat} {dr : Nat} (hd : dr + 6 ≤ d + 1) (hdr : 12 ≤ dr) {N : Nat} {sL : Nat → Int32 → Int64 → Int64 → eH → Option (Int32 × eH)} (hsL : ∀ a t0 t1 t2 h q, sL a t0 t1 t2 h = some q → wm w dr YX35_layBox [.ref a, .int t0, .long t1, .long t2] h (e_is (e_rn c_I q))) {k16 : Nat → Int64 → Int32 → eH → Option (Unit × eH)} (hk16 : ∀ l0 l1 l3 h q, k16 l0 l1 l3 h = some q → wp w (d + 1) YX35_ship 16 [some (.ref l0), some (.long l1), none, some (.int l3), none] [] h (e_is (e_rn c_V q))) {l0 : Nat} {l1 : Int64} {l3 : Int32} {h : eH} {q} (hf : fX35_ship_b60 N sL k16 l0 l1 l3 h = some q) : wp w (d + 1) YX35_ship 60 [some (.ref l0), some (.long l1), none, some (.int l3), none] [] h (e_is (e_rn c_V q)) := by
  unfold fX35_ship_b60 at hf
  refine w_lload_n dX35_ship_60 rfl rfl ?_
  exact (pX35_ship_b61 hd hdr hsL hk16 hf).to ⟨rfl, rfl, trivial⟩
def fX35_ship_b88 (N : Nat) (sL : Nat → Int32 → Int64 → Int64 → eH → Option (Int32 × eH)) (l0 : Nat) (h : eH) : Option (Unit × eH) :=
  (k_ok 34 h l0).bind fun _ =>
  (fX35_fail l0 (17 : Int32) h).bind fun q2 =>
  some ((), q2.2)
theorem pX35_ship_b88 {w : eW} {d : Nat} {dr : Nat} (hd : dr + 6 ≤ d + 1) (hdr : 12 ≤ dr) {N : Nat} {sL : Nat → Int32 → Int64 → Int64 → eH → Option (Int32 × eH)} (hsL : ∀ a t0 t1 t2 h q, sL a t0 t1 t2 h = some q → wm w dr YX35_layBox [.ref a, .int t0, .long t1, .long t2] h (e_is (e_rn c_I q))) {l0 : Nat} {h : eH} {q} (hf : fX35_ship_b88 N sL l0 h = some q) : wp w (d + 1) YX35_ship 88 [some (.ref l0), none, none, none, none] [] h (e_is (e_rn c_V q)) := by
  unfold fX35_ship_b88 at hf
  refine w_aload_n dX35_ship_88 rfl rfl ?_
  refine w_bipush dX35_ship_89 (v := 17) (by decide) ?_
  obtain ⟨_, b1, hf⟩ := Option.bind_eq_some_iff.mp hf
  refine x_cnV hf (e_stV (Yc := YX35_fail) (ci := 34) (av := [.int (17 : Int32)]) (st := []) dX35_ship_91 q5109 mX35_fail rfl (k_ok_some b1).1 (k_ok_some b1).2) mX35_fail.2.2.1 mX35_fail.2.2.2.2.1 (Nat.le_of_ble_eq_true rfl) (Nat.le_of_ble_eq_true rfl) (fun q hq => pX35_fail (by omega) hq) (fun q2 hf => ?_)
  cases hf
  exact w_vret dX35_ship_94 rfl rfl
def fX35_ship_b299 (N : Nat) (sL : Nat → Int32 → Int64 → Int64 → eH → Option (Int32 × eH)) (k122 : Nat → Int32 → eH → Option (Unit × eH)) (l0 : Nat) (l3 : Int32) (s0 : Nat) (s1 : Int32) (s2 : Int64) (h : eH) : Option (Unit × eH) :=
  (q_V 100 h s0 s1 (.int (s2).toInt32)).bind fun h1 =>
  k122 l0 (l3 + (1 : Int32)) h1
theorem pX35_ship_b299 {w : eW} {d : Nat} {dr : Nat} (hd : dr + 6 ≤ d + 1) (hdr : 12 ≤ dr) {N : Nat} {sL : Nat → Int32 → Int64 → Int64 → eH → Option (Int32 × eH)} (hsL : ∀ a t0 t1 t2 h q, sL a t0 t1 t2 h = some q → wm w dr YX35_layBox [.ref a, .int t0, .long t1, .long t2] h (e_is (e_rn c_I q))) {k122 : Nat → Int32 → eH → Option (Unit × eH)} (hk122 : ∀ l0 l3 h q, k122 l0 l3 h = some q → wp w (d + 1) YX35_ship 122 [some (.ref l0), none, none, some (.int l3), none] [] h (e_is (e_rn c_V q))) {l0 : Nat} {l3 : Int32} {s0 : Nat} {s1 : Int32} {s2 : Int64} {h : eH} {q} (hf : fX35_ship_b299 N sL k122 l0 l3 s0 s1 s2 h = some q) : wp w (d + 1) YX35_ship 299 [some (.ref l0), none, none, some (.int l3), none] [.long s2, .int s1, .ref s0] h (e_is (e_rn c_V q)) := by
  unfold fX35_ship_b299 at hf
  refine w_l2i dX35_ship_299 ?_
  obtain ⟨h1, b2, hf⟩ := Option.bind_eq_some_iff.mp hf
  refine x_qI b2 dX35_ship_300 ?_
  refine w_iinc dX35_ship_301 (v := (l3 + (1 : Int32))) rfl rfl (by decide) (ls' := [some (.ref l0), none, none, some (.int (l3 + (1 : Int32))), none]) rfl ?_
  refine w_goto 122 dX35_ship_304 (by decide) ?_
  exact (hk122 _ _ _ _ hf).to ⟨rfl, rfl, trivial⟩
def fX35_ship_b274 (N : Nat) (sL : Nat → Int32 → Int64 → Int64 → eH → Option (Int32 × eH)) (k122 : Nat → Int32 → eH → Option (Unit × eH)) (l0 : Nat) (l3 : Int32) (l4 : Int32) (s0 : Nat) (s1 : Int32) (s2 : Int64) (h : eH) : Option (Unit × eH) :=
  (q_V 100 h s0 s1 (.int (s2).toInt32)).bind fun h1 =>
  (g_A 34 h1 l0 7).bind fun a3 =>
  (g_A 37 h1 a3 19).bind fun a5 =>
  if l4 = 0 then
    (g_A 34 h1 l0 107).bind fun a8 =>
    (r_J h1 a8 l3).bind fun x10 =>
    fX35_ship_b299 N sL k122 l0 l3 a5 l3 x10 h1
  else
    fX35_ship_b299 N sL k122 l0 l3 a5 l3 (0 : Int64) h1
theorem pX35_ship_b274 {w : eW} {d : Nat} {dr : Nat} (hd : dr + 6 ≤ d + 1) (hdr : 12 ≤ dr) {N : Nat} {sL : Nat → Int32 → Int64 → Int64 → eH → Option (Int32 × eH)} (hsL : ∀ a t0 t1 t2 h q, sL a t0 t1 t2 h = some q → wm w dr YX35_layBox [.ref a, .int t0, .long t1, .long t2] h (e_is (e_rn c_I q))) {k122 : Nat → Int32 → eH → Option (Unit × eH)} (hk122 : ∀ l0 l3 h q, k122 l0 l3 h = some q → wp w (d + 1) YX35_ship 122 [some (.ref l0), none, none, some (.int l3), none] [] h (e_is (e_rn c_V q))) {l0 : Nat} {l3 : Int32} {l4 : Int32} {s0 : Nat} {s1 : Int32} {s2 : Int64} {h : eH} {q} (hf : fX35_ship_b274 N sL k122 l0 l3 l4 s0 s1 s2 h = some q) : wp w (d + 1) YX35_ship 274 [some (.ref l0), none, none, some (.int l3), some (.int l4)] [.long s2, .int s1, .ref s0] h (e_is (e_rn c_V q)) := by
  unfold fX35_ship_b274 at hf
  refine w_l2i dX35_ship_274 ?_
  obtain ⟨h1, b2, hf⟩ := Option.bind_eq_some_iff.mp hf
  refine x_qI b2 dX35_ship_275 ?_
  refine w_aload_n dX35_ship_276 rfl rfl ?_
  obtain ⟨a3, b4, hf⟩ := Option.bind_eq_some_iff.mp hf
  refine GX35_42 b4 dX35_ship_277 rfl ?_
  obtain ⟨a5, b6, hf⟩ := Option.bind_eq_some_iff.mp hf
  refine GX35_1124 b6 dX35_ship_280 rfl ?_
  refine w_iload_n dX35_ship_283 rfl rfl ?_
  refine w_iload dX35_ship_284 rfl ?_
  refine w_if_eq 293 dX35_ship_286 (by decide) (fun c7 => ?_) (fun c7 => ?_)
  · replace hf := (if_pos (show l4 = 0 from c7)).symm.trans hf
    refine w_aload_n dX35_ship_293 rfl rfl ?_
    obtain ⟨a8, b9, hf⟩ := Option.bind_eq_some_iff.mp hf
    refine GX35_228 b9 dX35_ship_294 rfl ?_
    refine w_iload_n dX35_ship_297 rfl rfl ?_
    obtain ⟨x10, b11, hf⟩ := Option.bind_eq_some_iff.mp hf
    refine x_rJ b11 dX35_ship_298 ?_
    exact (pX35_ship_b299 hd hdr hsL hk122 hf).to ⟨rfl, rfl, trivial⟩
  · replace hf := (if_neg (show ¬ (l4 = 0) from c7)).symm.trans hf
    refine w_lconst dX35_ship_289 (v := 0) (by decide) ?_
    refine w_goto 299 dX35_ship_290 (by decide) ?_
    exact (pX35_ship_b299 hd hdr hsL hk122 hf).to ⟨rfl, rfl, trivial⟩
def fX35_ship_b242 (N : Nat) (sL : Nat → Int32 → Int64 → Int64 → eH → Option (Int32 × eH)) (k122 : Nat → Int32 → eH → Option (Unit × eH)) (l0 : Nat) (l3 : Int32) (l4 : Int32) (s0 : Nat) (s1 : Int32) (s2 : Int64) (h : eH) : Option (Unit × eH) :=
  (q_V 100 h s0 s1 (.int (s2).toInt32)).bind fun h1 =>
  (g_A 34 h1 l0 7).bind fun a3 =>
  (g_A 37 h1 a3 18).bind fun a5 =>
  if l4 = 0 then
    fX35_ship_b274 N sL k122 l0 l3 l4 a5 l3 (0 : Int64) h1
  else
    (g_A 34 h1 l0 108).bind fun a8 =>
    (r_J h1 a8 l3).bind fun x10 =>
    (g_A 34 h1 l0 109).bind fun a12 =>
    (r_J h1 a12 l3).bind fun x14 =>
    fX35_ship_b274 N sL k122 l0 l3 l4 a5 l3 (x10 + x14) h1
theorem pX35_ship_b242 {w : eW} {d : Nat} {dr : Nat} (hd : dr + 6 ≤ d + 1) (hdr : 12 ≤ dr) {N : Nat} {sL : Nat → Int32 → Int64 → Int64 → eH → Option (Int32 × eH)} (hsL : ∀ a t0 t1 t2 h q, sL a t0 t1 t2 h = some q → wm w dr YX35_layBox [.ref a, .int t0, .long t1, .long t2] h (e_is (e_rn c_I q))) {k122 : Nat → Int32 → eH → Option (Unit × eH)} (hk122 : ∀ l0 l3 h q, k122 l0 l3 h = some q → wp w (d + 1) YX35_ship 122 [some (.ref l0), none, none, some (.int l3), none] [] h (e_is (e_rn c_V q))) {l0 : Nat} {l3 : Int32} {l4 : Int32} {s0 : Nat} {s1 : Int32} {s2 : Int64} {h : eH} {q} (hf : fX35_ship_b242 N sL k122 l0 l3 l4 s0 s1 s2 h = some q) : wp w (d + 1) YX35_ship 242 [some (.ref l0), none, none, some (.int l3), some (.int l4)] [.long s2, .int s1, .ref s0] h (e_is (e_rn c_V q)) := by
  unfold fX35_ship_b242 at hf
  refine w_l2i dX35_ship_242 ?_
  obtain ⟨h1, b2, hf⟩ := Option.bind_eq_some_iff.mp hf
  refine x_qI b2 dX35_ship_243 ?_
  refine w_aload_n dX35_ship_244 rfl rfl ?_
  obtain ⟨a3, b4, hf⟩ := Option.bind_eq_some_iff.mp hf
  refine GX35_42 b4 dX35_ship_245 rfl ?_
  obtain ⟨a5, b6, hf⟩ := Option.bind_eq_some_iff.mp hf
  refine GX35_1121 b6 dX35_ship_248 rfl ?_
  refine w_iload_n dX35_ship_251 rfl rfl ?_
  refine w_iload dX35_ship_252 rfl ?_
  refine w_if_eq 273 dX35_ship_254 (by decide) (fun c7 => ?_) (fun c7 => ?_)
  · replace hf := (if_pos (show l4 = 0 from c7)).symm.trans hf
    refine w_lconst dX35_ship_273 (v := 0) (by decide) ?_
    exact (pX35_ship_b274 hd hdr hsL hk122 hf).to ⟨rfl, rfl, rfl, trivial⟩
  · replace hf := (if_neg (show ¬ (l4 = 0) from c7)).symm.trans hf
    refine w_aload_n dX35_ship_257 rfl rfl ?_
    obtain ⟨a8, b9, hf⟩ := Option.bind_eq_some_iff.mp hf
    refine GX35_231 b9 dX35_ship_258 rfl ?_
    refine w_iload_n dX35_ship_261 rfl rfl ?_
    obtain ⟨x10, b11, hf⟩ := Option.bind_eq_some_iff.mp hf
    refine x_rJ b11 dX35_ship_262 ?_
    refine w_aload_n dX35_ship_263 rfl rfl ?_
    obtain ⟨a12, b13, hf⟩ := Option.bind_eq_some_iff.mp hf
    refine GX35_234 b13 dX35_ship_264 rfl ?_
    refine w_iload_n dX35_ship_267 rfl rfl ?_
    obtain ⟨x14, b15, hf⟩ := Option.bind_eq_some_iff.mp hf
    refine x_rJ b15 dX35_ship_268 ?_
    refine w_ladd dX35_ship_269 ?_
    refine w_goto 274 dX35_ship_270 (by decide) ?_
    exact (pX35_ship_b274 hd hdr hsL hk122 hf).to ⟨rfl, rfl, rfl, trivial⟩
def fX35_ship_b190 (N : Nat) (sL : Nat → Int32 → Int64 → Int64 → eH → Option (Int32 × eH)) (k122 : Nat → Int32 → eH → Option (Unit × eH)) (l0 : Nat) (l3 : Int32) (l4 : Int32) (s0 : Nat) (s1 : Int32) (s2 : Int32) (h : eH) : Option (Unit × eH) :=
  (q_V 100 h s0 s1 (.int s2)).bind fun h1 =>
  (g_A 34 h1 l0 7).bind fun a3 =>
  (g_A 37 h1 a3 16).bind fun a5 =>
  (g_A 34 h1 l0 105).bind fun a7 =>
  (r_J h1 a7 l3).bind fun x9 =>
  (q_V 100 h1 a5 l3 (.int (x9).toInt32)).bind fun h11 =>
  (g_A 34 h11 l0 7).bind fun a13 =>
  (g_A 37 h11 a13 17).bind fun a15 =>
  if l4 = 0 then
    (g_A 34 h11 l0 106).bind fun a18 =>
    (r_J h11 a18 l3).bind fun x20 =>
    fX35_ship_b242 N sL k122 l0 l3 l4 a15 l3 x20 h11
  else
    (g_A 34 h11 l0 106).bind fun a22 =>
    (r_J h11 a22 l3).bind fun x24 =>
    (g_A 34 h11 l0 109).bind fun a26 =>
    (r_J h11 a26 l3).bind fun x28 =>
    fX35_ship_b242 N sL k122 l0 l3 l4 a15 l3 (x24 + x28) h11
theorem pX35_ship_b190 {w : eW} {d : Nat} {dr : Nat} (hd : dr + 6 ≤ d + 1) (hdr : 12 ≤ dr) {N : Nat} {sL : Nat → Int32 → Int64 → Int64 → eH → Option (Int32 × eH)} (hsL : ∀ a t0 t1 t2 h q, sL a t0 t1 t2 h = some q → wm w dr YX35_layBox [.ref a, .int t0, .long t1, .long t2] h (e_is (e_rn c_I q))) {k122 : Nat → Int32 → eH → Option (Unit × eH)} (hk122 : ∀ l0 l3 h q, k122 l0 l3 h = some q → wp w (d + 1) YX35_ship 122 [some (.ref l0), none, none, some (.int l3), none] [] h (e_is (e_rn c_V q))) {l0 : Nat} {l3 : Int32} {l4 : Int32} {s0 : Nat} {s1 : Int32} {s2 : Int32} {h : eH} {q} (hf : fX35_ship_b190 N sL k122 l0 l3 l4 s0 s1 s2 h = some q) : wp w (d + 1) YX35_ship 190 [some (.ref l0), none, none, some (.int l3), some (.int l4)] [.int s2, .int s1, .ref s0] h (e_is (e_rn c_V q)) := by
  unfold fX35_ship_b190 at hf
  obtain ⟨h1, b2, hf⟩ := Option.bind_eq_some_iff.mp hf
  refine x_qI b2 dX35_ship_190 ?_
  refine w_aload_n dX35_ship_191 rfl rfl ?_
  obtain ⟨a3, b4, hf⟩ := Option.bind_eq_some_iff.mp hf
  refine GX35_42 b4 dX35_ship_192 rfl ?_
  obtain ⟨a5, b6, hf⟩ := Option.bind_eq_some_iff.mp hf
  refine GX35_1115 b6 dX35_ship_195 rfl ?_
  refine w_iload_n dX35_ship_198 rfl rfl ?_
  refine w_aload_n dX35_ship_199 rfl rfl ?_
  obtain ⟨a7, b8, hf⟩ := Option.bind_eq_some_iff.mp hf
  refine GX35_222 b8 dX35_ship_200 rfl ?_
  refine w_iload_n dX35_ship_203 rfl rfl ?_
  obtain ⟨x9, b10, hf⟩ := Option.bind_eq_some_iff.mp hf
  refine x_rJ b10 dX35_ship_204 ?_
  refine w_l2i dX35_ship_205 ?_
  obtain ⟨h11, b12, hf⟩ := Option.bind_eq_some_iff.mp hf
  refine x_qI b12 dX35_ship_206 ?_
  refine w_aload_n dX35_ship_207 rfl rfl ?_
  obtain ⟨a13, b14, hf⟩ := Option.bind_eq_some_iff.mp hf
  refine GX35_42 b14 dX35_ship_208 rfl ?_
  obtain ⟨a15, b16, hf⟩ := Option.bind_eq_some_iff.mp hf
  refine GX35_1118 b16 dX35_ship_211 rfl ?_
  refine w_iload_n dX35_ship_214 rfl rfl ?_
  refine w_iload dX35_ship_215 rfl ?_
  refine w_if_eq 236 dX35_ship_217 (by decide) (fun c17 => ?_) (fun c17 => ?_)
  · replace hf := (if_pos (show l4 = 0 from c17)).symm.trans hf
    refine w_aload_n dX35_ship_236 rfl rfl ?_
    obtain ⟨a18, b19, hf⟩ := Option.bind_eq_some_iff.mp hf
    refine GX35_225 b19 dX35_ship_237 rfl ?_
    refine w_iload_n dX35_ship_240 rfl rfl ?_
    obtain ⟨x20, b21, hf⟩ := Option.bind_eq_some_iff.mp hf
    refine x_rJ b21 dX35_ship_241 ?_
    exact (pX35_ship_b242 hd hdr hsL hk122 hf).to ⟨rfl, rfl, rfl, trivial⟩
  · replace hf := (if_neg (show ¬ (l4 = 0) from c17)).symm.trans hf
    refine w_aload_n dX35_ship_220 rfl rfl ?_
    obtain ⟨a22, b23, hf⟩ := Option.bind_eq_some_iff.mp hf
    refine GX35_225 b23 dX35_ship_221 rfl ?_
    refine w_iload_n dX35_ship_224 rfl rfl ?_
    obtain ⟨x24, b25, hf⟩ := Option.bind_eq_some_iff.mp hf
    refine x_rJ b25 dX35_ship_225 ?_
    refine w_aload_n dX35_ship_226 rfl rfl ?_
    obtain ⟨a26, b27, hf⟩ := Option.bind_eq_some_iff.mp hf
    refine GX35_234 b27 dX35_ship_227 rfl ?_
    refine w_iload_n dX35_ship_230 rfl rfl ?_
    obtain ⟨x28, b29, hf⟩ := Option.bind_eq_some_iff.mp hf
    refine x_rJ b29 dX35_ship_231 ?_
    refine w_ladd dX35_ship_232 ?_
    refine w_goto 242 dX35_ship_233 (by decide) ?_
    exact (pX35_ship_b242 hd hdr hsL hk122 hf).to ⟨rfl, rfl, rfl, trivial⟩
def fX35_ship_b144 (N : Nat) (sL : Nat → Int32 → Int64 → Int64 → eH → Option (Int32 × eH)) (k122 : Nat → Int32 → eH → Option (Unit × eH)) (l0 : Nat) (l3 : Int32) (s0 : Int32) (h : eH) : Option (Unit × eH) :=
  (g_A 34 h l0 7).bind fun a1 =>
  (g_A 37 h a1 14).bind fun a3 =>
  (g_A 34 h l0 103).bind fun a5 =>
  (r_I 100 h a5 l3).bind fun x7 =>
  (q_V 100 h a3 l3 (.int x7)).bind fun h9 =>
  (g_A 34 h9 l0 7).bind fun a11 =>
  (g_A 37 h9 a11 15).bind fun a13 =>
  if s0 = 0 then
    (g_A 34 h9 l0 104).bind fun a16 =>
    (r_I 100 h9 a16 l3).bind fun x18 =>
    fX35_ship_b190 N sL k122 l0 l3 s0 a13 l3 x18 h9
  else
    (g_A 34 h9 l0 107).bind fun a20 =>
    (r_J h9 a20 l3).bind fun x22 =>
    fX35_ship_b190 N sL k122 l0 l3 s0 a13 l3 (x22).toInt32 h9
theorem pX35_ship_b144 {w : eW} {d : Nat} {dr : Nat} (hd : dr + 6 ≤ d + 1) (hdr : 12 ≤ dr) {N : Nat} {sL : Nat → Int32 → Int64 → Int64 → eH → Option (Int32 × eH)} (hsL : ∀ a t0 t1 t2 h q, sL a t0 t1 t2 h = some q → wm w dr YX35_layBox [.ref a, .int t0, .long t1, .long t2] h (e_is (e_rn c_I q))) {k122 : Nat → Int32 → eH → Option (Unit × eH)} (hk122 : ∀ l0 l3 h q, k122 l0 l3 h = some q → wp w (d + 1) YX35_ship 122 [some (.ref l0), none, none, some (.int l3), none] [] h (e_is (e_rn c_V q))) {l0 : Nat} {l3 : Int32} {s0 : Int32} {h : eH} {q} (hf : fX35_ship_b144 N sL k122 l0 l3 s0 h = some q) : wp w (d + 1) YX35_ship 144 [some (.ref l0), none, none, some (.int l3), none] [.int s0] h (e_is (e_rn c_V q)) := by
  unfold fX35_ship_b144 at hf
  refine w_istore dX35_ship_144 (by decide) (ls' := [some (.ref l0), none, none, some (.int l3), some (.int s0)]) rfl ?_
  refine w_aload_n dX35_ship_146 rfl rfl ?_
  obtain ⟨a1, b2, hf⟩ := Option.bind_eq_some_iff.mp hf
  refine GX35_42 b2 dX35_ship_147 rfl ?_
  obtain ⟨a3, b4, hf⟩ := Option.bind_eq_some_iff.mp hf
  refine GX35_1110 b4 dX35_ship_150 rfl ?_
  refine w_iload_n dX35_ship_153 rfl rfl ?_
  refine w_aload_n dX35_ship_154 rfl rfl ?_
  obtain ⟨a5, b6, hf⟩ := Option.bind_eq_some_iff.mp hf
  refine GX35_216 b6 dX35_ship_155 rfl ?_
  refine w_iload_n dX35_ship_158 rfl rfl ?_
  obtain ⟨x7, b8, hf⟩ := Option.bind_eq_some_iff.mp hf
  refine x_rI b8 dX35_ship_159 ?_
  obtain ⟨h9, b10, hf⟩ := Option.bind_eq_some_iff.mp hf
  refine x_qI b10 dX35_ship_160 ?_
  refine w_aload_n dX35_ship_161 rfl rfl ?_
  obtain ⟨a11, b12, hf⟩ := Option.bind_eq_some_iff.mp hf
  refine GX35_42 b12 dX35_ship_162 rfl ?_
  obtain ⟨a13, b14, hf⟩ := Option.bind_eq_some_iff.mp hf
  refine GX35_1112 b14 dX35_ship_165 rfl ?_
  refine w_iload_n dX35_ship_168 rfl rfl ?_
  refine w_iload dX35_ship_169 rfl ?_
  refine w_if_eq 184 dX35_ship_171 (by decide) (fun c15 => ?_) (fun c15 => ?_)
  · replace hf := (if_pos (show s0 = 0 from c15)).symm.trans hf
    refine w_aload_n dX35_ship_184 rfl rfl ?_
    obtain ⟨a16, b17, hf⟩ := Option.bind_eq_some_iff.mp hf
    refine GX35_219 b17 dX35_ship_185 rfl ?_
    refine w_iload_n dX35_ship_188 rfl rfl ?_
    obtain ⟨x18, b19, hf⟩ := Option.bind_eq_some_iff.mp hf
    refine x_rI b19 dX35_ship_189 ?_
    exact (pX35_ship_b190 hd hdr hsL hk122 hf).to ⟨rfl, rfl, rfl, trivial⟩
  · replace hf := (if_neg (show ¬ (s0 = 0) from c15)).symm.trans hf
    refine w_aload_n dX35_ship_174 rfl rfl ?_
    obtain ⟨a20, b21, hf⟩ := Option.bind_eq_some_iff.mp hf
    refine GX35_228 b21 dX35_ship_175 rfl ?_
    refine w_iload_n dX35_ship_178 rfl rfl ?_
    obtain ⟨x22, b23, hf⟩ := Option.bind_eq_some_iff.mp hf
    refine x_rJ b23 dX35_ship_179 ?_
    refine w_l2i dX35_ship_180 ?_
    refine w_goto 190 dX35_ship_181 (by decide) ?_
    exact (pX35_ship_b190 hd hdr hsL hk122 hf).to ⟨rfl, rfl, rfl, trivial⟩
def fX35_ship_b406 (N : Nat) (sL : Nat → Int32 → Int64 → Int64 → eH → Option (Int32 × eH))  (h : eH) : Option (Unit × eH) :=
  some ((), h)
theorem pX35_ship_b406 {w : eW} {d : Nat} {dr : Nat} (hd : dr + 6 ≤ d + 1) (hdr : 12 ≤ dr) {N : Nat} {sL : Nat → Int32 → Int64 → Int64 → eH → Option (Int32 × eH)} (hsL : ∀ a t0 t1 t2 h q, sL a t0 t1 t2 h = some q → wm w dr YX35_layBox [.ref a, .int t0, .long t1, .long t2] h (e_is (e_rn c_I q)))  {h : eH} {q} (hf : fX35_ship_b406 N sL h = some q) : wp w (d + 1) YX35_ship 406 [none, none, none, none, none] [] h (e_is (e_rn c_V q)) := by
  unfold fX35_ship_b406 at hf
  cases hf
  exact w_vret dX35_ship_406 rfl rfl
def fX35_ship_b309 (N : Nat) (sL : Nat → Int32 → Int64 → Int64 → eH → Option (Int32 × eH)) : Nat → Nat → Int32 → eH → Option (Unit × eH)
  | 0, _, _, _ => none
  | n + 1, l0, l3, h =>
    if (10 : Int32) ≤ l3 then
      (g_A 34 h l0 7).bind fun a2 =>
      (k_ok 37 h a2).bind fun _ =>
      (fX38_fits N a2 h).bind fun q5 =>
      if ¬ q5.1 = 0 then
        (k_ok 34 q5.2 l0).bind fun _ =>
        (fX35_counter l0 (0 : Int32) q5.2).bind fun q8 =>
        if ¬ q8.1 = (2147483647 : Int32) then
          (g_A 34 q8.2 l0 7).bind fun a10 =>
          (k_ok 37 q8.2 a10).bind fun _ =>
          (fX38_ship N a10 q8.2).bind fun q13 =>
          (g_I 34 q13.2 l0 101).bind fun x14 =>
          (p_V 34 q13.2 l0 101 (.int (x14 + (1 : Int32)))).bind fun h16 =>
          (k_ok 34 h16 l0).bind fun _ =>
          (fX35_counter l0 (0 : Int32) h16).bind fun q19 =>
          (k_ok 34 q19.2 l0).bind fun _ =>
          (fX35_setAt N l0 (1716 : Int32) (q19.1 + (1 : Int32)) (1 : Int32) q19.2).bind fun q21 =>
          fX35_ship_b406 N sL q21.2
        else
          (k_ok 34 q8.2 l0).bind fun _ =>
          (fX35_fail l0 (7 : Int32) q8.2).bind fun q23 =>
          fX35_ship_b406 N sL q23.2
      else
        (k_ok 34 q5.2 l0).bind fun _ =>
        (fX35_fail l0 (17 : Int32) q5.2).bind fun q25 =>
        fX35_ship_b406 N sL q25.2
    else
      (g_A 34 h l0 7).bind fun a26 =>
      (g_A 37 h a26 4).bind fun a28 =>
      (k_ok 34 h l0).bind fun _ =>
      (fX35_counter l0 l3 h).bind fun q31 =>
      (q_V 100 q31.2 a28 l3 (.int q31.1)).bind fun h32 =>
      fX35_ship_b309 N sL n l0 (l3 + (1 : Int32)) h32
theorem pX35_ship_b309 {w : eW} {d : Nat} {dr : Nat} (hd : dr + 6 ≤ d + 1) (hdr : 12 ≤ dr) {N : Nat} {sL : Nat → Int32 → Int64 → Int64 → eH → Option (Int32 × eH)} (hsL : ∀ a t0 t1 t2 h q, sL a t0 t1 t2 h = some q → wm w dr YX35_layBox [.ref a, .int t0, .long t1, .long t2] h (e_is (e_rn c_I q))) : ∀ (n : Nat) l0 l3 h q, fX35_ship_b309 N sL n l0 l3 h = some q → wp w (d + 1) YX35_ship 309 [some (.ref l0), none, none, some (.int l3), none] [] h (e_is (e_rn c_V q)) := by
  intro n
  induction n with
  | zero => intro l0 l3 h q hf; simp [fX35_ship_b309] at hf
  | succ n ih =>
    intro l0 l3 h q hf
    rw [fX35_ship_b309] at hf
    refine w_iload_n dX35_ship_309 rfl rfl ?_
    refine w_bipush dX35_ship_310 (v := 10) (by decide) ?_
    refine w_icmp_ge 335 dX35_ship_312 (by decide) (fun c1 => ?_) (fun c1 => ?_)
    · replace hf := (if_pos (show (10 : Int32) ≤ l3 from c1)).symm.trans hf
      refine w_aload_n dX35_ship_335 rfl rfl ?_
      obtain ⟨a2, b3, hf⟩ := Option.bind_eq_some_iff.mp hf
      refine GX35_42 b3 dX35_ship_336 rfl ?_
      obtain ⟨_, b4, hf⟩ := Option.bind_eq_some_iff.mp hf
      refine x_cnI hf (e_stV (Yc := YX38_fits) (ci := 37) (av := []) (st := []) dX35_ship_339 q5599 mX38_fits rfl (k_ok_some b4).1 (k_ok_some b4).2) mX38_fits.2.2.1 mX38_fits.2.2.2.2.1 (Nat.le_of_ble_eq_true rfl) (Nat.le_of_ble_eq_true rfl) (fun q hq => pX38_fits (by omega) hq) (fun q5 hf => ?_)
      refine w_if_ne 354 dX35_ship_342 (by decide) (fun c6 => ?_) (fun c6 => ?_)
      · replace hf := (if_pos (show ¬ q5.1 = 0 from c6)).symm.trans hf
        refine w_aload_n dX35_ship_354 rfl rfl ?_
        refine w_iconst dX35_ship_355 (v := 0) (by decide) ?_
        obtain ⟨_, b7, hf⟩ := Option.bind_eq_some_iff.mp hf
        refine x_cnI hf (e_stV (Yc := YX35_counter) (ci := 34) (av := [.int (0 : Int32)]) (st := []) dX35_ship_356 q5595 mX35_counter rfl (k_ok_some b7).1 (k_ok_some b7).2) mX35_counter.2.2.1 mX35_counter.2.2.2.2.1 (Nat.le_of_ble_eq_true rfl) (Nat.le_of_ble_eq_true rfl) (fun q hq => pX35_counter (by omega) hq) (fun q8 hf => ?_)
        refine w_ldc_w dX35_ship_359 q5638 ?_
        refine w_icmp_ne 374 dX35_ship_362 (by decide) (fun c9 => ?_) (fun c9 => ?_)
        · replace hf := (if_pos (show ¬ q8.1 = (2147483647 : Int32) from c9)).symm.trans hf
          refine w_aload_n dX35_ship_374 rfl rfl ?_
          obtain ⟨a10, b11, hf⟩ := Option.bind_eq_some_iff.mp hf
          refine GX35_42 b11 dX35_ship_375 rfl ?_
          obtain ⟨_, b12, hf⟩ := Option.bind_eq_some_iff.mp hf
          refine x_cnV hf (e_stV (Yc := YX38_ship) (ci := 37) (av := []) (st := []) dX35_ship_378 q5639 mX38_ship rfl (k_ok_some b12).1 (k_ok_some b12).2) mX38_ship.2.2.1 mX38_ship.2.2.2.2.1 (Nat.le_of_ble_eq_true rfl) (Nat.le_of_ble_eq_true rfl) (fun q hq => pX38_ship (by omega) hq) (fun q13 hf => ?_)
          refine w_aload_n dX35_ship_381 rfl rfl ?_
          refine w_dup dX35_ship_382 rfl ?_
          obtain ⟨x14, b15, hf⟩ := Option.bind_eq_some_iff.mp hf
          refine GX35_303 b15 dX35_ship_383 rfl ?_
          refine w_iconst dX35_ship_386 (v := 1) (by decide) ?_
          refine w_iadd dX35_ship_387 ?_
          obtain ⟨h16, b17, hf⟩ := Option.bind_eq_some_iff.mp hf
          refine SX35_303 b17 dX35_ship_388 rfl ?_
          refine w_aload_n dX35_ship_391 rfl rfl ?_
          refine w_sipush dX35_ship_392 (v := 1716) (by decide) ?_
          refine w_aload_n dX35_ship_395 rfl rfl ?_
          refine w_iconst dX35_ship_396 (v := 0) (by decide) ?_
          obtain ⟨_, b18, hf⟩ := Option.bind_eq_some_iff.mp hf
          refine x_cnI hf (e_stV (Yc := YX35_counter) (ci := 34) (av := [.int (0 : Int32)]) (st := [.int (1716 : Int32), .ref l0]) dX35_ship_397 q5595 mX35_counter rfl (k_ok_some b18).1 (k_ok_some b18).2) mX35_counter.2.2.1 mX35_counter.2.2.2.2.1 (Nat.le_of_ble_eq_true rfl) (Nat.le_of_ble_eq_true rfl) (fun q hq => pX35_counter (by omega) hq) (fun q19 hf => ?_)
          refine w_iconst dX35_ship_400 (v := 1) (by decide) ?_
          refine w_iadd dX35_ship_401 ?_
          refine w_iconst dX35_ship_402 (v := 1) (by decide) ?_
          obtain ⟨_, b20, hf⟩ := Option.bind_eq_some_iff.mp hf
          refine x_cnV hf (e_stV (Yc := YX35_setAt) (ci := 34) (av := [.int (1716 : Int32), .int (q19.1 + (1 : Int32)), .int (1 : Int32)]) (st := []) dX35_ship_403 q5205 mX35_setAt rfl (k_ok_some b20).1 (k_ok_some b20).2) mX35_setAt.2.2.1 mX35_setAt.2.2.2.2.1 (Nat.le_of_ble_eq_true rfl) (Nat.le_of_ble_eq_true rfl) (fun q hq => pX35_setAt (by omega) hq) (fun q21 hf => ?_)
          exact (pX35_ship_b406 hd hdr hsL hf).to trivial
        · replace hf := (if_neg (show ¬ (¬ q8.1 = (2147483647 : Int32)) from (fun z => z c9))).symm.trans hf
          refine w_aload_n dX35_ship_365 rfl rfl ?_
          refine w_bipush dX35_ship_366 (v := 7) (by decide) ?_
          obtain ⟨_, b22, hf⟩ := Option.bind_eq_some_iff.mp hf
          refine x_cnV hf (e_stV (Yc := YX35_fail) (ci := 34) (av := [.int (7 : Int32)]) (st := []) dX35_ship_368 q5109 mX35_fail rfl (k_ok_some b22).1 (k_ok_some b22).2) mX35_fail.2.2.1 mX35_fail.2.2.2.2.1 (Nat.le_of_ble_eq_true rfl) (Nat.le_of_ble_eq_true rfl) (fun q hq => pX35_fail (by omega) hq) (fun q23 hf => ?_)
          refine w_goto 406 dX35_ship_371 (by decide) ?_
          exact (pX35_ship_b406 hd hdr hsL hf).to trivial
      · replace hf := (if_neg (show ¬ (¬ q5.1 = 0) from (fun z => z c6))).symm.trans hf
        refine w_aload_n dX35_ship_345 rfl rfl ?_
        refine w_bipush dX35_ship_346 (v := 17) (by decide) ?_
        obtain ⟨_, b24, hf⟩ := Option.bind_eq_some_iff.mp hf
        refine x_cnV hf (e_stV (Yc := YX35_fail) (ci := 34) (av := [.int (17 : Int32)]) (st := []) dX35_ship_348 q5109 mX35_fail rfl (k_ok_some b24).1 (k_ok_some b24).2) mX35_fail.2.2.1 mX35_fail.2.2.2.2.1 (Nat.le_of_ble_eq_true rfl) (Nat.le_of_ble_eq_true rfl) (fun q hq => pX35_fail (by omega) hq) (fun q25 hf => ?_)
        refine w_goto 406 dX35_ship_351 (by decide) ?_
        exact (pX35_ship_b406 hd hdr hsL hf).to trivial
    · replace hf := (if_neg (show ¬ ((10 : Int32) ≤ l3) from c1)).symm.trans hf
      refine w_aload_n dX35_ship_315 rfl rfl ?_
      obtain ⟨a26, b27, hf⟩ := Option.bind_eq_some_iff.mp hf
      refine GX35_42 b27 dX35_ship_316 rfl ?_
      obtain ⟨a28, b29, hf⟩ := Option.bind_eq_some_iff.mp hf
      refine GX35_1125 b29 dX35_ship_319 rfl ?_
      refine w_iload_n dX35_ship_322 rfl rfl ?_
      refine w_aload_n dX35_ship_323 rfl rfl ?_
      refine w_iload_n dX35_ship_324 rfl rfl ?_
      obtain ⟨_, b30, hf⟩ := Option.bind_eq_some_iff.mp hf
      refine x_cnI hf (e_stV (Yc := YX35_counter) (ci := 34) (av := [.int l3]) (st := [.int l3, .ref a28]) dX35_ship_325 q5595 mX35_counter rfl (k_ok_some b30).1 (k_ok_some b30).2) mX35_counter.2.2.1 mX35_counter.2.2.2.2.1 (Nat.le_of_ble_eq_true rfl) (Nat.le_of_ble_eq_true rfl) (fun q hq => pX35_counter (by omega) hq) (fun q31 hf => ?_)
      obtain ⟨h32, b33, hf⟩ := Option.bind_eq_some_iff.mp hf
      refine x_qI b33 dX35_ship_328 ?_
      refine w_iinc dX35_ship_329 (v := (l3 + (1 : Int32))) rfl rfl (by decide) (ls' := [some (.ref l0), none, none, some (.int (l3 + (1 : Int32))), none]) rfl ?_
      refine w_goto 309 dX35_ship_332 (by decide) ?_
      exact (ih _ _ _ _ hf).to ⟨rfl, rfl, trivial⟩
def fX35_ship_b122 (N : Nat) (sL : Nat → Int32 → Int64 → Int64 → eH → Option (Int32 × eH)) : Nat → Nat → Int32 → eH → Option (Unit × eH)
  | 0, _, _, _ => none
  | n + 1, l0, l3, h =>
    (g_I 34 h l0 102).bind fun x1 =>
    if x1 ≤ l3 then
      fX35_ship_b309 N sL N l0 (0 : Int32) h
    else
      (g_A 34 h l0 103).bind fun a4 =>
      (r_I 100 h a4 l3).bind fun x6 =>
      if 0 ≤ x6 then
        fX35_ship_b144 N sL (fX35_ship_b122 N sL n) l0 l3 (0 : Int32) h
      else
        fX35_ship_b144 N sL (fX35_ship_b122 N sL n) l0 l3 (1 : Int32) h
theorem pX35_ship_b122 {w : eW} {d : Nat} {dr : Nat} (hd : dr + 6 ≤ d + 1) (hdr : 12 ≤ dr) {N : Nat} {sL : Nat → Int32 → Int64 → Int64 → eH → Option (Int32 × eH)} (hsL : ∀ a t0 t1 t2 h q, sL a t0 t1 t2 h = some q → wm w dr YX35_layBox [.ref a, .int t0, .long t1, .long t2] h (e_is (e_rn c_I q))) : ∀ (n : Nat) l0 l3 h q, fX35_ship_b122 N sL n l0 l3 h = some q → wp w (d + 1) YX35_ship 122 [some (.ref l0), none, none, some (.int l3), none] [] h (e_is (e_rn c_V q)) := by
  intro n
  induction n with
  | zero => intro l0 l3 h q hf; simp [fX35_ship_b122] at hf
  | succ n ih =>
    intro l0 l3 h q hf
    rw [fX35_ship_b122] at hf
    refine w_iload_n dX35_ship_122 rfl rfl ?_
    refine w_aload_n dX35_ship_123 rfl rfl ?_
    obtain ⟨x1, b2, hf⟩ := Option.bind_eq_some_iff.mp hf
    refine GX35_1006 b2 dX35_ship_124 rfl ?_
    refine w_icmp_ge 307 dX35_ship_127 (by decide) (fun c3 => ?_) (fun c3 => ?_)
    · replace hf := (if_pos (show x1 ≤ l3 from c3)).symm.trans hf
      refine w_iconst dX35_ship_307 (v := 0) (by decide) ?_
      refine w_istore_n dX35_ship_308 rfl (by decide) (ls' := [some (.ref l0), none, none, some (.int (0 : Int32)), none]) rfl ?_
      exact (pX35_ship_b309 hd hdr hsL N _ _ _ _ hf).to ⟨rfl, rfl, trivial⟩
    · replace hf := (if_neg (show ¬ (x1 ≤ l3) from c3)).symm.trans hf
      refine w_aload_n dX35_ship_130 rfl rfl ?_
      obtain ⟨a4, b5, hf⟩ := Option.bind_eq_some_iff.mp hf
      refine GX35_216 b5 dX35_ship_131 rfl ?_
      refine w_iload_n dX35_ship_134 rfl rfl ?_
      obtain ⟨x6, b7, hf⟩ := Option.bind_eq_some_iff.mp hf
      refine x_rI b7 dX35_ship_135 ?_
      refine w_if_ge 143 dX35_ship_136 (by decide) (fun c8 => ?_) (fun c8 => ?_)
      · replace hf := (if_pos (show 0 ≤ x6 from c8)).symm.trans hf
        refine w_iconst dX35_ship_143 (v := 0) (by decide) ?_
        exact (pX35_ship_b144 hd hdr hsL ih hf).to ⟨rfl, rfl, trivial⟩
      · replace hf := (if_neg (show ¬ (0 ≤ x6) from c8)).symm.trans hf
        refine w_iconst dX35_ship_139 (v := 1) (by decide) ?_
        refine w_goto 144 dX35_ship_140 (by decide) ?_
        exact (pX35_ship_b144 hd hdr hsL ih hf).to ⟨rfl, rfl, trivial⟩
def fX35_ship_b16 (N : Nat) (sL : Nat → Int32 → Int64 → Int64 → eH → Option (Int32 × eH)) : Nat → Nat → Int64 → Int32 → eH → Option (Unit × eH)
  | 0, _, _, _, _ => none
  | n + 1, l0, l1, l3, h =>
    (g_I 34 h l0 96).bind fun x1 =>
    if x1 ≤ l3 then
      (p_V 34 h l0 102 (.int (0 : Int32))).bind fun h4 =>
      if 0 < (lg_cmp l1 (20000 : Int64)) then
        fX35_ship_b88 N sL l0 h4
      else
        (k_ok 34 h4 l0).bind fun _ =>
        (fX35_layPage N sL l0 h4).bind fun q8 =>
        if ¬ q8.1 = 0 then
          (k_ok 34 q8.2 l0).bind fun _ =>
          (fX35_areNear N l0 q8.2).bind fun q11 =>
          if ¬ q11.1 = 0 then
            (g_A 34 q11.2 l0 7).bind fun a13 =>
            (g_I 34 q11.2 l0 102).bind fun x15 =>
            (p_V 37 q11.2 a13 13 (.int x15)).bind fun h17 =>
            fX35_ship_b122 N sL N l0 (0 : Int32) h17
          else
            (k_ok 34 q11.2 l0).bind fun _ =>
            (fX35_fail l0 (16 : Int32) q11.2).bind fun q20 =>
            some ((), q20.2)
        else
          fX35_ship_b88 N sL l0 q8.2
    else
      (g_A 34 h l0 87).bind fun a21 =>
      (r_I 100 h a21 l3).bind fun x23 =>
      if ¬ x23 = (5 : Int32) then
        fX35_ship_b60 N sL (fX35_ship_b16 N sL n) l0 l1 l3 h
      else
        (g_A 34 h l0 92).bind fun a26 =>
        (r_I 100 h a26 l3).bind fun x28 =>
        if x28 < 0 then
          fX35_ship_b60 N sL (fX35_ship_b16 N sL n) l0 l1 l3 h
        else
          (g_A 34 h l0 76).bind fun a31 =>
          (g_A 34 h l0 92).bind fun a33 =>
          (r_I 100 h a33 l3).bind fun x35 =>
          (r_I 100 h a31 x35).bind fun x37 =>
          fX35_ship_b61 N sL (fX35_ship_b16 N sL n) l0 l3 (l1 + (x37).toInt64) h
theorem pX35_ship_b16 {w : eW} {d : Nat} {dr : Nat} (hd : dr + 6 ≤ d + 1) (hdr : 12 ≤ dr) {N : Nat} {sL : Nat → Int32 → Int64 → Int64 → eH → Option (Int32 × eH)} (hsL : ∀ a t0 t1 t2 h q, sL a t0 t1 t2 h = some q → wm w dr YX35_layBox [.ref a, .int t0, .long t1, .long t2] h (e_is (e_rn c_I q))) : ∀ (n : Nat) l0 l1 l3 h q, fX35_ship_b16 N sL n l0 l1 l3 h = some q → wp w (d + 1) YX35_ship 16 [some (.ref l0), some (.long l1), none, some (.int l3), none] [] h (e_is (e_rn c_V q)) := by
  intro n
  induction n with
  | zero => intro l0 l1 l3 h q hf; simp [fX35_ship_b16] at hf
  | succ n ih =>
    intro l0 l1 l3 h q hf
    rw [fX35_ship_b16] at hf
    refine w_iload_n dX35_ship_16 rfl rfl ?_
    refine w_aload_n dX35_ship_17 rfl rfl ?_
    obtain ⟨x1, b2, hf⟩ := Option.bind_eq_some_iff.mp hf
    refine GX35_385 b2 dX35_ship_18 rfl ?_
    refine w_icmp_ge 68 dX35_ship_21 (by decide) (fun c3 => ?_) (fun c3 => ?_)
    · replace hf := (if_pos (show x1 ≤ l3 from c3)).symm.trans hf
      refine w_aload_n dX35_ship_68 rfl rfl ?_
      refine w_iconst dX35_ship_69 (v := 0) (by decide) ?_
      obtain ⟨h4, b5, hf⟩ := Option.bind_eq_some_iff.mp hf
      refine SX35_1006 b5 dX35_ship_70 rfl ?_
      refine w_lload_n dX35_ship_73 rfl rfl ?_
      refine w_ldc2 dX35_ship_74 q5518 ?_
      refine w_lcmp dX35_ship_77 ?_
      refine w_if_gt 88 dX35_ship_78 (by decide) (fun c6 => ?_) (fun c6 => ?_)
      · replace hf := (if_pos (show 0 < (lg_cmp l1 (20000 : Int64)) from c6)).symm.trans hf
        exact (pX35_ship_b88 hd hdr hsL hf).to ⟨rfl, trivial⟩
      · replace hf := (if_neg (show ¬ (0 < (lg_cmp l1 (20000 : Int64))) from c6)).symm.trans hf
        refine w_aload_n dX35_ship_81 rfl rfl ?_
        obtain ⟨_, b7, hf⟩ := Option.bind_eq_some_iff.mp hf
        refine x_cnI hf (e_stV (Yc := YX35_layPage) (ci := 34) (av := []) (st := []) dX35_ship_82 q5519 mX35_layPage rfl (k_ok_some b7).1 (k_ok_some b7).2) mX35_layPage.2.2.1 mX35_layPage.2.2.2.2.1 (Nat.le_of_ble_eq_true rfl) (Nat.le_of_ble_eq_true rfl) (fun q hq => pX35_layPage (by omega) hdr hsL hq) (fun q8 hf => ?_)
        refine w_if_ne 95 dX35_ship_85 (by decide) (fun c9 => ?_) (fun c9 => ?_)
        · replace hf := (if_pos (show ¬ q8.1 = 0 from c9)).symm.trans hf
          refine w_aload_n dX35_ship_95 rfl rfl ?_
          obtain ⟨_, b10, hf⟩ := Option.bind_eq_some_iff.mp hf
          refine x_cnI hf (e_stV (Yc := YX35_areNear) (ci := 34) (av := []) (st := []) dX35_ship_96 q5586 mX35_areNear rfl (k_ok_some b10).1 (k_ok_some b10).2) mX35_areNear.2.2.1 mX35_areNear.2.2.2.2.1 (Nat.le_of_ble_eq_true rfl) (Nat.le_of_ble_eq_true rfl) (fun q hq => pX35_areNear (by omega) hq) (fun q11 hf => ?_)
          refine w_if_ne 109 dX35_ship_99 (by decide) (fun c12 => ?_) (fun c12 => ?_)
          · replace hf := (if_pos (show ¬ q11.1 = 0 from c12)).symm.trans hf
            refine w_aload_n dX35_ship_109 rfl rfl ?_
            obtain ⟨a13, b14, hf⟩ := Option.bind_eq_some_iff.mp hf
            refine GX35_42 b14 dX35_ship_110 rfl ?_
            refine w_aload_n dX35_ship_113 rfl rfl ?_
            obtain ⟨x15, b16, hf⟩ := Option.bind_eq_some_iff.mp hf
            refine GX35_1006 b16 dX35_ship_114 rfl ?_
            obtain ⟨h17, b18, hf⟩ := Option.bind_eq_some_iff.mp hf
            refine SX35_1109 b18 dX35_ship_117 rfl ?_
            refine w_iconst dX35_ship_120 (v := 0) (by decide) ?_
            refine w_istore_n dX35_ship_121 rfl (by decide) (ls' := [some (.ref l0), some (.long l1), none, some (.int (0 : Int32)), none]) rfl ?_
            exact (pX35_ship_b122 hd hdr hsL N _ _ _ _ hf).to ⟨rfl, rfl, trivial⟩
          · replace hf := (if_neg (show ¬ (¬ q11.1 = 0) from (fun z => z c12))).symm.trans hf
            refine w_aload_n dX35_ship_102 rfl rfl ?_
            refine w_bipush dX35_ship_103 (v := 16) (by decide) ?_
            obtain ⟨_, b19, hf⟩ := Option.bind_eq_some_iff.mp hf
            refine x_cnV hf (e_stV (Yc := YX35_fail) (ci := 34) (av := [.int (16 : Int32)]) (st := []) dX35_ship_105 q5109 mX35_fail rfl (k_ok_some b19).1 (k_ok_some b19).2) mX35_fail.2.2.1 mX35_fail.2.2.2.2.1 (Nat.le_of_ble_eq_true rfl) (Nat.le_of_ble_eq_true rfl) (fun q hq => pX35_fail (by omega) hq) (fun q20 hf => ?_)
            cases hf
            exact w_vret dX35_ship_108 rfl rfl
        · replace hf := (if_neg (show ¬ (¬ q8.1 = 0) from (fun z => z c9))).symm.trans hf
          exact (pX35_ship_b88 hd hdr hsL hf).to ⟨rfl, trivial⟩
    · replace hf := (if_neg (show ¬ (x1 ≤ l3) from c3)).symm.trans hf
      refine w_aload_n dX35_ship_24 rfl rfl ?_
      obtain ⟨a21, b22, hf⟩ := Option.bind_eq_some_iff.mp hf
      refine GX35_195 b22 dX35_ship_25 rfl ?_
      refine w_iload_n dX35_ship_28 rfl rfl ?_
      obtain ⟨x23, b24, hf⟩ := Option.bind_eq_some_iff.mp hf
      refine x_rI b24 dX35_ship_29 ?_
      refine w_iconst dX35_ship_30 (v := 5) (by decide) ?_
      refine w_icmp_ne 60 dX35_ship_31 (by decide) (fun c25 => ?_) (fun c25 => ?_)
      · replace hf := (if_pos (show ¬ x23 = (5 : Int32) from c25)).symm.trans hf
        exact (pX35_ship_b60 hd hdr hsL ih hf).to ⟨rfl, rfl, rfl, trivial⟩
      · replace hf := (if_neg (show ¬ (¬ x23 = (5 : Int32)) from (fun z => z c25))).symm.trans hf
        refine w_aload_n dX35_ship_34 rfl rfl ?_
        obtain ⟨a26, b27, hf⟩ := Option.bind_eq_some_iff.mp hf
        refine GX35_210 b27 dX35_ship_35 rfl ?_
        refine w_iload_n dX35_ship_38 rfl rfl ?_
        obtain ⟨x28, b29, hf⟩ := Option.bind_eq_some_iff.mp hf
        refine x_rI b29 dX35_ship_39 ?_
        refine w_if_lt 60 dX35_ship_40 (by decide) (fun c30 => ?_) (fun c30 => ?_)
        · replace hf := (if_pos (show x28 < 0 from c30)).symm.trans hf
          exact (pX35_ship_b60 hd hdr hsL ih hf).to ⟨rfl, rfl, rfl, trivial⟩
        · replace hf := (if_neg (show ¬ (x28 < 0) from c30)).symm.trans hf
          refine w_lload_n dX35_ship_43 rfl rfl ?_
          refine w_aload_n dX35_ship_44 rfl rfl ?_
          obtain ⟨a31, b32, hf⟩ := Option.bind_eq_some_iff.mp hf
          refine GX35_181 b32 dX35_ship_45 rfl ?_
          refine w_aload_n dX35_ship_48 rfl rfl ?_
          obtain ⟨a33, b34, hf⟩ := Option.bind_eq_some_iff.mp hf
          refine GX35_210 b34 dX35_ship_49 rfl ?_
          refine w_iload_n dX35_ship_52 rfl rfl ?_
          obtain ⟨x35, b36, hf⟩ := Option.bind_eq_some_iff.mp hf
          refine x_rI b36 dX35_ship_53 ?_
          obtain ⟨x37, b38, hf⟩ := Option.bind_eq_some_iff.mp hf
          refine x_rI b38 dX35_ship_54 ?_
          refine w_i2l dX35_ship_55 ?_
          refine w_ladd dX35_ship_56 ?_
          refine w_goto 61 dX35_ship_57 (by decide) ?_
          exact (pX35_ship_b61 hd hdr hsL ih hf).to ⟨rfl, rfl, trivial⟩
def fX35_ship (N : Nat) (sL : Nat → Int32 → Int64 → Int64 → eH → Option (Int32 × eH)) (this : Nat) (h : eH) : Option (Unit × eH) :=
  (g_I 34 h this 96).bind fun x1 =>
  (g_I 34 h this 95).bind fun x3 =>
  (g_I 34 h this 95).bind fun x5 =>
  fX35_ship_b16 N sL N this ((x1 - x3)).toInt64 x5 h
theorem pX35_ship {w : eW} {d : Nat} {dr : Nat} (hd : dr + 6 ≤ d) (hdr : 12 ≤ dr) {N : Nat} {sL : Nat → Int32 → Int64 → Int64 → eH → Option (Int32 × eH)} (hsL : ∀ a t0 t1 t2 h q, sL a t0 t1 t2 h = some q → wm w dr YX35_layBox [.ref a, .int t0, .long t1, .long t2] h (e_is (e_rn c_I q))) {this : Nat} {h : eH} {q} (hf : fX35_ship N sL this h = some q) : wm w d YX35_ship [.ref this] h (e_is (e_rn c_V q)) := by
  obtain ⟨d, rfl⟩ : ∃ e, d = e + 1 := ⟨d - 1, by omega⟩
  show wp w (d + 1) YX35_ship 0 [some (.ref this), none, none, none, none] [] h _
  unfold fX35_ship at hf
  refine w_aload_n dX35_ship_0 rfl rfl ?_
  obtain ⟨x1, b2, hf⟩ := Option.bind_eq_some_iff.mp hf
  refine GX35_385 b2 dX35_ship_1 rfl ?_
  refine w_aload_n dX35_ship_4 rfl rfl ?_
  obtain ⟨x3, b4, hf⟩ := Option.bind_eq_some_iff.mp hf
  refine GX35_382 b4 dX35_ship_5 rfl ?_
  refine w_isub dX35_ship_8 ?_
  refine w_i2l dX35_ship_9 ?_
  refine w_lstore_n dX35_ship_10 rfl (by decide) (ls' := [some (.ref this), some (.long ((x1 - x3)).toInt64), none, none, none]) rfl ?_
  refine w_aload_n dX35_ship_11 rfl rfl ?_
  obtain ⟨x5, b6, hf⟩ := Option.bind_eq_some_iff.mp hf
  refine GX35_382 b6 dX35_ship_12 rfl ?_
  refine w_istore_n dX35_ship_15 rfl (by decide) (ls' := [some (.ref this), some (.long ((x1 - x3)).toInt64), none, some (.int x5), none]) rfl ?_
  exact (pX35_ship_b16 hd hdr hsL N _ _ _ _ _ hf).to ⟨rfl, rfl, rfl, trivial⟩
abbrev cX35_goOn : ByteArray := prog_37_method_155_code
def yX35_goOn : MethodName := ⟨RX35, "goOn", "()V"⟩
def YX35_goOn : eY := (yX35_goOn, cX35_goOn, 1, none, [])
theorem mX35_goOn : e_mv YX35_goOn RX35 0 := ⟨q5471, qs314, q5472, by decide, by decide +kernel, (e_sig (by decide +kernel))⟩
theorem dX35_goOn_0 : decode cX35_goOn 0 = .ok (.aload_n 0, 1) := dc_42 (by decide +kernel)
theorem dX35_goOn_1 : decode cX35_goOn 1 = .ok (.invokevirtual 1068, 3) := dc_182 (a := 4) (b := 44) (n := 1068) (by decide +kernel)
theorem dX35_goOn_4 : decode cX35_goOn 4 = .ok (.aload_n 0, 1) := dc_42 (by decide +kernel)
theorem dX35_goOn_5 : decode cX35_goOn 5 = .ok (.getfield 321, 3) := dc_180 (a := 1) (b := 65) (n := 321) (by decide +kernel)
theorem dX35_goOn_8 : decode cX35_goOn 8 = .ok (.ifCond .ne 34, 3) := dc_154 (a := 0) (b := 34) (v := 34) (by decide +kernel)
theorem dX35_goOn_11 : decode cX35_goOn 11 = .ok (.aload_n 0, 1) := dc_42 (by decide +kernel)
theorem dX35_goOn_12 : decode cX35_goOn 12 = .ok (.invokevirtual 1071, 3) := dc_182 (a := 4) (b := 47) (n := 1071) (by decide +kernel)
theorem dX35_goOn_15 : decode cX35_goOn 15 = .ok (.ifCond .eq 27, 3) := dc_153 (a := 0) (b := 27) (v := 27) (by decide +kernel)
theorem dX35_goOn_18 : decode cX35_goOn 18 = .ok (.aload_n 0, 1) := dc_42 (by decide +kernel)
theorem dX35_goOn_19 : decode cX35_goOn 19 = .ok (.invokevirtual 1074, 3) := dc_182 (a := 4) (b := 50) (n := 1074) (by decide +kernel)
theorem dX35_goOn_22 : decode cX35_goOn 22 = .ok (.aload_n 0, 1) := dc_42 (by decide +kernel)
theorem dX35_goOn_23 : decode cX35_goOn 23 = .ok (.aload_n 0, 1) := dc_42 (by decide +kernel)
theorem dX35_goOn_24 : decode cX35_goOn 24 = .ok (.getfield 385, 3) := dc_180 (a := 1) (b := 129) (n := 385) (by decide +kernel)
theorem dX35_goOn_27 : decode cX35_goOn 27 = .ok (.putfield 382, 3) := dc_181 (a := 1) (b := 126) (n := 382) (by decide +kernel)
theorem dX35_goOn_30 : decode cX35_goOn 30 = .ok (.aload_n 0, 1) := dc_42 (by decide +kernel)
theorem dX35_goOn_31 : decode cX35_goOn 31 = .ok (.iconst 0, 1) := dc_3 (by decide +kernel)
theorem dX35_goOn_32 : decode cX35_goOn 32 = .ok (.putfield 379, 3) := dc_181 (a := 1) (b := 123) (n := 379) (by decide +kernel)
theorem dX35_goOn_35 : decode cX35_goOn 35 = .ok (.aload_n 0, 1) := dc_42 (by decide +kernel)
theorem dX35_goOn_36 : decode cX35_goOn 36 = .ok (.invokevirtual 1068, 3) := dc_182 (a := 4) (b := 44) (n := 1068) (by decide +kernel)
theorem dX35_goOn_39 : decode cX35_goOn 39 = .ok (.goto (-35), 3) := dc_167 (a := 255) (b := 221) (v := -35) (by decide +kernel)
theorem dX35_goOn_42 : decode cX35_goOn 42 = .ok (.return_, 1) := dc_177 (by decide +kernel)
def fX35_goOn_b42 (N : Nat) (sL : Nat → Int32 → Int64 → Int64 → eH → Option (Int32 × eH))  (h : eH) : Option (Unit × eH) :=
  some ((), h)
theorem pX35_goOn_b42 {w : eW} {d : Nat} {dr : Nat} (hd : dr + 7 ≤ d + 1) (hdr : 12 ≤ dr) {N : Nat} {sL : Nat → Int32 → Int64 → Int64 → eH → Option (Int32 × eH)} (hsL : ∀ a t0 t1 t2 h q, sL a t0 t1 t2 h = some q → wm w dr YX35_layBox [.ref a, .int t0, .long t1, .long t2] h (e_is (e_rn c_I q)))  {h : eH} {q} (hf : fX35_goOn_b42 N sL h = some q) : wp w (d + 1) YX35_goOn 42 [none] [] h (e_is (e_rn c_V q)) := by
  unfold fX35_goOn_b42 at hf
  cases hf
  exact w_vret dX35_goOn_42 rfl rfl
def fX35_goOn_b4 (N : Nat) (sL : Nat → Int32 → Int64 → Int64 → eH → Option (Int32 × eH)) : Nat → Nat → eH → Option (Unit × eH)
  | 0, _, _ => none
  | n + 1, l0, h =>
    (g_I 34 h l0 46).bind fun x1 =>
    if ¬ x1 = 0 then
      fX35_goOn_b42 N sL h
    else
      (k_ok 34 h l0).bind fun _ =>
      (fX35_breaks N l0 h).bind fun q5 =>
      if q5.1 = 0 then
        fX35_goOn_b42 N sL q5.2
      else
        (k_ok 34 q5.2 l0).bind fun _ =>
        (fX35_ship N sL l0 q5.2).bind fun q8 =>
        (g_I 34 q8.2 l0 96).bind fun x9 =>
        (p_V 34 q8.2 l0 95 (.int x9)).bind fun h11 =>
        (p_Z 34 h11 l0 94 (0 : Int32)).bind fun h13 =>
        (k_ok 34 h13 l0).bind fun _ =>
        (fX35_openPage N l0 h13).bind fun q16 =>
        fX35_goOn_b4 N sL n l0 q16.2
theorem pX35_goOn_b4 {w : eW} {d : Nat} {dr : Nat} (hd : dr + 7 ≤ d + 1) (hdr : 12 ≤ dr) {N : Nat} {sL : Nat → Int32 → Int64 → Int64 → eH → Option (Int32 × eH)} (hsL : ∀ a t0 t1 t2 h q, sL a t0 t1 t2 h = some q → wm w dr YX35_layBox [.ref a, .int t0, .long t1, .long t2] h (e_is (e_rn c_I q))) : ∀ (n : Nat) l0 h q, fX35_goOn_b4 N sL n l0 h = some q → wp w (d + 1) YX35_goOn 4 [some (.ref l0)] [] h (e_is (e_rn c_V q)) := by
  intro n
  induction n with
  | zero => intro l0 h q hf; simp [fX35_goOn_b4] at hf
  | succ n ih =>
    intro l0 h q hf
    rw [fX35_goOn_b4] at hf
    refine w_aload_n dX35_goOn_4 rfl rfl ?_
    obtain ⟨x1, b2, hf⟩ := Option.bind_eq_some_iff.mp hf
    refine GX35_321 b2 dX35_goOn_5 rfl ?_
    refine w_if_ne 42 dX35_goOn_8 (by decide) (fun c3 => ?_) (fun c3 => ?_)
    · replace hf := (if_pos (show ¬ x1 = 0 from c3)).symm.trans hf
      exact (pX35_goOn_b42 hd hdr hsL hf).to trivial
    · replace hf := (if_neg (show ¬ (¬ x1 = 0) from (fun z => z c3))).symm.trans hf
      refine w_aload_n dX35_goOn_11 rfl rfl ?_
      obtain ⟨_, b4, hf⟩ := Option.bind_eq_some_iff.mp hf
      refine x_cnI hf (e_stV (Yc := YX35_breaks) (ci := 34) (av := []) (st := []) dX35_goOn_12 q5477 mX35_breaks rfl (k_ok_some b4).1 (k_ok_some b4).2) mX35_breaks.2.2.1 mX35_breaks.2.2.2.2.1 (Nat.le_of_ble_eq_true rfl) (Nat.le_of_ble_eq_true rfl) (fun q hq => pX35_breaks (by omega) hq) (fun q5 hf => ?_)
      refine w_if_eq 42 dX35_goOn_15 (by decide) (fun c6 => ?_) (fun c6 => ?_)
      · replace hf := (if_pos (show q5.1 = 0 from c6)).symm.trans hf
        exact (pX35_goOn_b42 hd hdr hsL hf).to trivial
      · replace hf := (if_neg (show ¬ (q5.1 = 0) from c6)).symm.trans hf
        refine w_aload_n dX35_goOn_18 rfl rfl ?_
        obtain ⟨_, b7, hf⟩ := Option.bind_eq_some_iff.mp hf
        refine x_cnV hf (e_stV (Yc := YX35_ship) (ci := 34) (av := []) (st := []) dX35_goOn_19 q5514 mX35_ship rfl (k_ok_some b7).1 (k_ok_some b7).2) mX35_ship.2.2.1 mX35_ship.2.2.2.2.1 (Nat.le_of_ble_eq_true rfl) (Nat.le_of_ble_eq_true rfl) (fun q hq => pX35_ship (by omega) hdr hsL hq) (fun q8 hf => ?_)
        refine w_aload_n dX35_goOn_22 rfl rfl ?_
        refine w_aload_n dX35_goOn_23 rfl rfl ?_
        obtain ⟨x9, b10, hf⟩ := Option.bind_eq_some_iff.mp hf
        refine GX35_385 b10 dX35_goOn_24 rfl ?_
        obtain ⟨h11, b12, hf⟩ := Option.bind_eq_some_iff.mp hf
        refine SX35_382 b12 dX35_goOn_27 rfl ?_
        refine w_aload_n dX35_goOn_30 rfl rfl ?_
        refine w_iconst dX35_goOn_31 (v := 0) (by decide) ?_
        obtain ⟨h13, b14, hf⟩ := Option.bind_eq_some_iff.mp hf
        refine SX35_379 b14 dX35_goOn_32 rfl ?_
        refine w_aload_n dX35_goOn_35 rfl rfl ?_
        obtain ⟨_, b15, hf⟩ := Option.bind_eq_some_iff.mp hf
        refine x_cnV hf (e_stV (Yc := YX35_openPage) (ci := 34) (av := []) (st := []) dX35_goOn_36 q5473 mX35_openPage rfl (k_ok_some b15).1 (k_ok_some b15).2) mX35_openPage.2.2.1 mX35_openPage.2.2.2.2.1 (Nat.le_of_ble_eq_true rfl) (Nat.le_of_ble_eq_true rfl) (fun q hq => pX35_openPage (by omega) hq) (fun q16 hf => ?_)
        refine w_goto 4 dX35_goOn_39 (by decide) ?_
        exact (ih _ _ _ hf).to ⟨rfl, trivial⟩
def fX35_goOn (N : Nat) (sL : Nat → Int32 → Int64 → Int64 → eH → Option (Int32 × eH)) (this : Nat) (h : eH) : Option (Unit × eH) :=
  (k_ok 34 h this).bind fun _ =>
  (fX35_openPage N this h).bind fun q2 =>
  fX35_goOn_b4 N sL N this q2.2
theorem pX35_goOn {w : eW} {d : Nat} {dr : Nat} (hd : dr + 7 ≤ d) (hdr : 12 ≤ dr) {N : Nat} {sL : Nat → Int32 → Int64 → Int64 → eH → Option (Int32 × eH)} (hsL : ∀ a t0 t1 t2 h q, sL a t0 t1 t2 h = some q → wm w dr YX35_layBox [.ref a, .int t0, .long t1, .long t2] h (e_is (e_rn c_I q))) {this : Nat} {h : eH} {q} (hf : fX35_goOn N sL this h = some q) : wm w d YX35_goOn [.ref this] h (e_is (e_rn c_V q)) := by
  obtain ⟨d, rfl⟩ : ∃ e, d = e + 1 := ⟨d - 1, by omega⟩
  show wp w (d + 1) YX35_goOn 0 [some (.ref this)] [] h _
  unfold fX35_goOn at hf
  refine w_aload_n dX35_goOn_0 rfl rfl ?_
  obtain ⟨_, b1, hf⟩ := Option.bind_eq_some_iff.mp hf
  refine x_cnV hf (e_stV (Yc := YX35_openPage) (ci := 34) (av := []) (st := []) dX35_goOn_1 q5473 mX35_openPage rfl (k_ok_some b1).1 (k_ok_some b1).2) mX35_openPage.2.2.1 mX35_openPage.2.2.2.2.1 (Nat.le_of_ble_eq_true rfl) (Nat.le_of_ble_eq_true rfl) (fun q hq => pX35_openPage (by omega) hq) (fun q2 hf => ?_)
  exact (pX35_goOn_b4 hd hdr hsL N _ _ _ hf).to ⟨rfl, trivial⟩
abbrev cX35_outer : ByteArray := prog_37_method_146_code
def yX35_outer : MethodName := ⟨RX35, "outer", "(IIIIIII)V"⟩
def YX35_outer : eY := (yX35_outer, cX35_outer, 8, none, [])
theorem mX35_outer : e_mv YX35_outer RX35 7 := ⟨q5467, qs313, q5468, by decide, by decide +kernel, (e_sig (by decide +kernel))⟩
theorem dX35_outer_0 : decode cX35_outer 0 = .ok (.aload_n 0, 1) := dc_42 (by decide +kernel)
theorem dX35_outer_1 : decode cX35_outer 1 = .ok (.getfield 321, 3) := dc_180 (a := 1) (b := 65) (n := 321) (by decide +kernel)
theorem dX35_outer_4 : decode cX35_outer 4 = .ok (.ifCond .le 4, 3) := dc_158 (a := 0) (b := 4) (v := 4) (by decide +kernel)
theorem dX35_outer_7 : decode cX35_outer 7 = .ok (.return_, 1) := dc_177 (by decide +kernel)
theorem dX35_outer_8 : decode cX35_outer 8 = .ok (.aload_n 0, 1) := dc_42 (by decide +kernel)
theorem dX35_outer_9 : decode cX35_outer 9 = .ok (.getfield 376, 3) := dc_180 (a := 1) (b := 120) (n := 376) (by decide +kernel)
theorem dX35_outer_12 : decode cX35_outer 12 = .ok (.sipush 10000, 3) := dc_17 (a := 39) (b := 16) (v := 10000) (by decide +kernel)
theorem dX35_outer_15 : decode cX35_outer 15 = .ok (.if_icmp .ne 9, 3) := dc_160 (a := 0) (b := 9) (v := 9) (by decide +kernel)
theorem dX35_outer_18 : decode cX35_outer 18 = .ok (.aload_n 0, 1) := dc_42 (by decide +kernel)
theorem dX35_outer_19 : decode cX35_outer 19 = .ok (.iconst 2, 1) := dc_5 (by decide +kernel)
theorem dX35_outer_20 : decode cX35_outer 20 = .ok (.invokevirtual 428, 3) := dc_182 (a := 1) (b := 172) (n := 428) (by decide +kernel)
theorem dX35_outer_23 : decode cX35_outer 23 = .ok (.return_, 1) := dc_177 (by decide +kernel)
theorem dX35_outer_24 : decode cX35_outer 24 = .ok (.aload_n 0, 1) := dc_42 (by decide +kernel)
theorem dX35_outer_25 : decode cX35_outer 25 = .ok (.getfield 195, 3) := dc_180 (a := 0) (b := 195) (n := 195) (by decide +kernel)
theorem dX35_outer_28 : decode cX35_outer 28 = .ok (.aload_n 0, 1) := dc_42 (by decide +kernel)
theorem dX35_outer_29 : decode cX35_outer 29 = .ok (.getfield 376, 3) := dc_180 (a := 1) (b := 120) (n := 376) (by decide +kernel)
theorem dX35_outer_32 : decode cX35_outer 32 = .ok (.iload_n 1, 1) := dc_27 (by decide +kernel)
theorem dX35_outer_33 : decode cX35_outer 33 = .ok (.iastore, 1) := dc_79 (by decide +kernel)
theorem dX35_outer_34 : decode cX35_outer 34 = .ok (.aload_n 0, 1) := dc_42 (by decide +kernel)
theorem dX35_outer_35 : decode cX35_outer 35 = .ok (.getfield 198, 3) := dc_180 (a := 0) (b := 198) (n := 198) (by decide +kernel)
theorem dX35_outer_38 : decode cX35_outer 38 = .ok (.aload_n 0, 1) := dc_42 (by decide +kernel)
theorem dX35_outer_39 : decode cX35_outer 39 = .ok (.getfield 376, 3) := dc_180 (a := 1) (b := 120) (n := 376) (by decide +kernel)
theorem dX35_outer_42 : decode cX35_outer 42 = .ok (.iload_n 2, 1) := dc_28 (by decide +kernel)
theorem dX35_outer_43 : decode cX35_outer 43 = .ok (.iastore, 1) := dc_79 (by decide +kernel)
theorem dX35_outer_44 : decode cX35_outer 44 = .ok (.aload_n 0, 1) := dc_42 (by decide +kernel)
theorem dX35_outer_45 : decode cX35_outer 45 = .ok (.getfield 201, 3) := dc_180 (a := 0) (b := 201) (n := 201) (by decide +kernel)
theorem dX35_outer_48 : decode cX35_outer 48 = .ok (.aload_n 0, 1) := dc_42 (by decide +kernel)
theorem dX35_outer_49 : decode cX35_outer 49 = .ok (.getfield 376, 3) := dc_180 (a := 1) (b := 120) (n := 376) (by decide +kernel)
theorem dX35_outer_52 : decode cX35_outer 52 = .ok (.iload_n 3, 1) := dc_29 (by decide +kernel)
theorem dX35_outer_53 : decode cX35_outer 53 = .ok (.iastore, 1) := dc_79 (by decide +kernel)
theorem dX35_outer_54 : decode cX35_outer 54 = .ok (.aload_n 0, 1) := dc_42 (by decide +kernel)
theorem dX35_outer_55 : decode cX35_outer 55 = .ok (.getfield 204, 3) := dc_180 (a := 0) (b := 204) (n := 204) (by decide +kernel)
theorem dX35_outer_58 : decode cX35_outer 58 = .ok (.aload_n 0, 1) := dc_42 (by decide +kernel)
theorem dX35_outer_59 : decode cX35_outer 59 = .ok (.getfield 376, 3) := dc_180 (a := 1) (b := 120) (n := 376) (by decide +kernel)
theorem dX35_outer_62 : decode cX35_outer 62 = .ok (.iload 4, 2) := dc_21 (a := 4) (by decide +kernel)
theorem dX35_outer_64 : decode cX35_outer 64 = .ok (.iastore, 1) := dc_79 (by decide +kernel)
theorem dX35_outer_65 : decode cX35_outer 65 = .ok (.aload_n 0, 1) := dc_42 (by decide +kernel)
theorem dX35_outer_66 : decode cX35_outer 66 = .ok (.getfield 207, 3) := dc_180 (a := 0) (b := 207) (n := 207) (by decide +kernel)
theorem dX35_outer_69 : decode cX35_outer 69 = .ok (.aload_n 0, 1) := dc_42 (by decide +kernel)
theorem dX35_outer_70 : decode cX35_outer 70 = .ok (.getfield 376, 3) := dc_180 (a := 1) (b := 120) (n := 376) (by decide +kernel)
theorem dX35_outer_73 : decode cX35_outer 73 = .ok (.iload 5, 2) := dc_21 (a := 5) (by decide +kernel)
theorem dX35_outer_75 : decode cX35_outer 75 = .ok (.iastore, 1) := dc_79 (by decide +kernel)
theorem dX35_outer_76 : decode cX35_outer 76 = .ok (.aload_n 0, 1) := dc_42 (by decide +kernel)
theorem dX35_outer_77 : decode cX35_outer 77 = .ok (.getfield 210, 3) := dc_180 (a := 0) (b := 210) (n := 210) (by decide +kernel)
theorem dX35_outer_80 : decode cX35_outer 80 = .ok (.aload_n 0, 1) := dc_42 (by decide +kernel)
theorem dX35_outer_81 : decode cX35_outer 81 = .ok (.getfield 376, 3) := dc_180 (a := 1) (b := 120) (n := 376) (by decide +kernel)
theorem dX35_outer_84 : decode cX35_outer 84 = .ok (.iload 6, 2) := dc_21 (a := 6) (by decide +kernel)
theorem dX35_outer_86 : decode cX35_outer 86 = .ok (.iastore, 1) := dc_79 (by decide +kernel)
theorem dX35_outer_87 : decode cX35_outer 87 = .ok (.aload_n 0, 1) := dc_42 (by decide +kernel)
theorem dX35_outer_88 : decode cX35_outer 88 = .ok (.getfield 213, 3) := dc_180 (a := 0) (b := 213) (n := 213) (by decide +kernel)
theorem dX35_outer_91 : decode cX35_outer 91 = .ok (.aload_n 0, 1) := dc_42 (by decide +kernel)
theorem dX35_outer_92 : decode cX35_outer 92 = .ok (.getfield 376, 3) := dc_180 (a := 1) (b := 120) (n := 376) (by decide +kernel)
theorem dX35_outer_95 : decode cX35_outer 95 = .ok (.iload 7, 2) := dc_21 (a := 7) (by decide +kernel)
theorem dX35_outer_97 : decode cX35_outer 97 = .ok (.iastore, 1) := dc_79 (by decide +kernel)
theorem dX35_outer_98 : decode cX35_outer 98 = .ok (.aload_n 0, 1) := dc_42 (by decide +kernel)
theorem dX35_outer_99 : decode cX35_outer 99 = .ok (.dup, 1) := dc_89 (by decide +kernel)
theorem dX35_outer_100 : decode cX35_outer 100 = .ok (.getfield 376, 3) := dc_180 (a := 1) (b := 120) (n := 376) (by decide +kernel)
theorem dX35_outer_103 : decode cX35_outer 103 = .ok (.iconst 1, 1) := dc_4 (by decide +kernel)
theorem dX35_outer_104 : decode cX35_outer 104 = .ok (.iadd, 1) := dc_96 (by decide +kernel)
theorem dX35_outer_105 : decode cX35_outer 105 = .ok (.putfield 376, 3) := dc_181 (a := 1) (b := 120) (n := 376) (by decide +kernel)
theorem dX35_outer_108 : decode cX35_outer 108 = .ok (.aload_n 0, 1) := dc_42 (by decide +kernel)
theorem dX35_outer_109 : decode cX35_outer 109 = .ok (.invokevirtual 1025, 3) := dc_182 (a := 4) (b := 1) (n := 1025) (by decide +kernel)
theorem dX35_outer_112 : decode cX35_outer 112 = .ok (.return_, 1) := dc_177 (by decide +kernel)
def fX35_outer (N : Nat) (sL : Nat → Int32 → Int64 → Int64 → eH → Option (Int32 × eH)) (this : Nat) (p0 : Int32) (p1 : Int32) (p2 : Int32) (p3 : Int32) (p4 : Int32) (p5 : Int32) (p6 : Int32) (h : eH) : Option (Unit × eH) :=
  (g_I 34 h this 46).bind fun x1 =>
  if x1 ≤ 0 then
    (g_I 34 h this 86).bind fun x4 =>
    if ¬ x4 = (10000 : Int32) then
      (g_A 34 h this 87).bind fun a7 =>
      (g_I 34 h this 86).bind fun x9 =>
      (q_V 100 h a7 x9 (.int p0)).bind fun h11 =>
      (g_A 34 h11 this 88).bind fun a13 =>
      (g_I 34 h11 this 86).bind fun x15 =>
      (q_V 100 h11 a13 x15 (.int p1)).bind fun h17 =>
      (g_A 34 h17 this 89).bind fun a19 =>
      (g_I 34 h17 this 86).bind fun x21 =>
      (q_V 100 h17 a19 x21 (.int p2)).bind fun h23 =>
      (g_A 34 h23 this 90).bind fun a25 =>
      (g_I 34 h23 this 86).bind fun x27 =>
      (q_V 100 h23 a25 x27 (.int p3)).bind fun h29 =>
      (g_A 34 h29 this 91).bind fun a31 =>
      (g_I 34 h29 this 86).bind fun x33 =>
      (q_V 100 h29 a31 x33 (.int p4)).bind fun h35 =>
      (g_A 34 h35 this 92).bind fun a37 =>
      (g_I 34 h35 this 86).bind fun x39 =>
      (q_V 100 h35 a37 x39 (.int p5)).bind fun h41 =>
      (g_A 34 h41 this 93).bind fun a43 =>
      (g_I 34 h41 this 86).bind fun x45 =>
      (q_V 100 h41 a43 x45 (.int p6)).bind fun h47 =>
      (g_I 34 h47 this 86).bind fun x49 =>
      (p_V 34 h47 this 86 (.int (x49 + (1 : Int32)))).bind fun h51 =>
      (k_ok 34 h51 this).bind fun _ =>
      (fX35_goOn N sL this h51).bind fun q54 =>
      some ((), q54.2)
    else
      (k_ok 34 h this).bind fun _ =>
      (fX35_fail this (2 : Int32) h).bind fun q56 =>
      some ((), q56.2)
  else
    some ((), h)
theorem pX35_outer {w : eW} {d : Nat} {dr : Nat} (hd : dr + 8 ≤ d) (hdr : 12 ≤ dr) {N : Nat} {sL : Nat → Int32 → Int64 → Int64 → eH → Option (Int32 × eH)} (hsL : ∀ a t0 t1 t2 h q, sL a t0 t1 t2 h = some q → wm w dr YX35_layBox [.ref a, .int t0, .long t1, .long t2] h (e_is (e_rn c_I q))) {this : Nat} {p0 : Int32} {p1 : Int32} {p2 : Int32} {p3 : Int32} {p4 : Int32} {p5 : Int32} {p6 : Int32} {h : eH} {q} (hf : fX35_outer N sL this p0 p1 p2 p3 p4 p5 p6 h = some q) : wm w d YX35_outer [.ref this, .int p0, .int p1, .int p2, .int p3, .int p4, .int p5, .int p6] h (e_is (e_rn c_V q)) := by
  obtain ⟨d, rfl⟩ : ∃ e, d = e + 1 := ⟨d - 1, by omega⟩
  show wp w (d + 1) YX35_outer 0 [some (.ref this), some (.int p0), some (.int p1), some (.int p2), some (.int p3), some (.int p4), some (.int p5), some (.int p6)] [] h _
  unfold fX35_outer at hf
  refine w_aload_n dX35_outer_0 rfl rfl ?_
  obtain ⟨x1, b2, hf⟩ := Option.bind_eq_some_iff.mp hf
  refine GX35_321 b2 dX35_outer_1 rfl ?_
  refine w_if_le 8 dX35_outer_4 (by decide) (fun c3 => ?_) (fun c3 => ?_)
  · replace hf := (if_pos (show x1 ≤ 0 from c3)).symm.trans hf
    refine w_aload_n dX35_outer_8 rfl rfl ?_
    obtain ⟨x4, b5, hf⟩ := Option.bind_eq_some_iff.mp hf
    refine GX35_376 b5 dX35_outer_9 rfl ?_
    refine w_sipush dX35_outer_12 (v := 10000) (by decide) ?_
    refine w_icmp_ne 24 dX35_outer_15 (by decide) (fun c6 => ?_) (fun c6 => ?_)
    · replace hf := (if_pos (show ¬ x4 = (10000 : Int32) from c6)).symm.trans hf
      refine w_aload_n dX35_outer_24 rfl rfl ?_
      obtain ⟨a7, b8, hf⟩ := Option.bind_eq_some_iff.mp hf
      refine GX35_195 b8 dX35_outer_25 rfl ?_
      refine w_aload_n dX35_outer_28 rfl rfl ?_
      obtain ⟨x9, b10, hf⟩ := Option.bind_eq_some_iff.mp hf
      refine GX35_376 b10 dX35_outer_29 rfl ?_
      refine w_iload_n dX35_outer_32 rfl rfl ?_
      obtain ⟨h11, b12, hf⟩ := Option.bind_eq_some_iff.mp hf
      refine x_qI b12 dX35_outer_33 ?_
      refine w_aload_n dX35_outer_34 rfl rfl ?_
      obtain ⟨a13, b14, hf⟩ := Option.bind_eq_some_iff.mp hf
      refine GX35_198 b14 dX35_outer_35 rfl ?_
      refine w_aload_n dX35_outer_38 rfl rfl ?_
      obtain ⟨x15, b16, hf⟩ := Option.bind_eq_some_iff.mp hf
      refine GX35_376 b16 dX35_outer_39 rfl ?_
      refine w_iload_n dX35_outer_42 rfl rfl ?_
      obtain ⟨h17, b18, hf⟩ := Option.bind_eq_some_iff.mp hf
      refine x_qI b18 dX35_outer_43 ?_
      refine w_aload_n dX35_outer_44 rfl rfl ?_
      obtain ⟨a19, b20, hf⟩ := Option.bind_eq_some_iff.mp hf
      refine GX35_201 b20 dX35_outer_45 rfl ?_
      refine w_aload_n dX35_outer_48 rfl rfl ?_
      obtain ⟨x21, b22, hf⟩ := Option.bind_eq_some_iff.mp hf
      refine GX35_376 b22 dX35_outer_49 rfl ?_
      refine w_iload_n dX35_outer_52 rfl rfl ?_
      obtain ⟨h23, b24, hf⟩ := Option.bind_eq_some_iff.mp hf
      refine x_qI b24 dX35_outer_53 ?_
      refine w_aload_n dX35_outer_54 rfl rfl ?_
      obtain ⟨a25, b26, hf⟩ := Option.bind_eq_some_iff.mp hf
      refine GX35_204 b26 dX35_outer_55 rfl ?_
      refine w_aload_n dX35_outer_58 rfl rfl ?_
      obtain ⟨x27, b28, hf⟩ := Option.bind_eq_some_iff.mp hf
      refine GX35_376 b28 dX35_outer_59 rfl ?_
      refine w_iload dX35_outer_62 rfl ?_
      obtain ⟨h29, b30, hf⟩ := Option.bind_eq_some_iff.mp hf
      refine x_qI b30 dX35_outer_64 ?_
      refine w_aload_n dX35_outer_65 rfl rfl ?_
      obtain ⟨a31, b32, hf⟩ := Option.bind_eq_some_iff.mp hf
      refine GX35_207 b32 dX35_outer_66 rfl ?_
      refine w_aload_n dX35_outer_69 rfl rfl ?_
      obtain ⟨x33, b34, hf⟩ := Option.bind_eq_some_iff.mp hf
      refine GX35_376 b34 dX35_outer_70 rfl ?_
      refine w_iload dX35_outer_73 rfl ?_
      obtain ⟨h35, b36, hf⟩ := Option.bind_eq_some_iff.mp hf
      refine x_qI b36 dX35_outer_75 ?_
      refine w_aload_n dX35_outer_76 rfl rfl ?_
      obtain ⟨a37, b38, hf⟩ := Option.bind_eq_some_iff.mp hf
      refine GX35_210 b38 dX35_outer_77 rfl ?_
      refine w_aload_n dX35_outer_80 rfl rfl ?_
      obtain ⟨x39, b40, hf⟩ := Option.bind_eq_some_iff.mp hf
      refine GX35_376 b40 dX35_outer_81 rfl ?_
      refine w_iload dX35_outer_84 rfl ?_
      obtain ⟨h41, b42, hf⟩ := Option.bind_eq_some_iff.mp hf
      refine x_qI b42 dX35_outer_86 ?_
      refine w_aload_n dX35_outer_87 rfl rfl ?_
      obtain ⟨a43, b44, hf⟩ := Option.bind_eq_some_iff.mp hf
      refine GX35_213 b44 dX35_outer_88 rfl ?_
      refine w_aload_n dX35_outer_91 rfl rfl ?_
      obtain ⟨x45, b46, hf⟩ := Option.bind_eq_some_iff.mp hf
      refine GX35_376 b46 dX35_outer_92 rfl ?_
      refine w_iload dX35_outer_95 rfl ?_
      obtain ⟨h47, b48, hf⟩ := Option.bind_eq_some_iff.mp hf
      refine x_qI b48 dX35_outer_97 ?_
      refine w_aload_n dX35_outer_98 rfl rfl ?_
      refine w_dup dX35_outer_99 rfl ?_
      obtain ⟨x49, b50, hf⟩ := Option.bind_eq_some_iff.mp hf
      refine GX35_376 b50 dX35_outer_100 rfl ?_
      refine w_iconst dX35_outer_103 (v := 1) (by decide) ?_
      refine w_iadd dX35_outer_104 ?_
      obtain ⟨h51, b52, hf⟩ := Option.bind_eq_some_iff.mp hf
      refine SX35_376 b52 dX35_outer_105 rfl ?_
      refine w_aload_n dX35_outer_108 rfl rfl ?_
      obtain ⟨_, b53, hf⟩ := Option.bind_eq_some_iff.mp hf
      refine x_cnV hf (e_stV (Yc := YX35_goOn) (ci := 34) (av := []) (st := []) dX35_outer_109 q5469 mX35_goOn rfl (k_ok_some b53).1 (k_ok_some b53).2) mX35_goOn.2.2.1 mX35_goOn.2.2.2.2.1 (Nat.le_of_ble_eq_true rfl) (Nat.le_of_ble_eq_true rfl) (fun q hq => pX35_goOn (by omega) hdr hsL hq) (fun q54 hf => ?_)
      cases hf
      exact w_vret dX35_outer_112 rfl rfl
    · replace hf := (if_neg (show ¬ (¬ x4 = (10000 : Int32)) from (fun z => z c6))).symm.trans hf
      refine w_aload_n dX35_outer_18 rfl rfl ?_
      refine w_iconst dX35_outer_19 (v := 2) (by decide) ?_
      obtain ⟨_, b55, hf⟩ := Option.bind_eq_some_iff.mp hf
      refine x_cnV hf (e_stV (Yc := YX35_fail) (ci := 34) (av := [.int (2 : Int32)]) (st := []) dX35_outer_20 q5109 mX35_fail rfl (k_ok_some b55).1 (k_ok_some b55).2) mX35_fail.2.2.1 mX35_fail.2.2.2.2.1 (Nat.le_of_ble_eq_true rfl) (Nat.le_of_ble_eq_true rfl) (fun q hq => pX35_fail (by omega) hq) (fun q56 hf => ?_)
      cases hf
      exact w_vret dX35_outer_23 rfl rfl
  · replace hf := (if_neg (show ¬ (x1 ≤ 0) from c3)).symm.trans hf
    cases hf
    exact w_vret dX35_outer_7 rfl rfl
abbrev cX35_wider : ByteArray := prog_37_method_105_code
def yX35_wider : MethodName := ⟨RX35, "wider", "([I)[I"⟩
def YX35_wider : eY := (yX35_wider, cX35_wider, 3, (Option.some (FieldType.array FieldType.int)), [])
theorem mX35_wider : e_ms YX35_wider 1 := ⟨q5648, q466, q5649, by decide, by decide +kernel, (e_sig (by decide +kernel))⟩
theorem dX35_wider_0 : decode cX35_wider 0 = .ok (.iconst 2, 1) := dc_5 (by decide +kernel)
theorem dX35_wider_1 : decode cX35_wider 1 = .ok (.aload_n 0, 1) := dc_42 (by decide +kernel)
theorem dX35_wider_2 : decode cX35_wider 2 = .ok (.arraylength, 1) := dc_190 (by decide +kernel)
theorem dX35_wider_3 : decode cX35_wider 3 = .ok (.imul, 1) := dc_104 (by decide +kernel)
theorem dX35_wider_4 : decode cX35_wider 4 = .ok (.newarray .int, 2) := dc_188_10 (by decide +kernel)
theorem dX35_wider_6 : decode cX35_wider 6 = .ok (.astore_n 1, 1) := dc_76 (by decide +kernel)
theorem dX35_wider_7 : decode cX35_wider 7 = .ok (.iconst 0, 1) := dc_3 (by decide +kernel)
theorem dX35_wider_8 : decode cX35_wider 8 = .ok (.istore_n 2, 1) := dc_61 (by decide +kernel)
theorem dX35_wider_9 : decode cX35_wider 9 = .ok (.iload_n 2, 1) := dc_28 (by decide +kernel)
theorem dX35_wider_10 : decode cX35_wider 10 = .ok (.aload_n 0, 1) := dc_42 (by decide +kernel)
theorem dX35_wider_11 : decode cX35_wider 11 = .ok (.arraylength, 1) := dc_190 (by decide +kernel)
theorem dX35_wider_12 : decode cX35_wider 12 = .ok (.if_icmp .ge 15, 3) := dc_162 (a := 0) (b := 15) (v := 15) (by decide +kernel)
theorem dX35_wider_15 : decode cX35_wider 15 = .ok (.aload_n 1, 1) := dc_43 (by decide +kernel)
theorem dX35_wider_16 : decode cX35_wider 16 = .ok (.iload_n 2, 1) := dc_28 (by decide +kernel)
theorem dX35_wider_17 : decode cX35_wider 17 = .ok (.aload_n 0, 1) := dc_42 (by decide +kernel)
theorem dX35_wider_18 : decode cX35_wider 18 = .ok (.iload_n 2, 1) := dc_28 (by decide +kernel)
theorem dX35_wider_19 : decode cX35_wider 19 = .ok (.iaload, 1) := dc_46 (by decide +kernel)
theorem dX35_wider_20 : decode cX35_wider 20 = .ok (.iastore, 1) := dc_79 (by decide +kernel)
theorem dX35_wider_21 : decode cX35_wider 21 = .ok (.iinc 2 1, 3) := dc_132 (a := 2) (b := 1) (v := 1) (by decide +kernel)
theorem dX35_wider_24 : decode cX35_wider 24 = .ok (.goto (-15), 3) := dc_167 (a := 255) (b := 241) (v := -15) (by decide +kernel)
theorem dX35_wider_27 : decode cX35_wider 27 = .ok (.aload_n 1, 1) := dc_43 (by decide +kernel)
theorem dX35_wider_28 : decode cX35_wider 28 = .ok (.areturn, 1) := dc_176 (by decide +kernel)
def fX35_wider_b9 (N : Nat) : Nat → Nat → Nat → Int32 → eH → Option (Nat × eH)
  | 0, _, _, _, _ => none
  | n + 1, l0, l1, l2, h =>
    (a_len h l0).bind fun x1 =>
    if x1 ≤ l2 then
      some (l1, h)
    else
      (r_I 100 h l0 l2).bind fun x4 =>
      (q_V 100 h l1 l2 (.int x4)).bind fun h6 =>
      fX35_wider_b9 N n l0 l1 (l2 + (1 : Int32)) h6
theorem pX35_wider_b9 {w : eW} {d : Nat} (hd : 0 ≤ d) {N : Nat} : ∀ (n : Nat) l0 l1 l2 h q, fX35_wider_b9 N n l0 l1 l2 h = some q → wp w d YX35_wider 9 [some (.ref l0), some (.ref l1), some (.int l2)] [] h (e_is (e_rn c_A q)) := by
  intro n
  induction n with
  | zero => intro l0 l1 l2 h q hf; simp [fX35_wider_b9] at hf
  | succ n ih =>
    intro l0 l1 l2 h q hf
    rw [fX35_wider_b9] at hf
    refine w_iload_n dX35_wider_9 rfl rfl ?_
    refine w_aload_n dX35_wider_10 rfl rfl ?_
    obtain ⟨x1, b2, hf⟩ := Option.bind_eq_some_iff.mp hf
    refine x_len b2 dX35_wider_11 ?_
    refine w_icmp_ge 27 dX35_wider_12 (by decide) (fun c3 => ?_) (fun c3 => ?_)
    · replace hf := (if_pos (show x1 ≤ l2 from c3)).symm.trans hf
      refine w_aload_n dX35_wider_27 rfl rfl ?_
      cases hf
      exact w_aret dX35_wider_28 rfl (Or.inr ⟨_, rfl⟩) (Or.inr ⟨_, rfl⟩) rfl
    · replace hf := (if_neg (show ¬ (x1 ≤ l2) from c3)).symm.trans hf
      refine w_aload_n dX35_wider_15 rfl rfl ?_
      refine w_iload_n dX35_wider_16 rfl rfl ?_
      refine w_aload_n dX35_wider_17 rfl rfl ?_
      refine w_iload_n dX35_wider_18 rfl rfl ?_
      obtain ⟨x4, b5, hf⟩ := Option.bind_eq_some_iff.mp hf
      refine x_rI b5 dX35_wider_19 ?_
      obtain ⟨h6, b7, hf⟩ := Option.bind_eq_some_iff.mp hf
      refine x_qI b7 dX35_wider_20 ?_
      refine w_iinc dX35_wider_21 (v := (l2 + (1 : Int32))) rfl rfl (by decide) (ls' := [some (.ref l0), some (.ref l1), some (.int (l2 + (1 : Int32)))]) rfl ?_
      refine w_goto 9 dX35_wider_24 (by decide) ?_
      exact (ih _ _ _ _ _ hf).to ⟨rfl, rfl, rfl, trivial⟩
def fX35_wider (N : Nat) (p0 : Nat) (h : eH) : Option (Nat × eH) :=
  (a_len h p0).bind fun x1 =>
  (n_arr 100 321 (.int 0) h ((2 : Int32) * x1)).bind fun q3 =>
  fX35_wider_b9 N N p0 q3.1 (0 : Int32) q3.2
theorem pX35_wider {w : eW} {d : Nat} (hd : 0 ≤ d) {N : Nat} {p0 : Nat} {h : eH} {q} (hf : fX35_wider N p0 h = some q) : wm w d YX35_wider [.ref p0] h (e_is (e_rn c_A q)) := by
  show wp w d YX35_wider 0 [some (.ref p0), none, none] [] h _
  unfold fX35_wider at hf
  refine w_iconst dX35_wider_0 (v := 2) (by decide) ?_
  refine w_aload_n dX35_wider_1 rfl rfl ?_
  obtain ⟨x1, b2, hf⟩ := Option.bind_eq_some_iff.mp hf
  refine x_len b2 dX35_wider_2 ?_
  refine w_imul dX35_wider_3 ?_
  obtain ⟨q3, b4, hf⟩ := Option.bind_eq_some_iff.mp hf
  refine x_newI (g := 321) b4 dX35_wider_4 q582 ?_
  refine w_astore_n dX35_wider_6 rfl (by decide) (ls' := [some (.ref p0), some (.ref q3.1), none]) rfl ?_
  refine w_iconst dX35_wider_7 (v := 0) (by decide) ?_
  refine w_istore_n dX35_wider_8 rfl (by decide) (ls' := [some (.ref p0), some (.ref q3.1), some (.int (0 : Int32))]) rfl ?_
  exact (pX35_wider_b9 hd N _ _ _ _ _ hf).to ⟨rfl, rfl, rfl, trivial⟩
abbrev cX35_item : ByteArray := prog_37_method_106_code
def yX35_item : MethodName := ⟨RX35, "item", "(IIIIII)V"⟩
def YX35_item : eY := (yX35_item, cX35_item, 7, none, [])
theorem mX35_item : e_mv YX35_item RX35 6 := ⟨q5645, qs347, q5646, by decide, by decide +kernel, (e_sig (by decide +kernel))⟩
theorem dX35_item_0 : decode cX35_item 0 = .ok (.aload_n 0, 1) := dc_42 (by decide +kernel)
theorem dX35_item_1 : decode cX35_item 1 = .ok (.getfield 370, 3) := dc_180 (a := 1) (b := 114) (n := 370) (by decide +kernel)
theorem dX35_item_4 : decode cX35_item 4 = .ok (.sipush 20000, 3) := dc_17 (a := 78) (b := 32) (v := 20000) (by decide +kernel)
theorem dX35_item_7 : decode cX35_item 7 = .ok (.if_icmp .ne 8, 3) := dc_160 (a := 0) (b := 8) (v := 8) (by decide +kernel)
theorem dX35_item_10 : decode cX35_item 10 = .ok (.aload_n 0, 1) := dc_42 (by decide +kernel)
theorem dX35_item_11 : decode cX35_item 11 = .ok (.iconst 2, 1) := dc_5 (by decide +kernel)
theorem dX35_item_12 : decode cX35_item 12 = .ok (.invokevirtual 428, 3) := dc_182 (a := 1) (b := 172) (n := 428) (by decide +kernel)
theorem dX35_item_15 : decode cX35_item 15 = .ok (.aload_n 0, 1) := dc_42 (by decide +kernel)
theorem dX35_item_16 : decode cX35_item 16 = .ok (.getfield 321, 3) := dc_180 (a := 1) (b := 65) (n := 321) (by decide +kernel)
theorem dX35_item_19 : decode cX35_item 19 = .ok (.ifCond .le 4, 3) := dc_158 (a := 0) (b := 4) (v := 4) (by decide +kernel)
theorem dX35_item_22 : decode cX35_item 22 = .ok (.return_, 1) := dc_177 (by decide +kernel)
theorem dX35_item_23 : decode cX35_item 23 = .ok (.bipush 6, 2) := dc_16 (a := 6) (v := 6) (by decide +kernel)
theorem dX35_item_25 : decode cX35_item 25 = .ok (.aload_n 0, 1) := dc_42 (by decide +kernel)
theorem dX35_item_26 : decode cX35_item 26 = .ok (.getfield 370, 3) := dc_180 (a := 1) (b := 114) (n := 370) (by decide +kernel)
theorem dX35_item_29 : decode cX35_item 29 = .ok (.imul, 1) := dc_104 (by decide +kernel)
theorem dX35_item_30 : decode cX35_item 30 = .ok (.bipush 6, 2) := dc_16 (a := 6) (v := 6) (by decide +kernel)
theorem dX35_item_32 : decode cX35_item 32 = .ok (.iadd, 1) := dc_96 (by decide +kernel)
theorem dX35_item_33 : decode cX35_item 33 = .ok (.aload_n 0, 1) := dc_42 (by decide +kernel)
theorem dX35_item_34 : decode cX35_item 34 = .ok (.getfield 136, 3) := dc_180 (a := 0) (b := 136) (n := 136) (by decide +kernel)
theorem dX35_item_37 : decode cX35_item 37 = .ok (.arraylength, 1) := dc_190 (by decide +kernel)
theorem dX35_item_38 : decode cX35_item 38 = .ok (.if_icmp .le 14, 3) := dc_164 (a := 0) (b := 14) (v := 14) (by decide +kernel)
theorem dX35_item_41 : decode cX35_item 41 = .ok (.aload_n 0, 1) := dc_42 (by decide +kernel)
theorem dX35_item_42 : decode cX35_item 42 = .ok (.aload_n 0, 1) := dc_42 (by decide +kernel)
theorem dX35_item_43 : decode cX35_item 43 = .ok (.getfield 136, 3) := dc_180 (a := 0) (b := 136) (n := 136) (by decide +kernel)
theorem dX35_item_46 : decode cX35_item 46 = .ok (.invokestatic 790, 3) := dc_184 (a := 3) (b := 22) (n := 790) (by decide +kernel)
theorem dX35_item_49 : decode cX35_item 49 = .ok (.putfield 136, 3) := dc_181 (a := 0) (b := 136) (n := 136) (by decide +kernel)
theorem dX35_item_52 : decode cX35_item 52 = .ok (.aload_n 0, 1) := dc_42 (by decide +kernel)
theorem dX35_item_53 : decode cX35_item 53 = .ok (.getfield 136, 3) := dc_180 (a := 0) (b := 136) (n := 136) (by decide +kernel)
theorem dX35_item_56 : decode cX35_item 56 = .ok (.bipush 6, 2) := dc_16 (a := 6) (v := 6) (by decide +kernel)
theorem dX35_item_58 : decode cX35_item 58 = .ok (.aload_n 0, 1) := dc_42 (by decide +kernel)
theorem dX35_item_59 : decode cX35_item 59 = .ok (.getfield 370, 3) := dc_180 (a := 1) (b := 114) (n := 370) (by decide +kernel)
theorem dX35_item_62 : decode cX35_item 62 = .ok (.imul, 1) := dc_104 (by decide +kernel)
theorem dX35_item_63 : decode cX35_item 63 = .ok (.iload_n 1, 1) := dc_27 (by decide +kernel)
theorem dX35_item_64 : decode cX35_item 64 = .ok (.iastore, 1) := dc_79 (by decide +kernel)
theorem dX35_item_65 : decode cX35_item 65 = .ok (.aload_n 0, 1) := dc_42 (by decide +kernel)
theorem dX35_item_66 : decode cX35_item 66 = .ok (.getfield 136, 3) := dc_180 (a := 0) (b := 136) (n := 136) (by decide +kernel)
theorem dX35_item_69 : decode cX35_item 69 = .ok (.bipush 6, 2) := dc_16 (a := 6) (v := 6) (by decide +kernel)
theorem dX35_item_71 : decode cX35_item 71 = .ok (.aload_n 0, 1) := dc_42 (by decide +kernel)
theorem dX35_item_72 : decode cX35_item 72 = .ok (.getfield 370, 3) := dc_180 (a := 1) (b := 114) (n := 370) (by decide +kernel)
theorem dX35_item_75 : decode cX35_item 75 = .ok (.imul, 1) := dc_104 (by decide +kernel)
theorem dX35_item_76 : decode cX35_item 76 = .ok (.iconst 1, 1) := dc_4 (by decide +kernel)
theorem dX35_item_77 : decode cX35_item 77 = .ok (.iadd, 1) := dc_96 (by decide +kernel)
theorem dX35_item_78 : decode cX35_item 78 = .ok (.iload_n 2, 1) := dc_28 (by decide +kernel)
theorem dX35_item_79 : decode cX35_item 79 = .ok (.iastore, 1) := dc_79 (by decide +kernel)
theorem dX35_item_80 : decode cX35_item 80 = .ok (.aload_n 0, 1) := dc_42 (by decide +kernel)
theorem dX35_item_81 : decode cX35_item 81 = .ok (.getfield 136, 3) := dc_180 (a := 0) (b := 136) (n := 136) (by decide +kernel)
theorem dX35_item_84 : decode cX35_item 84 = .ok (.bipush 6, 2) := dc_16 (a := 6) (v := 6) (by decide +kernel)
theorem dX35_item_86 : decode cX35_item 86 = .ok (.aload_n 0, 1) := dc_42 (by decide +kernel)
theorem dX35_item_87 : decode cX35_item 87 = .ok (.getfield 370, 3) := dc_180 (a := 1) (b := 114) (n := 370) (by decide +kernel)
theorem dX35_item_90 : decode cX35_item 90 = .ok (.imul, 1) := dc_104 (by decide +kernel)
theorem dX35_item_91 : decode cX35_item 91 = .ok (.iconst 2, 1) := dc_5 (by decide +kernel)
theorem dX35_item_92 : decode cX35_item 92 = .ok (.iadd, 1) := dc_96 (by decide +kernel)
theorem dX35_item_93 : decode cX35_item 93 = .ok (.iload_n 3, 1) := dc_29 (by decide +kernel)
theorem dX35_item_94 : decode cX35_item 94 = .ok (.iastore, 1) := dc_79 (by decide +kernel)
theorem dX35_item_95 : decode cX35_item 95 = .ok (.aload_n 0, 1) := dc_42 (by decide +kernel)
theorem dX35_item_96 : decode cX35_item 96 = .ok (.getfield 136, 3) := dc_180 (a := 0) (b := 136) (n := 136) (by decide +kernel)
theorem dX35_item_99 : decode cX35_item 99 = .ok (.bipush 6, 2) := dc_16 (a := 6) (v := 6) (by decide +kernel)
theorem dX35_item_101 : decode cX35_item 101 = .ok (.aload_n 0, 1) := dc_42 (by decide +kernel)
theorem dX35_item_102 : decode cX35_item 102 = .ok (.getfield 370, 3) := dc_180 (a := 1) (b := 114) (n := 370) (by decide +kernel)
theorem dX35_item_105 : decode cX35_item 105 = .ok (.imul, 1) := dc_104 (by decide +kernel)
theorem dX35_item_106 : decode cX35_item 106 = .ok (.iconst 3, 1) := dc_6 (by decide +kernel)
theorem dX35_item_107 : decode cX35_item 107 = .ok (.iadd, 1) := dc_96 (by decide +kernel)
theorem dX35_item_108 : decode cX35_item 108 = .ok (.iload 4, 2) := dc_21 (a := 4) (by decide +kernel)
theorem dX35_item_110 : decode cX35_item 110 = .ok (.iastore, 1) := dc_79 (by decide +kernel)
theorem dX35_item_111 : decode cX35_item 111 = .ok (.aload_n 0, 1) := dc_42 (by decide +kernel)
theorem dX35_item_112 : decode cX35_item 112 = .ok (.getfield 136, 3) := dc_180 (a := 0) (b := 136) (n := 136) (by decide +kernel)
theorem dX35_item_115 : decode cX35_item 115 = .ok (.bipush 6, 2) := dc_16 (a := 6) (v := 6) (by decide +kernel)
theorem dX35_item_117 : decode cX35_item 117 = .ok (.aload_n 0, 1) := dc_42 (by decide +kernel)
theorem dX35_item_118 : decode cX35_item 118 = .ok (.getfield 370, 3) := dc_180 (a := 1) (b := 114) (n := 370) (by decide +kernel)
theorem dX35_item_121 : decode cX35_item 121 = .ok (.imul, 1) := dc_104 (by decide +kernel)
theorem dX35_item_122 : decode cX35_item 122 = .ok (.iconst 4, 1) := dc_7 (by decide +kernel)
theorem dX35_item_123 : decode cX35_item 123 = .ok (.iadd, 1) := dc_96 (by decide +kernel)
theorem dX35_item_124 : decode cX35_item 124 = .ok (.iload 5, 2) := dc_21 (a := 5) (by decide +kernel)
theorem dX35_item_126 : decode cX35_item 126 = .ok (.iastore, 1) := dc_79 (by decide +kernel)
theorem dX35_item_127 : decode cX35_item 127 = .ok (.aload_n 0, 1) := dc_42 (by decide +kernel)
theorem dX35_item_128 : decode cX35_item 128 = .ok (.getfield 136, 3) := dc_180 (a := 0) (b := 136) (n := 136) (by decide +kernel)
theorem dX35_item_131 : decode cX35_item 131 = .ok (.bipush 6, 2) := dc_16 (a := 6) (v := 6) (by decide +kernel)
theorem dX35_item_133 : decode cX35_item 133 = .ok (.aload_n 0, 1) := dc_42 (by decide +kernel)
theorem dX35_item_134 : decode cX35_item 134 = .ok (.getfield 370, 3) := dc_180 (a := 1) (b := 114) (n := 370) (by decide +kernel)
theorem dX35_item_137 : decode cX35_item 137 = .ok (.imul, 1) := dc_104 (by decide +kernel)
theorem dX35_item_138 : decode cX35_item 138 = .ok (.iconst 5, 1) := dc_8 (by decide +kernel)
theorem dX35_item_139 : decode cX35_item 139 = .ok (.iadd, 1) := dc_96 (by decide +kernel)
theorem dX35_item_140 : decode cX35_item 140 = .ok (.iload 6, 2) := dc_21 (a := 6) (by decide +kernel)
theorem dX35_item_142 : decode cX35_item 142 = .ok (.iastore, 1) := dc_79 (by decide +kernel)
theorem dX35_item_143 : decode cX35_item 143 = .ok (.aload_n 0, 1) := dc_42 (by decide +kernel)
theorem dX35_item_144 : decode cX35_item 144 = .ok (.dup, 1) := dc_89 (by decide +kernel)
theorem dX35_item_145 : decode cX35_item 145 = .ok (.getfield 370, 3) := dc_180 (a := 1) (b := 114) (n := 370) (by decide +kernel)
theorem dX35_item_148 : decode cX35_item 148 = .ok (.iconst 1, 1) := dc_4 (by decide +kernel)
theorem dX35_item_149 : decode cX35_item 149 = .ok (.iadd, 1) := dc_96 (by decide +kernel)
theorem dX35_item_150 : decode cX35_item 150 = .ok (.putfield 370, 3) := dc_181 (a := 1) (b := 114) (n := 370) (by decide +kernel)
theorem dX35_item_153 : decode cX35_item 153 = .ok (.return_, 1) := dc_177 (by decide +kernel)
theorem GX35_136 {w : eW} {d : Nat} {Y : eY} {pc : Nat} {ls : eL} {st : List Value} {h : eH} {Q : eO → eH → Prop} {a : Nat} {x : Nat} (hf : g_A 34 h a 55 = some x) (hd : decode Y.2.1 pc = .ok (.getfield 136, 3)) (hY : Y.1.cls = RX35) (kk : wp w d Y (pc + 3) ls (.ref x :: st) h Q) : wp w d Y pc ls (.ref a :: st) h Q := x_gA (ci := 34) (k := 55) hf hd rfl (by decide) (by rw [hY]; exact q4557) kk
theorem GX35_370 {w : eW} {d : Nat} {Y : eY} {pc : Nat} {ls : eL} {st : List Value} {h : eH} {Q : eO → eH → Prop} {a : Nat} {x : Int32} (hf : g_I 34 h a 56 = some x) (hd : decode Y.2.1 pc = .ok (.getfield 370, 3)) (hY : Y.1.cls = RX35) (kk : wp w d Y (pc + 3) ls (.int x :: st) h Q) : wp w d Y pc ls (.ref a :: st) h Q := x_gI (ci := 34) (k := 56) hf hd rfl (by decide) (by rw [hY]; exact q4558) kk
def fX35_item_b52 (N : Nat) (l0 : Nat) (l1 : Int32) (l2 : Int32) (l3 : Int32) (l4 : Int32) (l5 : Int32) (l6 : Int32) (h : eH) : Option (Unit × eH) :=
  (g_A 34 h l0 55).bind fun a1 =>
  (g_I 34 h l0 56).bind fun x3 =>
  (q_V 100 h a1 ((6 : Int32) * x3) (.int l1)).bind fun h5 =>
  (g_A 34 h5 l0 55).bind fun a7 =>
  (g_I 34 h5 l0 56).bind fun x9 =>
  (q_V 100 h5 a7 (((6 : Int32) * x9) + (1 : Int32)) (.int l2)).bind fun h11 =>
  (g_A 34 h11 l0 55).bind fun a13 =>
  (g_I 34 h11 l0 56).bind fun x15 =>
  (q_V 100 h11 a13 (((6 : Int32) * x15) + (2 : Int32)) (.int l3)).bind fun h17 =>
  (g_A 34 h17 l0 55).bind fun a19 =>
  (g_I 34 h17 l0 56).bind fun x21 =>
  (q_V 100 h17 a19 (((6 : Int32) * x21) + (3 : Int32)) (.int l4)).bind fun h23 =>
  (g_A 34 h23 l0 55).bind fun a25 =>
  (g_I 34 h23 l0 56).bind fun x27 =>
  (q_V 100 h23 a25 (((6 : Int32) * x27) + (4 : Int32)) (.int l5)).bind fun h29 =>
  (g_A 34 h29 l0 55).bind fun a31 =>
  (g_I 34 h29 l0 56).bind fun x33 =>
  (q_V 100 h29 a31 (((6 : Int32) * x33) + (5 : Int32)) (.int l6)).bind fun h35 =>
  (g_I 34 h35 l0 56).bind fun x37 =>
  (p_V 34 h35 l0 56 (.int (x37 + (1 : Int32)))).bind fun h39 =>
  some ((), h39)
theorem pX35_item_b52 {w : eW} {d : Nat} (hd : 1 ≤ d + 1) {N : Nat} {l0 : Nat} {l1 : Int32} {l2 : Int32} {l3 : Int32} {l4 : Int32} {l5 : Int32} {l6 : Int32} {h : eH} {q} (hf : fX35_item_b52 N l0 l1 l2 l3 l4 l5 l6 h = some q) : wp w (d + 1) YX35_item 52 [some (.ref l0), some (.int l1), some (.int l2), some (.int l3), some (.int l4), some (.int l5), some (.int l6)] [] h (e_is (e_rn c_V q)) := by
  unfold fX35_item_b52 at hf
  refine w_aload_n dX35_item_52 rfl rfl ?_
  obtain ⟨a1, b2, hf⟩ := Option.bind_eq_some_iff.mp hf
  refine GX35_136 b2 dX35_item_53 rfl ?_
  refine w_bipush dX35_item_56 (v := 6) (by decide) ?_
  refine w_aload_n dX35_item_58 rfl rfl ?_
  obtain ⟨x3, b4, hf⟩ := Option.bind_eq_some_iff.mp hf
  refine GX35_370 b4 dX35_item_59 rfl ?_
  refine w_imul dX35_item_62 ?_
  refine w_iload_n dX35_item_63 rfl rfl ?_
  obtain ⟨h5, b6, hf⟩ := Option.bind_eq_some_iff.mp hf
  refine x_qI b6 dX35_item_64 ?_
  refine w_aload_n dX35_item_65 rfl rfl ?_
  obtain ⟨a7, b8, hf⟩ := Option.bind_eq_some_iff.mp hf
  refine GX35_136 b8 dX35_item_66 rfl ?_
  refine w_bipush dX35_item_69 (v := 6) (by decide) ?_
  refine w_aload_n dX35_item_71 rfl rfl ?_
  obtain ⟨x9, b10, hf⟩ := Option.bind_eq_some_iff.mp hf
  refine GX35_370 b10 dX35_item_72 rfl ?_
  refine w_imul dX35_item_75 ?_
  refine w_iconst dX35_item_76 (v := 1) (by decide) ?_
  refine w_iadd dX35_item_77 ?_
  refine w_iload_n dX35_item_78 rfl rfl ?_
  obtain ⟨h11, b12, hf⟩ := Option.bind_eq_some_iff.mp hf
  refine x_qI b12 dX35_item_79 ?_
  refine w_aload_n dX35_item_80 rfl rfl ?_
  obtain ⟨a13, b14, hf⟩ := Option.bind_eq_some_iff.mp hf
  refine GX35_136 b14 dX35_item_81 rfl ?_
  refine w_bipush dX35_item_84 (v := 6) (by decide) ?_
  refine w_aload_n dX35_item_86 rfl rfl ?_
  obtain ⟨x15, b16, hf⟩ := Option.bind_eq_some_iff.mp hf
  refine GX35_370 b16 dX35_item_87 rfl ?_
  refine w_imul dX35_item_90 ?_
  refine w_iconst dX35_item_91 (v := 2) (by decide) ?_
  refine w_iadd dX35_item_92 ?_
  refine w_iload_n dX35_item_93 rfl rfl ?_
  obtain ⟨h17, b18, hf⟩ := Option.bind_eq_some_iff.mp hf
  refine x_qI b18 dX35_item_94 ?_
  refine w_aload_n dX35_item_95 rfl rfl ?_
  obtain ⟨a19, b20, hf⟩ := Option.bind_eq_some_iff.mp hf
  refine GX35_136 b20 dX35_item_96 rfl ?_
  refine w_bipush dX35_item_99 (v := 6) (by decide) ?_
  refine w_aload_n dX35_item_101 rfl rfl ?_
  obtain ⟨x21, b22, hf⟩ := Option.bind_eq_some_iff.mp hf
  refine GX35_370 b22 dX35_item_102 rfl ?_
  refine w_imul dX35_item_105 ?_
  refine w_iconst dX35_item_106 (v := 3) (by decide) ?_
  refine w_iadd dX35_item_107 ?_
  refine w_iload dX35_item_108 rfl ?_
  obtain ⟨h23, b24, hf⟩ := Option.bind_eq_some_iff.mp hf
  refine x_qI b24 dX35_item_110 ?_
  refine w_aload_n dX35_item_111 rfl rfl ?_
  obtain ⟨a25, b26, hf⟩ := Option.bind_eq_some_iff.mp hf
  refine GX35_136 b26 dX35_item_112 rfl ?_
  refine w_bipush dX35_item_115 (v := 6) (by decide) ?_
  refine w_aload_n dX35_item_117 rfl rfl ?_
  obtain ⟨x27, b28, hf⟩ := Option.bind_eq_some_iff.mp hf
  refine GX35_370 b28 dX35_item_118 rfl ?_
  refine w_imul dX35_item_121 ?_
  refine w_iconst dX35_item_122 (v := 4) (by decide) ?_
  refine w_iadd dX35_item_123 ?_
  refine w_iload dX35_item_124 rfl ?_
  obtain ⟨h29, b30, hf⟩ := Option.bind_eq_some_iff.mp hf
  refine x_qI b30 dX35_item_126 ?_
  refine w_aload_n dX35_item_127 rfl rfl ?_
  obtain ⟨a31, b32, hf⟩ := Option.bind_eq_some_iff.mp hf
  refine GX35_136 b32 dX35_item_128 rfl ?_
  refine w_bipush dX35_item_131 (v := 6) (by decide) ?_
  refine w_aload_n dX35_item_133 rfl rfl ?_
  obtain ⟨x33, b34, hf⟩ := Option.bind_eq_some_iff.mp hf
  refine GX35_370 b34 dX35_item_134 rfl ?_
  refine w_imul dX35_item_137 ?_
  refine w_iconst dX35_item_138 (v := 5) (by decide) ?_
  refine w_iadd dX35_item_139 ?_
  refine w_iload dX35_item_140 rfl ?_
  obtain ⟨h35, b36, hf⟩ := Option.bind_eq_some_iff.mp hf
  refine x_qI b36 dX35_item_142 ?_
  refine w_aload_n dX35_item_143 rfl rfl ?_
  refine w_dup dX35_item_144 rfl ?_
  obtain ⟨x37, b38, hf⟩ := Option.bind_eq_some_iff.mp hf
  refine GX35_370 b38 dX35_item_145 rfl ?_
  refine w_iconst dX35_item_148 (v := 1) (by decide) ?_
  refine w_iadd dX35_item_149 ?_
  obtain ⟨h39, b40, hf⟩ := Option.bind_eq_some_iff.mp hf
  refine SX35_370 b40 dX35_item_150 rfl ?_
  cases hf
  exact w_vret dX35_item_153 rfl rfl
def fX35_item_b15 (N : Nat) (l0 : Nat) (l1 : Int32) (l2 : Int32) (l3 : Int32) (l4 : Int32) (l5 : Int32) (l6 : Int32) (h : eH) : Option (Unit × eH) :=
  (g_I 34 h l0 46).bind fun x1 =>
  if x1 ≤ 0 then
    (g_I 34 h l0 56).bind fun x4 =>
    (g_A 34 h l0 55).bind fun a6 =>
    (a_len h a6).bind fun x8 =>
    if (((6 : Int32) * x4) + (6 : Int32)) ≤ x8 then
      fX35_item_b52 N l0 l1 l2 l3 l4 l5 l6 h
    else
      (g_A 34 h l0 55).bind fun a11 =>
      (fX35_wider N a11 h).bind fun q13 =>
      (p_V 34 q13.2 l0 55 (.ref q13.1)).bind fun h14 =>
      fX35_item_b52 N l0 l1 l2 l3 l4 l5 l6 h14
  else
    some ((), h)
theorem pX35_item_b15 {w : eW} {d : Nat} (hd : 1 ≤ d + 1) {N : Nat} {l0 : Nat} {l1 : Int32} {l2 : Int32} {l3 : Int32} {l4 : Int32} {l5 : Int32} {l6 : Int32} {h : eH} {q} (hf : fX35_item_b15 N l0 l1 l2 l3 l4 l5 l6 h = some q) : wp w (d + 1) YX35_item 15 [some (.ref l0), some (.int l1), some (.int l2), some (.int l3), some (.int l4), some (.int l5), some (.int l6)] [] h (e_is (e_rn c_V q)) := by
  unfold fX35_item_b15 at hf
  refine w_aload_n dX35_item_15 rfl rfl ?_
  obtain ⟨x1, b2, hf⟩ := Option.bind_eq_some_iff.mp hf
  refine GX35_321 b2 dX35_item_16 rfl ?_
  refine w_if_le 23 dX35_item_19 (by decide) (fun c3 => ?_) (fun c3 => ?_)
  · replace hf := (if_pos (show x1 ≤ 0 from c3)).symm.trans hf
    refine w_bipush dX35_item_23 (v := 6) (by decide) ?_
    refine w_aload_n dX35_item_25 rfl rfl ?_
    obtain ⟨x4, b5, hf⟩ := Option.bind_eq_some_iff.mp hf
    refine GX35_370 b5 dX35_item_26 rfl ?_
    refine w_imul dX35_item_29 ?_
    refine w_bipush dX35_item_30 (v := 6) (by decide) ?_
    refine w_iadd dX35_item_32 ?_
    refine w_aload_n dX35_item_33 rfl rfl ?_
    obtain ⟨a6, b7, hf⟩ := Option.bind_eq_some_iff.mp hf
    refine GX35_136 b7 dX35_item_34 rfl ?_
    obtain ⟨x8, b9, hf⟩ := Option.bind_eq_some_iff.mp hf
    refine x_len b9 dX35_item_37 ?_
    refine w_icmp_le 52 dX35_item_38 (by decide) (fun c10 => ?_) (fun c10 => ?_)
    · replace hf := (if_pos (show (((6 : Int32) * x4) + (6 : Int32)) ≤ x8 from c10)).symm.trans hf
      exact (pX35_item_b52 hd hf).to ⟨rfl, rfl, rfl, rfl, rfl, rfl, rfl, trivial⟩
    · replace hf := (if_neg (show ¬ ((((6 : Int32) * x4) + (6 : Int32)) ≤ x8) from c10)).symm.trans hf
      refine w_aload_n dX35_item_41 rfl rfl ?_
      refine w_aload_n dX35_item_42 rfl rfl ?_
      obtain ⟨a11, b12, hf⟩ := Option.bind_eq_some_iff.mp hf
      refine GX35_136 b12 dX35_item_43 rfl ?_
      refine x_cnA hf (e_stS (Yc := YX35_wider) (av := [.ref a11]) (st := [.ref l0]) dX35_item_46 q5647 mX35_wider) mX35_wider.2.2.1 mX35_wider.2.2.2.2.1 (Nat.le_of_ble_eq_true rfl) (Nat.le_of_ble_eq_true rfl) (fun q hq => pX35_wider (by omega) hq) (fun q13 hf => ?_)
      obtain ⟨h14, b15, hf⟩ := Option.bind_eq_some_iff.mp hf
      refine SX35_136 b15 dX35_item_49 rfl ?_
      exact (pX35_item_b52 hd hf).to ⟨rfl, rfl, rfl, rfl, rfl, rfl, rfl, trivial⟩
  · replace hf := (if_neg (show ¬ (x1 ≤ 0) from c3)).symm.trans hf
    cases hf
    exact w_vret dX35_item_22 rfl rfl
def fX35_item (N : Nat) (this : Nat) (p0 : Int32) (p1 : Int32) (p2 : Int32) (p3 : Int32) (p4 : Int32) (p5 : Int32) (h : eH) : Option (Unit × eH) :=
  (g_I 34 h this 56).bind fun x1 =>
  if ¬ x1 = (20000 : Int32) then
    fX35_item_b15 N this p0 p1 p2 p3 p4 p5 h
  else
    (k_ok 34 h this).bind fun _ =>
    (fX35_fail this (2 : Int32) h).bind fun q5 =>
    fX35_item_b15 N this p0 p1 p2 p3 p4 p5 q5.2
theorem pX35_item {w : eW} {d : Nat} (hd : 1 ≤ d) {N : Nat} {this : Nat} {p0 : Int32} {p1 : Int32} {p2 : Int32} {p3 : Int32} {p4 : Int32} {p5 : Int32} {h : eH} {q} (hf : fX35_item N this p0 p1 p2 p3 p4 p5 h = some q) : wm w d YX35_item [.ref this, .int p0, .int p1, .int p2, .int p3, .int p4, .int p5] h (e_is (e_rn c_V q)) := by
  obtain ⟨d, rfl⟩ : ∃ e, d = e + 1 := ⟨d - 1, by omega⟩
  show wp w (d + 1) YX35_item 0 [some (.ref this), some (.int p0), some (.int p1), some (.int p2), some (.int p3), some (.int p4), some (.int p5)] [] h _
  unfold fX35_item at hf
  refine w_aload_n dX35_item_0 rfl rfl ?_
  obtain ⟨x1, b2, hf⟩ := Option.bind_eq_some_iff.mp hf
  refine GX35_370 b2 dX35_item_1 rfl ?_
  refine w_sipush dX35_item_4 (v := 20000) (by decide) ?_
  refine w_icmp_ne 15 dX35_item_7 (by decide) (fun c3 => ?_) (fun c3 => ?_)
  · replace hf := (if_pos (show ¬ x1 = (20000 : Int32) from c3)).symm.trans hf
    exact (pX35_item_b15 hd hf).to ⟨rfl, rfl, rfl, rfl, rfl, rfl, rfl, trivial⟩
  · replace hf := (if_neg (show ¬ (¬ x1 = (20000 : Int32)) from (fun z => z c3))).symm.trans hf
    refine w_aload_n dX35_item_10 rfl rfl ?_
    refine w_iconst dX35_item_11 (v := 2) (by decide) ?_
    obtain ⟨_, b4, hf⟩ := Option.bind_eq_some_iff.mp hf
    refine x_cnV hf (e_stV (Yc := YX35_fail) (ci := 34) (av := [.int (2 : Int32)]) (st := []) dX35_item_12 q5109 mX35_fail rfl (k_ok_some b4).1 (k_ok_some b4).2) mX35_fail.2.2.1 mX35_fail.2.2.2.2.1 (Nat.le_of_ble_eq_true rfl) (Nat.le_of_ble_eq_true rfl) (fun q hq => pX35_fail (by omega) hq) (fun q5 hf => ?_)
    exact (pX35_item_b15 hd hf).to ⟨rfl, rfl, rfl, rfl, rfl, rfl, rfl, trivial⟩
abbrev cX35_glueItem : ByteArray := prog_37_method_108_code
def yX35_glueItem : MethodName := ⟨RX35, "glueItem", "(IIII)V"⟩
def YX35_glueItem : eY := (yX35_glueItem, cX35_glueItem, 5, none, [])
theorem mX35_glueItem : e_mv YX35_glueItem RX35 4 := ⟨q5463, qs312, q5464, by decide, by decide +kernel, (e_sig (by decide +kernel))⟩
theorem dX35_glueItem_0 : decode cX35_glueItem 0 = .ok (.aload_n 0, 1) := dc_42 (by decide +kernel)
theorem dX35_glueItem_1 : decode cX35_glueItem 1 = .ok (.invokevirtual 587, 3) := dc_182 (a := 2) (b := 75) (n := 587) (by decide +kernel)
theorem dX35_glueItem_4 : decode cX35_glueItem 4 = .ok (.ifCond .ne 18, 3) := dc_154 (a := 0) (b := 18) (v := 18) (by decide +kernel)
theorem dX35_glueItem_7 : decode cX35_glueItem 7 = .ok (.aload_n 0, 1) := dc_42 (by decide +kernel)
theorem dX35_glueItem_8 : decode cX35_glueItem 8 = .ok (.iconst 2, 1) := dc_5 (by decide +kernel)
theorem dX35_glueItem_9 : decode cX35_glueItem 9 = .ok (.iload_n 1, 1) := dc_27 (by decide +kernel)
theorem dX35_glueItem_10 : decode cX35_glueItem 10 = .ok (.iload_n 2, 1) := dc_28 (by decide +kernel)
theorem dX35_glueItem_11 : decode cX35_glueItem 11 = .ok (.iload 4, 2) := dc_21 (a := 4) (by decide +kernel)
theorem dX35_glueItem_13 : decode cX35_glueItem 13 = .ok (.iload_n 3, 1) := dc_29 (by decide +kernel)
theorem dX35_glueItem_14 : decode cX35_glueItem 14 = .ok (.iconst (-1), 1) := dc_2 (by decide +kernel)
theorem dX35_glueItem_15 : decode cX35_glueItem 15 = .ok (.iconst 0, 1) := dc_3 (by decide +kernel)
theorem dX35_glueItem_16 : decode cX35_glueItem 16 = .ok (.invokevirtual 794, 3) := dc_182 (a := 3) (b := 26) (n := 794) (by decide +kernel)
theorem dX35_glueItem_19 : decode cX35_glueItem 19 = .ok (.goto 22, 3) := dc_167 (a := 0) (b := 22) (v := 22) (by decide +kernel)
theorem dX35_glueItem_22 : decode cX35_glueItem 22 = .ok (.aload_n 0, 1) := dc_42 (by decide +kernel)
theorem dX35_glueItem_23 : decode cX35_glueItem 23 = .ok (.iconst 2, 1) := dc_5 (by decide +kernel)
theorem dX35_glueItem_24 : decode cX35_glueItem 24 = .ok (.iload_n 1, 1) := dc_27 (by decide +kernel)
theorem dX35_glueItem_25 : decode cX35_glueItem 25 = .ok (.iload_n 2, 1) := dc_28 (by decide +kernel)
theorem dX35_glueItem_26 : decode cX35_glueItem 26 = .ok (.iload_n 2, 1) := dc_28 (by decide +kernel)
theorem dX35_glueItem_27 : decode cX35_glueItem 27 = .ok (.ifCond .ne 7, 3) := dc_154 (a := 0) (b := 7) (v := 7) (by decide +kernel)
theorem dX35_glueItem_30 : decode cX35_glueItem 30 = .ok (.iconst 0, 1) := dc_3 (by decide +kernel)
theorem dX35_glueItem_31 : decode cX35_glueItem 31 = .ok (.goto 4, 3) := dc_167 (a := 0) (b := 4) (v := 4) (by decide +kernel)
theorem dX35_glueItem_34 : decode cX35_glueItem 34 = .ok (.iload_n 3, 1) := dc_29 (by decide +kernel)
theorem dX35_glueItem_35 : decode cX35_glueItem 35 = .ok (.iload 4, 2) := dc_21 (a := 4) (by decide +kernel)
theorem dX35_glueItem_37 : decode cX35_glueItem 37 = .ok (.iconst 0, 1) := dc_3 (by decide +kernel)
theorem dX35_glueItem_38 : decode cX35_glueItem 38 = .ok (.invokevirtual 798, 3) := dc_182 (a := 3) (b := 30) (n := 798) (by decide +kernel)
theorem dX35_glueItem_41 : decode cX35_glueItem 41 = .ok (.return_, 1) := dc_177 (by decide +kernel)
def fX35_glueItem_b41 (N : Nat) (sL : Nat → Int32 → Int64 → Int64 → eH → Option (Int32 × eH))  (h : eH) : Option (Unit × eH) :=
  some ((), h)
theorem pX35_glueItem_b41 {w : eW} {d : Nat} {dr : Nat} (hd : dr + 9 ≤ d + 1) (hdr : 12 ≤ dr) {N : Nat} {sL : Nat → Int32 → Int64 → Int64 → eH → Option (Int32 × eH)} (hsL : ∀ a t0 t1 t2 h q, sL a t0 t1 t2 h = some q → wm w dr YX35_layBox [.ref a, .int t0, .long t1, .long t2] h (e_is (e_rn c_I q)))  {h : eH} {q} (hf : fX35_glueItem_b41 N sL h = some q) : wp w (d + 1) YX35_glueItem 41 [none, none, none, none, none] [] h (e_is (e_rn c_V q)) := by
  unfold fX35_glueItem_b41 at hf
  cases hf
  exact w_vret dX35_glueItem_41 rfl rfl
def fX35_glueItem_b35 (N : Nat) (sL : Nat → Int32 → Int64 → Int64 → eH → Option (Int32 × eH)) (l4 : Int32) (s0 : Nat) (s1 : Int32) (s2 : Int32) (s3 : Int32) (s4 : Int32) (h : eH) : Option (Unit × eH) :=
  (k_ok 34 h s0).bind fun _ =>
  (fX35_item N s0 s1 s2 s3 s4 l4 (0 : Int32) h).bind fun q2 =>
  fX35_glueItem_b41 N sL q2.2
theorem pX35_glueItem_b35 {w : eW} {d : Nat} {dr : Nat} (hd : dr + 9 ≤ d + 1) (hdr : 12 ≤ dr) {N : Nat} {sL : Nat → Int32 → Int64 → Int64 → eH → Option (Int32 × eH)} (hsL : ∀ a t0 t1 t2 h q, sL a t0 t1 t2 h = some q → wm w dr YX35_layBox [.ref a, .int t0, .long t1, .long t2] h (e_is (e_rn c_I q))) {l4 : Int32} {s0 : Nat} {s1 : Int32} {s2 : Int32} {s3 : Int32} {s4 : Int32} {h : eH} {q} (hf : fX35_glueItem_b35 N sL l4 s0 s1 s2 s3 s4 h = some q) : wp w (d + 1) YX35_glueItem 35 [none, none, none, none, some (.int l4)] [.int s4, .int s3, .int s2, .int s1, .ref s0] h (e_is (e_rn c_V q)) := by
  unfold fX35_glueItem_b35 at hf
  refine w_iload dX35_glueItem_35 rfl ?_
  refine w_iconst dX35_glueItem_37 (v := 0) (by decide) ?_
  obtain ⟨_, b1, hf⟩ := Option.bind_eq_some_iff.mp hf
  refine x_cnV hf (e_stV (Yc := YX35_item) (ci := 34) (av := [.int s1, .int s2, .int s3, .int s4, .int l4, .int (0 : Int32)]) (st := []) dX35_glueItem_38 q5643 mX35_item rfl (k_ok_some b1).1 (k_ok_some b1).2) mX35_item.2.2.1 mX35_item.2.2.2.2.1 (Nat.le_of_ble_eq_true rfl) (Nat.le_of_ble_eq_true rfl) (fun q hq => pX35_item (by omega) hq) (fun q2 hf => ?_)
  exact (pX35_glueItem_b41 hd hdr hsL hf).to trivial
def fX35_glueItem (N : Nat) (sL : Nat → Int32 → Int64 → Int64 → eH → Option (Int32 × eH)) (this : Nat) (p0 : Int32) (p1 : Int32) (p2 : Int32) (p3 : Int32) (h : eH) : Option (Unit × eH) :=
  (k_ok 34 h this).bind fun _ =>
  (fX35_mode this h).bind fun q2 =>
  if ¬ q2.1 = 0 then
    if ¬ p1 = 0 then
      fX35_glueItem_b35 N sL p3 this (2 : Int32) p0 p1 p2 q2.2
    else
      fX35_glueItem_b35 N sL p3 this (2 : Int32) p0 p1 (0 : Int32) q2.2
  else
    (k_ok 34 q2.2 this).bind fun _ =>
    (fX35_outer N sL this (2 : Int32) p0 p1 p3 p2 (-1 : Int32) (0 : Int32) q2.2).bind fun q6 =>
    fX35_glueItem_b41 N sL q6.2
theorem pX35_glueItem {w : eW} {d : Nat} {dr : Nat} (hd : dr + 9 ≤ d) (hdr : 12 ≤ dr) {N : Nat} {sL : Nat → Int32 → Int64 → Int64 → eH → Option (Int32 × eH)} (hsL : ∀ a t0 t1 t2 h q, sL a t0 t1 t2 h = some q → wm w dr YX35_layBox [.ref a, .int t0, .long t1, .long t2] h (e_is (e_rn c_I q))) {this : Nat} {p0 : Int32} {p1 : Int32} {p2 : Int32} {p3 : Int32} {h : eH} {q} (hf : fX35_glueItem N sL this p0 p1 p2 p3 h = some q) : wm w d YX35_glueItem [.ref this, .int p0, .int p1, .int p2, .int p3] h (e_is (e_rn c_V q)) := by
  obtain ⟨d, rfl⟩ : ∃ e, d = e + 1 := ⟨d - 1, by omega⟩
  show wp w (d + 1) YX35_glueItem 0 [some (.ref this), some (.int p0), some (.int p1), some (.int p2), some (.int p3)] [] h _
  unfold fX35_glueItem at hf
  refine w_aload_n dX35_glueItem_0 rfl rfl ?_
  obtain ⟨_, b1, hf⟩ := Option.bind_eq_some_iff.mp hf
  refine x_cnI hf (e_stV (Yc := YX35_mode) (ci := 34) (av := []) (st := []) dX35_glueItem_1 q5417 mX35_mode rfl (k_ok_some b1).1 (k_ok_some b1).2) mX35_mode.2.2.1 mX35_mode.2.2.2.2.1 (Nat.le_of_ble_eq_true rfl) (Nat.le_of_ble_eq_true rfl) (fun q hq => pX35_mode (by omega) hq) (fun q2 hf => ?_)
  refine w_if_ne 22 dX35_glueItem_4 (by decide) (fun c3 => ?_) (fun c3 => ?_)
  · replace hf := (if_pos (show ¬ q2.1 = 0 from c3)).symm.trans hf
    refine w_aload_n dX35_glueItem_22 rfl rfl ?_
    refine w_iconst dX35_glueItem_23 (v := 2) (by decide) ?_
    refine w_iload_n dX35_glueItem_24 rfl rfl ?_
    refine w_iload_n dX35_glueItem_25 rfl rfl ?_
    refine w_iload_n dX35_glueItem_26 rfl rfl ?_
    refine w_if_ne 34 dX35_glueItem_27 (by decide) (fun c4 => ?_) (fun c4 => ?_)
    · replace hf := (if_pos (show ¬ p1 = 0 from c4)).symm.trans hf
      refine w_iload_n dX35_glueItem_34 rfl rfl ?_
      exact (pX35_glueItem_b35 hd hdr hsL hf).to ⟨rfl, trivial⟩
    · replace hf := (if_neg (show ¬ (¬ p1 = 0) from (fun z => z c4))).symm.trans hf
      refine w_iconst dX35_glueItem_30 (v := 0) (by decide) ?_
      refine w_goto 35 dX35_glueItem_31 (by decide) ?_
      exact (pX35_glueItem_b35 hd hdr hsL hf).to ⟨rfl, trivial⟩
  · replace hf := (if_neg (show ¬ (¬ q2.1 = 0) from (fun z => z c3))).symm.trans hf
    refine w_aload_n dX35_glueItem_7 rfl rfl ?_
    refine w_iconst dX35_glueItem_8 (v := 2) (by decide) ?_
    refine w_iload_n dX35_glueItem_9 rfl rfl ?_
    refine w_iload_n dX35_glueItem_10 rfl rfl ?_
    refine w_iload dX35_glueItem_11 rfl ?_
    refine w_iload_n dX35_glueItem_13 rfl rfl ?_
    refine w_iconst dX35_glueItem_14 (v := -1) (by decide) ?_
    refine w_iconst dX35_glueItem_15 (v := 0) (by decide) ?_
    obtain ⟨_, b5, hf⟩ := Option.bind_eq_some_iff.mp hf
    refine x_cnV hf (e_stV (Yc := YX35_outer) (ci := 34) (av := [.int (2 : Int32), .int p0, .int p1, .int p3, .int p2, .int (-1 : Int32), .int (0 : Int32)]) (st := []) dX35_glueItem_16 q5465 mX35_outer rfl (k_ok_some b5).1 (k_ok_some b5).2) mX35_outer.2.2.1 mX35_outer.2.2.2.2.1 (Nat.le_of_ble_eq_true rfl) (Nat.le_of_ble_eq_true rfl) (fun q hq => pX35_outer (by omega) hdr hsL hq) (fun q6 hf => ?_)
    refine w_goto 41 dX35_glueItem_19 (by decide) ?_
    exact (pX35_glueItem_b41 hd hdr hsL hf).to trivial
abbrev cX35_glueOf : ByteArray := prog_37_method_109_code
def yX35_glueOf : MethodName := ⟨RX35, "glueOf", "(I)V"⟩
def YX35_glueOf : eY := (yX35_glueOf, cX35_glueOf, 3, none, [])
theorem mX35_glueOf : e_mv YX35_glueOf RX35 1 := ⟨q5459, qs311, q5460, by decide, by decide +kernel, (e_sig (by decide +kernel))⟩
theorem dX35_glueOf_0 : decode cX35_glueOf 0 = .ok (.sipush 2247, 3) := dc_17 (a := 8) (b := 199) (v := 2247) (by decide +kernel)
theorem dX35_glueOf_3 : decode cX35_glueOf 3 = .ok (.iconst 4, 1) := dc_7 (by decide +kernel)
theorem dX35_glueOf_4 : decode cX35_glueOf 4 = .ok (.iload_n 1, 1) := dc_27 (by decide +kernel)
theorem dX35_glueOf_5 : decode cX35_glueOf 5 = .ok (.imul, 1) := dc_104 (by decide +kernel)
theorem dX35_glueOf_6 : decode cX35_glueOf 6 = .ok (.iadd, 1) := dc_96 (by decide +kernel)
theorem dX35_glueOf_7 : decode cX35_glueOf 7 = .ok (.istore_n 2, 1) := dc_61 (by decide +kernel)
theorem dX35_glueOf_8 : decode cX35_glueOf 8 = .ok (.aload_n 0, 1) := dc_42 (by decide +kernel)
theorem dX35_glueOf_9 : decode cX35_glueOf 9 = .ok (.aload_n 0, 1) := dc_42 (by decide +kernel)
theorem dX35_glueOf_10 : decode cX35_glueOf 10 = .ok (.iload_n 2, 1) := dc_28 (by decide +kernel)
theorem dX35_glueOf_11 : decode cX35_glueOf 11 = .ok (.invokevirtual 431, 3) := dc_182 (a := 1) (b := 175) (n := 431) (by decide +kernel)
theorem dX35_glueOf_14 : decode cX35_glueOf 14 = .ok (.aload_n 0, 1) := dc_42 (by decide +kernel)
theorem dX35_glueOf_15 : decode cX35_glueOf 15 = .ok (.iload_n 2, 1) := dc_28 (by decide +kernel)
theorem dX35_glueOf_16 : decode cX35_glueOf 16 = .ok (.iconst 1, 1) := dc_4 (by decide +kernel)
theorem dX35_glueOf_17 : decode cX35_glueOf 17 = .ok (.iadd, 1) := dc_96 (by decide +kernel)
theorem dX35_glueOf_18 : decode cX35_glueOf 18 = .ok (.invokevirtual 431, 3) := dc_182 (a := 1) (b := 175) (n := 431) (by decide +kernel)
theorem dX35_glueOf_21 : decode cX35_glueOf 21 = .ok (.aload_n 0, 1) := dc_42 (by decide +kernel)
theorem dX35_glueOf_22 : decode cX35_glueOf 22 = .ok (.iload_n 2, 1) := dc_28 (by decide +kernel)
theorem dX35_glueOf_23 : decode cX35_glueOf 23 = .ok (.iconst 2, 1) := dc_5 (by decide +kernel)
theorem dX35_glueOf_24 : decode cX35_glueOf 24 = .ok (.iadd, 1) := dc_96 (by decide +kernel)
theorem dX35_glueOf_25 : decode cX35_glueOf 25 = .ok (.invokevirtual 431, 3) := dc_182 (a := 1) (b := 175) (n := 431) (by decide +kernel)
theorem dX35_glueOf_28 : decode cX35_glueOf 28 = .ok (.aload_n 0, 1) := dc_42 (by decide +kernel)
theorem dX35_glueOf_29 : decode cX35_glueOf 29 = .ok (.iload_n 2, 1) := dc_28 (by decide +kernel)
theorem dX35_glueOf_30 : decode cX35_glueOf 30 = .ok (.iconst 3, 1) := dc_6 (by decide +kernel)
theorem dX35_glueOf_31 : decode cX35_glueOf 31 = .ok (.iadd, 1) := dc_96 (by decide +kernel)
theorem dX35_glueOf_32 : decode cX35_glueOf 32 = .ok (.invokevirtual 431, 3) := dc_182 (a := 1) (b := 175) (n := 431) (by decide +kernel)
theorem dX35_glueOf_35 : decode cX35_glueOf 35 = .ok (.invokevirtual 802, 3) := dc_182 (a := 3) (b := 34) (n := 802) (by decide +kernel)
theorem dX35_glueOf_38 : decode cX35_glueOf 38 = .ok (.return_, 1) := dc_177 (by decide +kernel)
def fX35_glueOf (N : Nat) (sL : Nat → Int32 → Int64 → Int64 → eH → Option (Int32 × eH)) (this : Nat) (p0 : Int32) (h : eH) : Option (Unit × eH) :=
  (k_ok 34 h this).bind fun _ =>
  (fX35_now this ((2247 : Int32) + ((4 : Int32) * p0)) h).bind fun q2 =>
  (k_ok 34 q2.2 this).bind fun _ =>
  (fX35_now this (((2247 : Int32) + ((4 : Int32) * p0)) + (1 : Int32)) q2.2).bind fun q4 =>
  (k_ok 34 q4.2 this).bind fun _ =>
  (fX35_now this (((2247 : Int32) + ((4 : Int32) * p0)) + (2 : Int32)) q4.2).bind fun q6 =>
  (k_ok 34 q6.2 this).bind fun _ =>
  (fX35_now this (((2247 : Int32) + ((4 : Int32) * p0)) + (3 : Int32)) q6.2).bind fun q8 =>
  (k_ok 34 q8.2 this).bind fun _ =>
  (fX35_glueItem N sL this q2.1 q4.1 q6.1 q8.1 q8.2).bind fun q10 =>
  some ((), q10.2)
theorem pX35_glueOf {w : eW} {d : Nat} {dr : Nat} (hd : dr + 10 ≤ d) (hdr : 12 ≤ dr) {N : Nat} {sL : Nat → Int32 → Int64 → Int64 → eH → Option (Int32 × eH)} (hsL : ∀ a t0 t1 t2 h q, sL a t0 t1 t2 h = some q → wm w dr YX35_layBox [.ref a, .int t0, .long t1, .long t2] h (e_is (e_rn c_I q))) {this : Nat} {p0 : Int32} {h : eH} {q} (hf : fX35_glueOf N sL this p0 h = some q) : wm w d YX35_glueOf [.ref this, .int p0] h (e_is (e_rn c_V q)) := by
  obtain ⟨d, rfl⟩ : ∃ e, d = e + 1 := ⟨d - 1, by omega⟩
  show wp w (d + 1) YX35_glueOf 0 [some (.ref this), some (.int p0), none] [] h _
  unfold fX35_glueOf at hf
  refine w_sipush dX35_glueOf_0 (v := 2247) (by decide) ?_
  refine w_iconst dX35_glueOf_3 (v := 4) (by decide) ?_
  refine w_iload_n dX35_glueOf_4 rfl rfl ?_
  refine w_imul dX35_glueOf_5 ?_
  refine w_iadd dX35_glueOf_6 ?_
  refine w_istore_n dX35_glueOf_7 rfl (by decide) (ls' := [some (.ref this), some (.int p0), some (.int ((2247 : Int32) + ((4 : Int32) * p0)))]) rfl ?_
  refine w_aload_n dX35_glueOf_8 rfl rfl ?_
  refine w_aload_n dX35_glueOf_9 rfl rfl ?_
  refine w_iload_n dX35_glueOf_10 rfl rfl ?_
  obtain ⟨_, b1, hf⟩ := Option.bind_eq_some_iff.mp hf
  refine x_cnI hf (e_stV (Yc := YX35_now) (ci := 34) (av := [.int ((2247 : Int32) + ((4 : Int32) * p0))]) (st := [.ref this]) dX35_glueOf_11 q5097 mX35_now rfl (k_ok_some b1).1 (k_ok_some b1).2) mX35_now.2.2.1 mX35_now.2.2.2.2.1 (Nat.le_of_ble_eq_true rfl) (Nat.le_of_ble_eq_true rfl) (fun q hq => pX35_now (by omega) hq) (fun q2 hf => ?_)
  refine w_aload_n dX35_glueOf_14 rfl rfl ?_
  refine w_iload_n dX35_glueOf_15 rfl rfl ?_
  refine w_iconst dX35_glueOf_16 (v := 1) (by decide) ?_
  refine w_iadd dX35_glueOf_17 ?_
  obtain ⟨_, b3, hf⟩ := Option.bind_eq_some_iff.mp hf
  refine x_cnI hf (e_stV (Yc := YX35_now) (ci := 34) (av := [.int (((2247 : Int32) + ((4 : Int32) * p0)) + (1 : Int32))]) (st := [.int q2.1, .ref this]) dX35_glueOf_18 q5097 mX35_now rfl (k_ok_some b3).1 (k_ok_some b3).2) mX35_now.2.2.1 mX35_now.2.2.2.2.1 (Nat.le_of_ble_eq_true rfl) (Nat.le_of_ble_eq_true rfl) (fun q hq => pX35_now (by omega) hq) (fun q4 hf => ?_)
  refine w_aload_n dX35_glueOf_21 rfl rfl ?_
  refine w_iload_n dX35_glueOf_22 rfl rfl ?_
  refine w_iconst dX35_glueOf_23 (v := 2) (by decide) ?_
  refine w_iadd dX35_glueOf_24 ?_
  obtain ⟨_, b5, hf⟩ := Option.bind_eq_some_iff.mp hf
  refine x_cnI hf (e_stV (Yc := YX35_now) (ci := 34) (av := [.int (((2247 : Int32) + ((4 : Int32) * p0)) + (2 : Int32))]) (st := [.int q4.1, .int q2.1, .ref this]) dX35_glueOf_25 q5097 mX35_now rfl (k_ok_some b5).1 (k_ok_some b5).2) mX35_now.2.2.1 mX35_now.2.2.2.2.1 (Nat.le_of_ble_eq_true rfl) (Nat.le_of_ble_eq_true rfl) (fun q hq => pX35_now (by omega) hq) (fun q6 hf => ?_)
  refine w_aload_n dX35_glueOf_28 rfl rfl ?_
  refine w_iload_n dX35_glueOf_29 rfl rfl ?_
  refine w_iconst dX35_glueOf_30 (v := 3) (by decide) ?_
  refine w_iadd dX35_glueOf_31 ?_
  obtain ⟨_, b7, hf⟩ := Option.bind_eq_some_iff.mp hf
  refine x_cnI hf (e_stV (Yc := YX35_now) (ci := 34) (av := [.int (((2247 : Int32) + ((4 : Int32) * p0)) + (3 : Int32))]) (st := [.int q6.1, .int q4.1, .int q2.1, .ref this]) dX35_glueOf_32 q5097 mX35_now rfl (k_ok_some b7).1 (k_ok_some b7).2) mX35_now.2.2.1 mX35_now.2.2.2.2.1 (Nat.le_of_ble_eq_true rfl) (Nat.le_of_ble_eq_true rfl) (fun q hq => pX35_now (by omega) hq) (fun q8 hf => ?_)
  obtain ⟨_, b9, hf⟩ := Option.bind_eq_some_iff.mp hf
  refine x_cnV hf (e_stV (Yc := YX35_glueItem) (ci := 34) (av := [.int q2.1, .int q4.1, .int q6.1, .int q8.1]) (st := []) dX35_glueOf_35 q5461 mX35_glueItem rfl (k_ok_some b9).1 (k_ok_some b9).2) mX35_glueItem.2.2.1 mX35_glueItem.2.2.2.2.1 (Nat.le_of_ble_eq_true rfl) (Nat.le_of_ble_eq_true rfl) (fun q hq => pX35_glueItem (by omega) hdr hsL hq) (fun q10 hf => ?_)
  cases hf
  exact w_vret dX35_glueOf_38 rfl rfl
abbrev cX35_openList : ByteArray := prog_37_method_107_code
def yX35_openList : MethodName := ⟨RX35, "openList", "(I)V"⟩
def YX35_openList : eY := (yX35_openList, cX35_openList, 2, none, [])
theorem mX35_openList : e_mv YX35_openList RX35 1 := ⟨q5652, qs348, q5653, by decide, by decide +kernel, (e_sig (by decide +kernel))⟩
theorem dX35_openList_0 : decode cX35_openList 0 = .ok (.aload_n 0, 1) := dc_42 (by decide +kernel)
theorem dX35_openList_1 : decode cX35_openList 1 = .ok (.getfield 127, 3) := dc_180 (a := 0) (b := 127) (n := 127) (by decide +kernel)
theorem dX35_openList_4 : decode cX35_openList 4 = .ok (.aload_n 0, 1) := dc_42 (by decide +kernel)
theorem dX35_openList_5 : decode cX35_openList 5 = .ok (.getfield 366, 3) := dc_180 (a := 1) (b := 110) (n := 366) (by decide +kernel)
theorem dX35_openList_8 : decode cX35_openList 8 = .ok (.iload_n 1, 1) := dc_27 (by decide +kernel)
theorem dX35_openList_9 : decode cX35_openList 9 = .ok (.iastore, 1) := dc_79 (by decide +kernel)
theorem dX35_openList_10 : decode cX35_openList 10 = .ok (.aload_n 0, 1) := dc_42 (by decide +kernel)
theorem dX35_openList_11 : decode cX35_openList 11 = .ok (.getfield 130, 3) := dc_180 (a := 0) (b := 130) (n := 130) (by decide +kernel)
theorem dX35_openList_14 : decode cX35_openList 14 = .ok (.aload_n 0, 1) := dc_42 (by decide +kernel)
theorem dX35_openList_15 : decode cX35_openList 15 = .ok (.getfield 366, 3) := dc_180 (a := 1) (b := 110) (n := 366) (by decide +kernel)
theorem dX35_openList_18 : decode cX35_openList 18 = .ok (.aload_n 0, 1) := dc_42 (by decide +kernel)
theorem dX35_openList_19 : decode cX35_openList 19 = .ok (.getfield 370, 3) := dc_180 (a := 1) (b := 114) (n := 370) (by decide +kernel)
theorem dX35_openList_22 : decode cX35_openList 22 = .ok (.iastore, 1) := dc_79 (by decide +kernel)
theorem dX35_openList_23 : decode cX35_openList 23 = .ok (.aload_n 0, 1) := dc_42 (by decide +kernel)
theorem dX35_openList_24 : decode cX35_openList 24 = .ok (.getfield 133, 3) := dc_180 (a := 0) (b := 133) (n := 133) (by decide +kernel)
theorem dX35_openList_27 : decode cX35_openList 27 = .ok (.aload_n 0, 1) := dc_42 (by decide +kernel)
theorem dX35_openList_28 : decode cX35_openList 28 = .ok (.getfield 366, 3) := dc_180 (a := 1) (b := 110) (n := 366) (by decide +kernel)
theorem dX35_openList_31 : decode cX35_openList 31 = .ok (.ldc_w 369, 3) := dc_19 (a := 1) (b := 113) (n := 369) (by decide +kernel)
theorem dX35_openList_34 : decode cX35_openList 34 = .ok (.iastore, 1) := dc_79 (by decide +kernel)
theorem dX35_openList_35 : decode cX35_openList 35 = .ok (.aload_n 0, 1) := dc_42 (by decide +kernel)
theorem dX35_openList_36 : decode cX35_openList 36 = .ok (.dup, 1) := dc_89 (by decide +kernel)
theorem dX35_openList_37 : decode cX35_openList 37 = .ok (.getfield 366, 3) := dc_180 (a := 1) (b := 110) (n := 366) (by decide +kernel)
theorem dX35_openList_40 : decode cX35_openList 40 = .ok (.iconst 1, 1) := dc_4 (by decide +kernel)
theorem dX35_openList_41 : decode cX35_openList 41 = .ok (.iadd, 1) := dc_96 (by decide +kernel)
theorem dX35_openList_42 : decode cX35_openList 42 = .ok (.putfield 366, 3) := dc_181 (a := 1) (b := 110) (n := 366) (by decide +kernel)
theorem dX35_openList_45 : decode cX35_openList 45 = .ok (.return_, 1) := dc_177 (by decide +kernel)
def fX35_openList (this : Nat) (p0 : Int32) (h : eH) : Option (Unit × eH) :=
  (g_A 34 h this 52).bind fun a1 =>
  (g_I 34 h this 51).bind fun x3 =>
  (q_V 100 h a1 x3 (.int p0)).bind fun h5 =>
  (g_A 34 h5 this 53).bind fun a7 =>
  (g_I 34 h5 this 51).bind fun x9 =>
  (g_I 34 h5 this 56).bind fun x11 =>
  (q_V 100 h5 a7 x9 (.int x11)).bind fun h13 =>
  (g_A 34 h13 this 54).bind fun a15 =>
  (g_I 34 h13 this 51).bind fun x17 =>
  (q_V 100 h13 a15 x17 (.int (-2147483647 : Int32))).bind fun h19 =>
  (g_I 34 h19 this 51).bind fun x21 =>
  (p_V 34 h19 this 51 (.int (x21 + (1 : Int32)))).bind fun h23 =>
  some ((), h23)
theorem pX35_openList {w : eW} {d : Nat} (hd : 0 ≤ d) {this : Nat} {p0 : Int32} {h : eH} {q} (hf : fX35_openList this p0 h = some q) : wm w d YX35_openList [.ref this, .int p0] h (e_is (e_rn c_V q)) := by
  show wp w d YX35_openList 0 [some (.ref this), some (.int p0)] [] h _
  unfold fX35_openList at hf
  refine w_aload_n dX35_openList_0 rfl rfl ?_
  obtain ⟨a1, b2, hf⟩ := Option.bind_eq_some_iff.mp hf
  refine GX35_127 b2 dX35_openList_1 rfl ?_
  refine w_aload_n dX35_openList_4 rfl rfl ?_
  obtain ⟨x3, b4, hf⟩ := Option.bind_eq_some_iff.mp hf
  refine GX35_366 b4 dX35_openList_5 rfl ?_
  refine w_iload_n dX35_openList_8 rfl rfl ?_
  obtain ⟨h5, b6, hf⟩ := Option.bind_eq_some_iff.mp hf
  refine x_qI b6 dX35_openList_9 ?_
  refine w_aload_n dX35_openList_10 rfl rfl ?_
  obtain ⟨a7, b8, hf⟩ := Option.bind_eq_some_iff.mp hf
  refine GX35_130 b8 dX35_openList_11 rfl ?_
  refine w_aload_n dX35_openList_14 rfl rfl ?_
  obtain ⟨x9, b10, hf⟩ := Option.bind_eq_some_iff.mp hf
  refine GX35_366 b10 dX35_openList_15 rfl ?_
  refine w_aload_n dX35_openList_18 rfl rfl ?_
  obtain ⟨x11, b12, hf⟩ := Option.bind_eq_some_iff.mp hf
  refine GX35_370 b12 dX35_openList_19 rfl ?_
  obtain ⟨h13, b14, hf⟩ := Option.bind_eq_some_iff.mp hf
  refine x_qI b14 dX35_openList_22 ?_
  refine w_aload_n dX35_openList_23 rfl rfl ?_
  obtain ⟨a15, b16, hf⟩ := Option.bind_eq_some_iff.mp hf
  refine GX35_133 b16 dX35_openList_24 rfl ?_
  refine w_aload_n dX35_openList_27 rfl rfl ?_
  obtain ⟨x17, b18, hf⟩ := Option.bind_eq_some_iff.mp hf
  refine GX35_366 b18 dX35_openList_28 rfl ?_
  refine w_ldc_w dX35_openList_31 q4478 ?_
  obtain ⟨h19, b20, hf⟩ := Option.bind_eq_some_iff.mp hf
  refine x_qI b20 dX35_openList_34 ?_
  refine w_aload_n dX35_openList_35 rfl rfl ?_
  refine w_dup dX35_openList_36 rfl ?_
  obtain ⟨x21, b22, hf⟩ := Option.bind_eq_some_iff.mp hf
  refine GX35_366 b22 dX35_openList_37 rfl ?_
  refine w_iconst dX35_openList_40 (v := 1) (by decide) ?_
  refine w_iadd dX35_openList_41 ?_
  obtain ⟨h23, b24, hf⟩ := Option.bind_eq_some_iff.mp hf
  refine SX35_366 b24 dX35_openList_42 rfl ?_
  cases hf
  exact w_vret dX35_openList_45 rfl rfl
abbrev cX35_setGlue : ByteArray := prog_37_method_140_code
def yX35_setGlue : MethodName := ⟨RX35, "setGlue", "(IJ)V"⟩
def YX35_setGlue : eY := (yX35_setGlue, cX35_setGlue, 5, none, [])
theorem mX35_setGlue : e_mv YX35_setGlue RX35 2 := ⟨q5661, qs350, q5662, by decide, by decide +kernel, (e_sig (by decide +kernel))⟩
theorem dX35_setGlue_0 : decode cX35_setGlue 0 = .ok (.aload_n 0, 1) := dc_42 (by decide +kernel)
theorem dX35_setGlue_1 : decode cX35_setGlue 1 = .ok (.getfield 166, 3) := dc_180 (a := 0) (b := 166) (n := 166) (by decide +kernel)
theorem dX35_setGlue_4 : decode cX35_setGlue 4 = .ok (.iload_n 1, 1) := dc_27 (by decide +kernel)
theorem dX35_setGlue_5 : decode cX35_setGlue 5 = .ok (.lload_n 2, 1) := dc_32 (by decide +kernel)
theorem dX35_setGlue_6 : decode cX35_setGlue 6 = .ok (.l2i, 1) := dc_136 (by decide +kernel)
theorem dX35_setGlue_7 : decode cX35_setGlue 7 = .ok (.iastore, 1) := dc_79 (by decide +kernel)
theorem dX35_setGlue_8 : decode cX35_setGlue 8 = .ok (.aload_n 0, 1) := dc_42 (by decide +kernel)
theorem dX35_setGlue_9 : decode cX35_setGlue 9 = .ok (.getfield 169, 3) := dc_180 (a := 0) (b := 169) (n := 169) (by decide +kernel)
theorem dX35_setGlue_12 : decode cX35_setGlue 12 = .ok (.iload_n 1, 1) := dc_27 (by decide +kernel)
theorem dX35_setGlue_13 : decode cX35_setGlue 13 = .ok (.iconst 0, 1) := dc_3 (by decide +kernel)
theorem dX35_setGlue_14 : decode cX35_setGlue 14 = .ok (.iastore, 1) := dc_79 (by decide +kernel)
theorem dX35_setGlue_15 : decode cX35_setGlue 15 = .ok (.aload_n 0, 1) := dc_42 (by decide +kernel)
theorem dX35_setGlue_16 : decode cX35_setGlue 16 = .ok (.getfield 172, 3) := dc_180 (a := 0) (b := 172) (n := 172) (by decide +kernel)
theorem dX35_setGlue_19 : decode cX35_setGlue 19 = .ok (.iload_n 1, 1) := dc_27 (by decide +kernel)
theorem dX35_setGlue_20 : decode cX35_setGlue 20 = .ok (.lload_n 2, 1) := dc_32 (by decide +kernel)
theorem dX35_setGlue_21 : decode cX35_setGlue 21 = .ok (.lconst 0, 1) := dc_9 (by decide +kernel)
theorem dX35_setGlue_22 : decode cX35_setGlue 22 = .ok (.lcmp, 1) := dc_148 (by decide +kernel)
theorem dX35_setGlue_23 : decode cX35_setGlue 23 = .ok (.ifCond .ge 11, 3) := dc_156 (a := 0) (b := 11) (v := 11) (by decide +kernel)
theorem dX35_setGlue_26 : decode cX35_setGlue 26 = .ok (.aload_n 0, 1) := dc_42 (by decide +kernel)
theorem dX35_setGlue_27 : decode cX35_setGlue 27 = .ok (.getfield 966, 3) := dc_180 (a := 3) (b := 198) (n := 966) (by decide +kernel)
theorem dX35_setGlue_30 : decode cX35_setGlue 30 = .ok (.l2i, 1) := dc_136 (by decide +kernel)
theorem dX35_setGlue_31 : decode cX35_setGlue 31 = .ok (.goto 4, 3) := dc_167 (a := 0) (b := 4) (v := 4) (by decide +kernel)
theorem dX35_setGlue_34 : decode cX35_setGlue 34 = .ok (.iconst 0, 1) := dc_3 (by decide +kernel)
theorem dX35_setGlue_35 : decode cX35_setGlue 35 = .ok (.iastore, 1) := dc_79 (by decide +kernel)
theorem dX35_setGlue_36 : decode cX35_setGlue 36 = .ok (.iconst 0, 1) := dc_3 (by decide +kernel)
theorem dX35_setGlue_37 : decode cX35_setGlue 37 = .ok (.istore 4, 2) := dc_54 (a := 4) (by decide +kernel)
theorem dX35_setGlue_39 : decode cX35_setGlue 39 = .ok (.iload 4, 2) := dc_21 (a := 4) (by decide +kernel)
theorem dX35_setGlue_41 : decode cX35_setGlue 41 = .ok (.iconst 4, 1) := dc_7 (by decide +kernel)
theorem dX35_setGlue_42 : decode cX35_setGlue 42 = .ok (.if_icmp .ge 49, 3) := dc_162 (a := 0) (b := 49) (v := 49) (by decide +kernel)
theorem dX35_setGlue_45 : decode cX35_setGlue 45 = .ok (.lload_n 2, 1) := dc_32 (by decide +kernel)
theorem dX35_setGlue_46 : decode cX35_setGlue 46 = .ok (.lconst 0, 1) := dc_9 (by decide +kernel)
theorem dX35_setGlue_47 : decode cX35_setGlue 47 = .ok (.lcmp, 1) := dc_148 (by decide +kernel)
theorem dX35_setGlue_48 : decode cX35_setGlue 48 = .ok (.ifCond .le 43, 3) := dc_158 (a := 0) (b := 43) (v := 43) (by decide +kernel)
theorem dX35_setGlue_51 : decode cX35_setGlue 51 = .ok (.aload_n 0, 1) := dc_42 (by decide +kernel)
theorem dX35_setGlue_52 : decode cX35_setGlue 52 = .ok (.getfield 188, 3) := dc_180 (a := 0) (b := 188) (n := 188) (by decide +kernel)
theorem dX35_setGlue_55 : decode cX35_setGlue 55 = .ok (.iload 4, 2) := dc_21 (a := 4) (by decide +kernel)
theorem dX35_setGlue_57 : decode cX35_setGlue 57 = .ok (.laload, 1) := dc_47 (by decide +kernel)
theorem dX35_setGlue_58 : decode cX35_setGlue 58 = .ok (.lconst 0, 1) := dc_9 (by decide +kernel)
theorem dX35_setGlue_59 : decode cX35_setGlue 59 = .ok (.lcmp, 1) := dc_148 (by decide +kernel)
theorem dX35_setGlue_60 : decode cX35_setGlue 60 = .ok (.ifCond .eq 25, 3) := dc_153 (a := 0) (b := 25) (v := 25) (by decide +kernel)
theorem dX35_setGlue_63 : decode cX35_setGlue 63 = .ok (.aload_n 0, 1) := dc_42 (by decide +kernel)
theorem dX35_setGlue_64 : decode cX35_setGlue 64 = .ok (.getfield 169, 3) := dc_180 (a := 0) (b := 169) (n := 169) (by decide +kernel)
theorem dX35_setGlue_67 : decode cX35_setGlue 67 = .ok (.iload_n 1, 1) := dc_27 (by decide +kernel)
theorem dX35_setGlue_68 : decode cX35_setGlue 68 = .ok (.iload 4, 2) := dc_21 (a := 4) (by decide +kernel)
theorem dX35_setGlue_70 : decode cX35_setGlue 70 = .ok (.iastore, 1) := dc_79 (by decide +kernel)
theorem dX35_setGlue_71 : decode cX35_setGlue 71 = .ok (.aload_n 0, 1) := dc_42 (by decide +kernel)
theorem dX35_setGlue_72 : decode cX35_setGlue 72 = .ok (.getfield 172, 3) := dc_180 (a := 0) (b := 172) (n := 172) (by decide +kernel)
theorem dX35_setGlue_75 : decode cX35_setGlue 75 = .ok (.iload_n 1, 1) := dc_27 (by decide +kernel)
theorem dX35_setGlue_76 : decode cX35_setGlue 76 = .ok (.aload_n 0, 1) := dc_42 (by decide +kernel)
theorem dX35_setGlue_77 : decode cX35_setGlue 77 = .ok (.getfield 188, 3) := dc_180 (a := 0) (b := 188) (n := 188) (by decide +kernel)
theorem dX35_setGlue_80 : decode cX35_setGlue 80 = .ok (.iload 4, 2) := dc_21 (a := 4) (by decide +kernel)
theorem dX35_setGlue_82 : decode cX35_setGlue 82 = .ok (.laload, 1) := dc_47 (by decide +kernel)
theorem dX35_setGlue_83 : decode cX35_setGlue 83 = .ok (.l2i, 1) := dc_136 (by decide +kernel)
theorem dX35_setGlue_84 : decode cX35_setGlue 84 = .ok (.iastore, 1) := dc_79 (by decide +kernel)
theorem dX35_setGlue_85 : decode cX35_setGlue 85 = .ok (.iinc 4 1, 3) := dc_132 (a := 4) (b := 1) (v := 1) (by decide +kernel)
theorem dX35_setGlue_88 : decode cX35_setGlue 88 = .ok (.goto (-49), 3) := dc_167 (a := 255) (b := 207) (v := -49) (by decide +kernel)
theorem dX35_setGlue_91 : decode cX35_setGlue 91 = .ok (.lload_n 2, 1) := dc_32 (by decide +kernel)
theorem dX35_setGlue_92 : decode cX35_setGlue 92 = .ok (.lconst 0, 1) := dc_9 (by decide +kernel)
theorem dX35_setGlue_93 : decode cX35_setGlue 93 = .ok (.lcmp, 1) := dc_148 (by decide +kernel)
theorem dX35_setGlue_94 : decode cX35_setGlue 94 = .ok (.ifCond .ge 20, 3) := dc_156 (a := 0) (b := 20) (v := 20) (by decide +kernel)
theorem dX35_setGlue_97 : decode cX35_setGlue 97 = .ok (.aload_n 0, 1) := dc_42 (by decide +kernel)
theorem dX35_setGlue_98 : decode cX35_setGlue 98 = .ok (.getfield 172, 3) := dc_180 (a := 0) (b := 172) (n := 172) (by decide +kernel)
theorem dX35_setGlue_101 : decode cX35_setGlue 101 = .ok (.iload_n 1, 1) := dc_27 (by decide +kernel)
theorem dX35_setGlue_102 : decode cX35_setGlue 102 = .ok (.iaload, 1) := dc_46 (by decide +kernel)
theorem dX35_setGlue_103 : decode cX35_setGlue 103 = .ok (.i2l, 1) := dc_133 (by decide +kernel)
theorem dX35_setGlue_104 : decode cX35_setGlue 104 = .ok (.lload_n 2, 1) := dc_32 (by decide +kernel)
theorem dX35_setGlue_105 : decode cX35_setGlue 105 = .ok (.lneg, 1) := dc_117 (by decide +kernel)
theorem dX35_setGlue_106 : decode cX35_setGlue 106 = .ok (.lcmp, 1) := dc_148 (by decide +kernel)
theorem dX35_setGlue_107 : decode cX35_setGlue 107 = .ok (.ifCond .ge 7, 3) := dc_156 (a := 0) (b := 7) (v := 7) (by decide +kernel)
theorem dX35_setGlue_110 : decode cX35_setGlue 110 = .ok (.iconst 1, 1) := dc_4 (by decide +kernel)
theorem dX35_setGlue_111 : decode cX35_setGlue 111 = .ok (.goto 4, 3) := dc_167 (a := 0) (b := 4) (v := 4) (by decide +kernel)
theorem dX35_setGlue_114 : decode cX35_setGlue 114 = .ok (.iconst 0, 1) := dc_3 (by decide +kernel)
theorem dX35_setGlue_115 : decode cX35_setGlue 115 = .ok (.istore 4, 2) := dc_54 (a := 4) (by decide +kernel)
theorem dX35_setGlue_117 : decode cX35_setGlue 117 = .ok (.aload_n 0, 1) := dc_42 (by decide +kernel)
theorem dX35_setGlue_118 : decode cX35_setGlue 118 = .ok (.getfield 175, 3) := dc_180 (a := 0) (b := 175) (n := 175) (by decide +kernel)
theorem dX35_setGlue_121 : decode cX35_setGlue 121 = .ok (.iload_n 1, 1) := dc_27 (by decide +kernel)
theorem dX35_setGlue_122 : decode cX35_setGlue 122 = .ok (.iload 4, 2) := dc_21 (a := 4) (by decide +kernel)
theorem dX35_setGlue_124 : decode cX35_setGlue 124 = .ok (.ifCond .eq 17, 3) := dc_153 (a := 0) (b := 17) (v := 17) (by decide +kernel)
theorem dX35_setGlue_127 : decode cX35_setGlue 127 = .ok (.lload_n 2, 1) := dc_32 (by decide +kernel)
theorem dX35_setGlue_128 : decode cX35_setGlue 128 = .ok (.lneg, 1) := dc_117 (by decide +kernel)
theorem dX35_setGlue_129 : decode cX35_setGlue 129 = .ok (.aload_n 0, 1) := dc_42 (by decide +kernel)
theorem dX35_setGlue_130 : decode cX35_setGlue 130 = .ok (.getfield 172, 3) := dc_180 (a := 0) (b := 172) (n := 172) (by decide +kernel)
theorem dX35_setGlue_133 : decode cX35_setGlue 133 = .ok (.iload_n 1, 1) := dc_27 (by decide +kernel)
theorem dX35_setGlue_134 : decode cX35_setGlue 134 = .ok (.iaload, 1) := dc_46 (by decide +kernel)
theorem dX35_setGlue_135 : decode cX35_setGlue 135 = .ok (.i2l, 1) := dc_133 (by decide +kernel)
theorem dX35_setGlue_136 : decode cX35_setGlue 136 = .ok (.lsub, 1) := dc_101 (by decide +kernel)
theorem dX35_setGlue_137 : decode cX35_setGlue 137 = .ok (.l2i, 1) := dc_136 (by decide +kernel)
theorem dX35_setGlue_138 : decode cX35_setGlue 138 = .ok (.goto 4, 3) := dc_167 (a := 0) (b := 4) (v := 4) (by decide +kernel)
theorem dX35_setGlue_141 : decode cX35_setGlue 141 = .ok (.iconst 0, 1) := dc_3 (by decide +kernel)
theorem dX35_setGlue_142 : decode cX35_setGlue 142 = .ok (.iastore, 1) := dc_79 (by decide +kernel)
theorem dX35_setGlue_143 : decode cX35_setGlue 143 = .ok (.aload_n 0, 1) := dc_42 (by decide +kernel)
theorem dX35_setGlue_144 : decode cX35_setGlue 144 = .ok (.iload 4, 2) := dc_21 (a := 4) (by decide +kernel)
theorem dX35_setGlue_146 : decode cX35_setGlue 146 = .ok (.ifCond .eq 12, 3) := dc_153 (a := 0) (b := 12) (v := 12) (by decide +kernel)
theorem dX35_setGlue_149 : decode cX35_setGlue 149 = .ok (.aload_n 0, 1) := dc_42 (by decide +kernel)
theorem dX35_setGlue_150 : decode cX35_setGlue 150 = .ok (.getfield 312, 3) := dc_180 (a := 1) (b := 56) (n := 312) (by decide +kernel)
theorem dX35_setGlue_153 : decode cX35_setGlue 153 = .ok (.iconst 1, 1) := dc_4 (by decide +kernel)
theorem dX35_setGlue_154 : decode cX35_setGlue 154 = .ok (.iadd, 1) := dc_96 (by decide +kernel)
theorem dX35_setGlue_155 : decode cX35_setGlue 155 = .ok (.goto 7, 3) := dc_167 (a := 0) (b := 7) (v := 7) (by decide +kernel)
theorem dX35_setGlue_158 : decode cX35_setGlue 158 = .ok (.aload_n 0, 1) := dc_42 (by decide +kernel)
theorem dX35_setGlue_159 : decode cX35_setGlue 159 = .ok (.getfield 312, 3) := dc_180 (a := 1) (b := 56) (n := 312) (by decide +kernel)
theorem dX35_setGlue_162 : decode cX35_setGlue 162 = .ok (.putfield 312, 3) := dc_181 (a := 1) (b := 56) (n := 312) (by decide +kernel)
theorem dX35_setGlue_165 : decode cX35_setGlue 165 = .ok (.return_, 1) := dc_177 (by decide +kernel)
theorem GX35_166 {w : eW} {d : Nat} {Y : eY} {pc : Nat} {ls : eL} {st : List Value} {h : eH} {Q : eO → eH → Prop} {a : Nat} {x : Nat} (hf : g_A 34 h a 71 = some x) (hd : decode Y.2.1 pc = .ok (.getfield 166, 3)) (hY : Y.1.cls = RX35) (kk : wp w d Y (pc + 3) ls (.ref x :: st) h Q) : wp w d Y pc ls (.ref a :: st) h Q := x_gA (ci := 34) (k := 71) hf hd rfl (by decide) (by rw [hY]; exact q4572) kk
theorem GX35_169 {w : eW} {d : Nat} {Y : eY} {pc : Nat} {ls : eL} {st : List Value} {h : eH} {Q : eO → eH → Prop} {a : Nat} {x : Nat} (hf : g_A 34 h a 72 = some x) (hd : decode Y.2.1 pc = .ok (.getfield 169, 3)) (hY : Y.1.cls = RX35) (kk : wp w d Y (pc + 3) ls (.ref x :: st) h Q) : wp w d Y pc ls (.ref a :: st) h Q := x_gA (ci := 34) (k := 72) hf hd rfl (by decide) (by rw [hY]; exact q4573) kk
theorem GX35_172 {w : eW} {d : Nat} {Y : eY} {pc : Nat} {ls : eL} {st : List Value} {h : eH} {Q : eO → eH → Prop} {a : Nat} {x : Nat} (hf : g_A 34 h a 73 = some x) (hd : decode Y.2.1 pc = .ok (.getfield 172, 3)) (hY : Y.1.cls = RX35) (kk : wp w d Y (pc + 3) ls (.ref x :: st) h Q) : wp w d Y pc ls (.ref a :: st) h Q := x_gA (ci := 34) (k := 73) hf hd rfl (by decide) (by rw [hY]; exact q4574) kk
theorem GX35_175 {w : eW} {d : Nat} {Y : eY} {pc : Nat} {ls : eL} {st : List Value} {h : eH} {Q : eO → eH → Prop} {a : Nat} {x : Nat} (hf : g_A 34 h a 74 = some x) (hd : decode Y.2.1 pc = .ok (.getfield 175, 3)) (hY : Y.1.cls = RX35) (kk : wp w d Y (pc + 3) ls (.ref x :: st) h Q) : wp w d Y pc ls (.ref a :: st) h Q := x_gA (ci := 34) (k := 74) hf hd rfl (by decide) (by rw [hY]; exact q4575) kk
def fX35_setGlue_b85 (N : Nat) (k39 : Nat → Int32 → Int64 → Int32 → eH → Option (Unit × eH)) (l0 : Nat) (l1 : Int32) (l2 : Int64) (l4 : Int32) (h : eH) : Option (Unit × eH) :=
  k39 l0 l1 l2 (l4 + (1 : Int32)) h
theorem pX35_setGlue_b85 {w : eW} {d : Nat} (hd : 0 ≤ d) {N : Nat} {k39 : Nat → Int32 → Int64 → Int32 → eH → Option (Unit × eH)} (hk39 : ∀ l0 l1 l2 l4 h q, k39 l0 l1 l2 l4 h = some q → wp w d YX35_setGlue 39 [some (.ref l0), some (.int l1), some (.long l2), none, some (.int l4)] [] h (e_is (e_rn c_V q))) {l0 : Nat} {l1 : Int32} {l2 : Int64} {l4 : Int32} {h : eH} {q} (hf : fX35_setGlue_b85 N k39 l0 l1 l2 l4 h = some q) : wp w d YX35_setGlue 85 [some (.ref l0), some (.int l1), some (.long l2), none, some (.int l4)] [] h (e_is (e_rn c_V q)) := by
  unfold fX35_setGlue_b85 at hf
  refine w_iinc dX35_setGlue_85 (v := (l4 + (1 : Int32))) rfl rfl (by decide) (ls' := [some (.ref l0), some (.int l1), some (.long l2), none, some (.int (l4 + (1 : Int32)))]) rfl ?_
  refine w_goto 39 dX35_setGlue_88 (by decide) ?_
  exact (hk39 _ _ _ _ _ _ hf).to ⟨rfl, rfl, rfl, rfl, trivial⟩
def fX35_setGlue_b162 (N : Nat) (s0 : Nat) (s1 : Int32) (h : eH) : Option (Unit × eH) :=
  (p_V 34 h s0 110 (.int s1)).bind fun h1 =>
  some ((), h1)
theorem pX35_setGlue_b162 {w : eW} {d : Nat} (hd : 0 ≤ d) {N : Nat} {s0 : Nat} {s1 : Int32} {h : eH} {q} (hf : fX35_setGlue_b162 N s0 s1 h = some q) : wp w d YX35_setGlue 162 [none, none, none, none, none] [.int s1, .ref s0] h (e_is (e_rn c_V q)) := by
  unfold fX35_setGlue_b162 at hf
  obtain ⟨h1, b2, hf⟩ := Option.bind_eq_some_iff.mp hf
  refine SX35_312 b2 dX35_setGlue_162 rfl ?_
  cases hf
  exact w_vret dX35_setGlue_165 rfl rfl
def fX35_setGlue_b142 (N : Nat) (l0 : Nat) (l4 : Int32) (s0 : Nat) (s1 : Int32) (s2 : Int32) (h : eH) : Option (Unit × eH) :=
  (q_V 100 h s0 s1 (.int s2)).bind fun h1 =>
  if l4 = 0 then
    (g_I 34 h1 l0 110).bind fun x4 =>
    fX35_setGlue_b162 N l0 x4 h1
  else
    (g_I 34 h1 l0 110).bind fun x6 =>
    fX35_setGlue_b162 N l0 (x6 + (1 : Int32)) h1
theorem pX35_setGlue_b142 {w : eW} {d : Nat} (hd : 0 ≤ d) {N : Nat} {l0 : Nat} {l4 : Int32} {s0 : Nat} {s1 : Int32} {s2 : Int32} {h : eH} {q} (hf : fX35_setGlue_b142 N l0 l4 s0 s1 s2 h = some q) : wp w d YX35_setGlue 142 [some (.ref l0), none, none, none, some (.int l4)] [.int s2, .int s1, .ref s0] h (e_is (e_rn c_V q)) := by
  unfold fX35_setGlue_b142 at hf
  obtain ⟨h1, b2, hf⟩ := Option.bind_eq_some_iff.mp hf
  refine x_qI b2 dX35_setGlue_142 ?_
  refine w_aload_n dX35_setGlue_143 rfl rfl ?_
  refine w_iload dX35_setGlue_144 rfl ?_
  refine w_if_eq 158 dX35_setGlue_146 (by decide) (fun c3 => ?_) (fun c3 => ?_)
  · replace hf := (if_pos (show l4 = 0 from c3)).symm.trans hf
    refine w_aload_n dX35_setGlue_158 rfl rfl ?_
    obtain ⟨x4, b5, hf⟩ := Option.bind_eq_some_iff.mp hf
    refine GX35_312 b5 dX35_setGlue_159 rfl ?_
    exact (pX35_setGlue_b162 hd hf).to trivial
  · replace hf := (if_neg (show ¬ (l4 = 0) from c3)).symm.trans hf
    refine w_aload_n dX35_setGlue_149 rfl rfl ?_
    obtain ⟨x6, b7, hf⟩ := Option.bind_eq_some_iff.mp hf
    refine GX35_312 b7 dX35_setGlue_150 rfl ?_
    refine w_iconst dX35_setGlue_153 (v := 1) (by decide) ?_
    refine w_iadd dX35_setGlue_154 ?_
    refine w_goto 162 dX35_setGlue_155 (by decide) ?_
    exact (pX35_setGlue_b162 hd hf).to trivial
def fX35_setGlue_b115 (N : Nat) (l0 : Nat) (l1 : Int32) (l2 : Int64) (s0 : Int32) (h : eH) : Option (Unit × eH) :=
  (g_A 34 h l0 74).bind fun a1 =>
  if s0 = 0 then
    fX35_setGlue_b142 N l0 s0 a1 l1 (0 : Int32) h
  else
    (g_A 34 h l0 73).bind fun a4 =>
    (r_I 100 h a4 l1).bind fun x6 =>
    fX35_setGlue_b142 N l0 s0 a1 l1 (((-l2) - (x6).toInt64)).toInt32 h
theorem pX35_setGlue_b115 {w : eW} {d : Nat} (hd : 0 ≤ d) {N : Nat} {l0 : Nat} {l1 : Int32} {l2 : Int64} {s0 : Int32} {h : eH} {q} (hf : fX35_setGlue_b115 N l0 l1 l2 s0 h = some q) : wp w d YX35_setGlue 115 [some (.ref l0), some (.int l1), some (.long l2), none, none] [.int s0] h (e_is (e_rn c_V q)) := by
  unfold fX35_setGlue_b115 at hf
  refine w_istore dX35_setGlue_115 (by decide) (ls' := [some (.ref l0), some (.int l1), some (.long l2), none, some (.int s0)]) rfl ?_
  refine w_aload_n dX35_setGlue_117 rfl rfl ?_
  obtain ⟨a1, b2, hf⟩ := Option.bind_eq_some_iff.mp hf
  refine GX35_175 b2 dX35_setGlue_118 rfl ?_
  refine w_iload_n dX35_setGlue_121 rfl rfl ?_
  refine w_iload dX35_setGlue_122 rfl ?_
  refine w_if_eq 141 dX35_setGlue_124 (by decide) (fun c3 => ?_) (fun c3 => ?_)
  · replace hf := (if_pos (show s0 = 0 from c3)).symm.trans hf
    refine w_iconst dX35_setGlue_141 (v := 0) (by decide) ?_
    exact (pX35_setGlue_b142 hd hf).to ⟨rfl, rfl, trivial⟩
  · replace hf := (if_neg (show ¬ (s0 = 0) from c3)).symm.trans hf
    refine w_lload_n dX35_setGlue_127 rfl rfl ?_
    refine w_lneg dX35_setGlue_128 ?_
    refine w_aload_n dX35_setGlue_129 rfl rfl ?_
    obtain ⟨a4, b5, hf⟩ := Option.bind_eq_some_iff.mp hf
    refine GX35_172 b5 dX35_setGlue_130 rfl ?_
    refine w_iload_n dX35_setGlue_133 rfl rfl ?_
    obtain ⟨x6, b7, hf⟩ := Option.bind_eq_some_iff.mp hf
    refine x_rI b7 dX35_setGlue_134 ?_
    refine w_i2l dX35_setGlue_135 ?_
    refine w_lsub dX35_setGlue_136 ?_
    refine w_l2i dX35_setGlue_137 ?_
    refine w_goto 142 dX35_setGlue_138 (by decide) ?_
    exact (pX35_setGlue_b142 hd hf).to ⟨rfl, rfl, trivial⟩
def fX35_setGlue_b114 (N : Nat) (l0 : Nat) (l1 : Int32) (l2 : Int64) (h : eH) : Option (Unit × eH) :=
  fX35_setGlue_b115 N l0 l1 l2 (0 : Int32) h
theorem pX35_setGlue_b114 {w : eW} {d : Nat} (hd : 0 ≤ d) {N : Nat} {l0 : Nat} {l1 : Int32} {l2 : Int64} {h : eH} {q} (hf : fX35_setGlue_b114 N l0 l1 l2 h = some q) : wp w d YX35_setGlue 114 [some (.ref l0), some (.int l1), some (.long l2), none, none] [] h (e_is (e_rn c_V q)) := by
  unfold fX35_setGlue_b114 at hf
  refine w_iconst dX35_setGlue_114 (v := 0) (by decide) ?_
  exact (pX35_setGlue_b115 hd hf).to ⟨rfl, rfl, rfl, trivial⟩
def fX35_setGlue_b91 (N : Nat) (l0 : Nat) (l1 : Int32) (l2 : Int64) (h : eH) : Option (Unit × eH) :=
  if 0 ≤ (lg_cmp l2 (0 : Int64)) then
    fX35_setGlue_b114 N l0 l1 l2 h
  else
    (g_A 34 h l0 73).bind fun a2 =>
    (r_I 100 h a2 l1).bind fun x4 =>
    if 0 ≤ (lg_cmp (x4).toInt64 (-l2)) then
      fX35_setGlue_b114 N l0 l1 l2 h
    else
      fX35_setGlue_b115 N l0 l1 l2 (1 : Int32) h
theorem pX35_setGlue_b91 {w : eW} {d : Nat} (hd : 0 ≤ d) {N : Nat} {l0 : Nat} {l1 : Int32} {l2 : Int64} {h : eH} {q} (hf : fX35_setGlue_b91 N l0 l1 l2 h = some q) : wp w d YX35_setGlue 91 [some (.ref l0), some (.int l1), some (.long l2), none, none] [] h (e_is (e_rn c_V q)) := by
  unfold fX35_setGlue_b91 at hf
  refine w_lload_n dX35_setGlue_91 rfl rfl ?_
  refine w_lconst dX35_setGlue_92 (v := 0) (by decide) ?_
  refine w_lcmp dX35_setGlue_93 ?_
  refine w_if_ge 114 dX35_setGlue_94 (by decide) (fun c1 => ?_) (fun c1 => ?_)
  · replace hf := (if_pos (show 0 ≤ (lg_cmp l2 (0 : Int64)) from c1)).symm.trans hf
    exact (pX35_setGlue_b114 hd hf).to ⟨rfl, rfl, rfl, trivial⟩
  · replace hf := (if_neg (show ¬ (0 ≤ (lg_cmp l2 (0 : Int64))) from c1)).symm.trans hf
    refine w_aload_n dX35_setGlue_97 rfl rfl ?_
    obtain ⟨a2, b3, hf⟩ := Option.bind_eq_some_iff.mp hf
    refine GX35_172 b3 dX35_setGlue_98 rfl ?_
    refine w_iload_n dX35_setGlue_101 rfl rfl ?_
    obtain ⟨x4, b5, hf⟩ := Option.bind_eq_some_iff.mp hf
    refine x_rI b5 dX35_setGlue_102 ?_
    refine w_i2l dX35_setGlue_103 ?_
    refine w_lload_n dX35_setGlue_104 rfl rfl ?_
    refine w_lneg dX35_setGlue_105 ?_
    refine w_lcmp dX35_setGlue_106 ?_
    refine w_if_ge 114 dX35_setGlue_107 (by decide) (fun c6 => ?_) (fun c6 => ?_)
    · replace hf := (if_pos (show 0 ≤ (lg_cmp (x4).toInt64 (-l2)) from c6)).symm.trans hf
      exact (pX35_setGlue_b114 hd hf).to ⟨rfl, rfl, rfl, trivial⟩
    · replace hf := (if_neg (show ¬ (0 ≤ (lg_cmp (x4).toInt64 (-l2))) from c6)).symm.trans hf
      refine w_iconst dX35_setGlue_110 (v := 1) (by decide) ?_
      refine w_goto 115 dX35_setGlue_111 (by decide) ?_
      exact (pX35_setGlue_b115 hd hf).to ⟨rfl, rfl, rfl, trivial⟩
def fX35_setGlue_b39 (N : Nat) : Nat → Nat → Int32 → Int64 → Int32 → eH → Option (Unit × eH)
  | 0, _, _, _, _, _ => none
  | n + 1, l0, l1, l2, l4, h =>
    if (4 : Int32) ≤ l4 then
      fX35_setGlue_b91 N l0 l1 l2 h
    else
      if (lg_cmp l2 (0 : Int64)) ≤ 0 then
        fX35_setGlue_b91 N l0 l1 l2 h
      else
        (g_A 34 h l0 83).bind fun a3 =>
        (r_J h a3 l4).bind fun x5 =>
        if (lg_cmp x5 (0 : Int64)) = 0 then
          fX35_setGlue_b85 N (fX35_setGlue_b39 N n) l0 l1 l2 l4 h
        else
          (g_A 34 h l0 72).bind fun a8 =>
          (q_V 100 h a8 l1 (.int l4)).bind fun h10 =>
          (g_A 34 h10 l0 73).bind fun a12 =>
          (g_A 34 h10 l0 83).bind fun a14 =>
          (r_J h10 a14 l4).bind fun x16 =>
          (q_V 100 h10 a12 l1 (.int (x16).toInt32)).bind fun h18 =>
          fX35_setGlue_b85 N (fX35_setGlue_b39 N n) l0 l1 l2 l4 h18
theorem pX35_setGlue_b39 {w : eW} {d : Nat} (hd : 0 ≤ d) {N : Nat} : ∀ (n : Nat) l0 l1 l2 l4 h q, fX35_setGlue_b39 N n l0 l1 l2 l4 h = some q → wp w d YX35_setGlue 39 [some (.ref l0), some (.int l1), some (.long l2), none, some (.int l4)] [] h (e_is (e_rn c_V q)) := by
  intro n
  induction n with
  | zero => intro l0 l1 l2 l4 h q hf; simp [fX35_setGlue_b39] at hf
  | succ n ih =>
    intro l0 l1 l2 l4 h q hf
    rw [fX35_setGlue_b39] at hf
    refine w_iload dX35_setGlue_39 rfl ?_
    refine w_iconst dX35_setGlue_41 (v := 4) (by decide) ?_
    refine w_icmp_ge 91 dX35_setGlue_42 (by decide) (fun c1 => ?_) (fun c1 => ?_)
    · replace hf := (if_pos (show (4 : Int32) ≤ l4 from c1)).symm.trans hf
      exact (pX35_setGlue_b91 hd hf).to ⟨rfl, rfl, rfl, trivial⟩
    · replace hf := (if_neg (show ¬ ((4 : Int32) ≤ l4) from c1)).symm.trans hf
      refine w_lload_n dX35_setGlue_45 rfl rfl ?_
      refine w_lconst dX35_setGlue_46 (v := 0) (by decide) ?_
      refine w_lcmp dX35_setGlue_47 ?_
      refine w_if_le 91 dX35_setGlue_48 (by decide) (fun c2 => ?_) (fun c2 => ?_)
      · replace hf := (if_pos (show (lg_cmp l2 (0 : Int64)) ≤ 0 from c2)).symm.trans hf
        exact (pX35_setGlue_b91 hd hf).to ⟨rfl, rfl, rfl, trivial⟩
      · replace hf := (if_neg (show ¬ ((lg_cmp l2 (0 : Int64)) ≤ 0) from c2)).symm.trans hf
        refine w_aload_n dX35_setGlue_51 rfl rfl ?_
        obtain ⟨a3, b4, hf⟩ := Option.bind_eq_some_iff.mp hf
        refine GX35_188 b4 dX35_setGlue_52 rfl ?_
        refine w_iload dX35_setGlue_55 rfl ?_
        obtain ⟨x5, b6, hf⟩ := Option.bind_eq_some_iff.mp hf
        refine x_rJ b6 dX35_setGlue_57 ?_
        refine w_lconst dX35_setGlue_58 (v := 0) (by decide) ?_
        refine w_lcmp dX35_setGlue_59 ?_
        refine w_if_eq 85 dX35_setGlue_60 (by decide) (fun c7 => ?_) (fun c7 => ?_)
        · replace hf := (if_pos (show (lg_cmp x5 (0 : Int64)) = 0 from c7)).symm.trans hf
          exact (pX35_setGlue_b85 hd ih hf).to ⟨rfl, rfl, rfl, rfl, trivial⟩
        · replace hf := (if_neg (show ¬ ((lg_cmp x5 (0 : Int64)) = 0) from c7)).symm.trans hf
          refine w_aload_n dX35_setGlue_63 rfl rfl ?_
          obtain ⟨a8, b9, hf⟩ := Option.bind_eq_some_iff.mp hf
          refine GX35_169 b9 dX35_setGlue_64 rfl ?_
          refine w_iload_n dX35_setGlue_67 rfl rfl ?_
          refine w_iload dX35_setGlue_68 rfl ?_
          obtain ⟨h10, b11, hf⟩ := Option.bind_eq_some_iff.mp hf
          refine x_qI b11 dX35_setGlue_70 ?_
          refine w_aload_n dX35_setGlue_71 rfl rfl ?_
          obtain ⟨a12, b13, hf⟩ := Option.bind_eq_some_iff.mp hf
          refine GX35_172 b13 dX35_setGlue_72 rfl ?_
          refine w_iload_n dX35_setGlue_75 rfl rfl ?_
          refine w_aload_n dX35_setGlue_76 rfl rfl ?_
          obtain ⟨a14, b15, hf⟩ := Option.bind_eq_some_iff.mp hf
          refine GX35_188 b15 dX35_setGlue_77 rfl ?_
          refine w_iload dX35_setGlue_80 rfl ?_
          obtain ⟨x16, b17, hf⟩ := Option.bind_eq_some_iff.mp hf
          refine x_rJ b17 dX35_setGlue_82 ?_
          refine w_l2i dX35_setGlue_83 ?_
          obtain ⟨h18, b19, hf⟩ := Option.bind_eq_some_iff.mp hf
          refine x_qI b19 dX35_setGlue_84 ?_
          exact (pX35_setGlue_b85 hd ih hf).to ⟨rfl, rfl, rfl, rfl, trivial⟩
def fX35_setGlue_b35 (N : Nat) (l0 : Nat) (l1 : Int32) (l2 : Int64) (s0 : Nat) (s1 : Int32) (s2 : Int32) (h : eH) : Option (Unit × eH) :=
  (q_V 100 h s0 s1 (.int s2)).bind fun h1 =>
  fX35_setGlue_b39 N N l0 l1 l2 (0 : Int32) h1
theorem pX35_setGlue_b35 {w : eW} {d : Nat} (hd : 0 ≤ d) {N : Nat} {l0 : Nat} {l1 : Int32} {l2 : Int64} {s0 : Nat} {s1 : Int32} {s2 : Int32} {h : eH} {q} (hf : fX35_setGlue_b35 N l0 l1 l2 s0 s1 s2 h = some q) : wp w d YX35_setGlue 35 [some (.ref l0), some (.int l1), some (.long l2), none, none] [.int s2, .int s1, .ref s0] h (e_is (e_rn c_V q)) := by
  unfold fX35_setGlue_b35 at hf
  obtain ⟨h1, b2, hf⟩ := Option.bind_eq_some_iff.mp hf
  refine x_qI b2 dX35_setGlue_35 ?_
  refine w_iconst dX35_setGlue_36 (v := 0) (by decide) ?_
  refine w_istore dX35_setGlue_37 (by decide) (ls' := [some (.ref l0), some (.int l1), some (.long l2), none, some (.int (0 : Int32))]) rfl ?_
  exact (pX35_setGlue_b39 hd N _ _ _ _ _ _ hf).to ⟨rfl, rfl, rfl, rfl, trivial⟩
def fX35_setGlue (N : Nat) (this : Nat) (p0 : Int32) (p1 : Int64) (h : eH) : Option (Unit × eH) :=
  (g_A 34 h this 71).bind fun a1 =>
  (q_V 100 h a1 p0 (.int (p1).toInt32)).bind fun h3 =>
  (g_A 34 h3 this 72).bind fun a5 =>
  (q_V 100 h3 a5 p0 (.int (0 : Int32))).bind fun h7 =>
  (g_A 34 h7 this 73).bind fun a9 =>
  if 0 ≤ (lg_cmp p1 (0 : Int64)) then
    fX35_setGlue_b35 N this p0 p1 a9 p0 (0 : Int32) h7
  else
    (g_J 34 h7 this 85).bind fun x12 =>
    fX35_setGlue_b35 N this p0 p1 a9 p0 (x12).toInt32 h7
theorem pX35_setGlue {w : eW} {d : Nat} (hd : 0 ≤ d) {N : Nat} {this : Nat} {p0 : Int32} {p1 : Int64} {h : eH} {q} (hf : fX35_setGlue N this p0 p1 h = some q) : wm w d YX35_setGlue [.ref this, .int p0, .long p1] h (e_is (e_rn c_V q)) := by
  show wp w d YX35_setGlue 0 [some (.ref this), some (.int p0), some (.long p1), none, none] [] h _
  unfold fX35_setGlue at hf
  refine w_aload_n dX35_setGlue_0 rfl rfl ?_
  obtain ⟨a1, b2, hf⟩ := Option.bind_eq_some_iff.mp hf
  refine GX35_166 b2 dX35_setGlue_1 rfl ?_
  refine w_iload_n dX35_setGlue_4 rfl rfl ?_
  refine w_lload_n dX35_setGlue_5 rfl rfl ?_
  refine w_l2i dX35_setGlue_6 ?_
  obtain ⟨h3, b4, hf⟩ := Option.bind_eq_some_iff.mp hf
  refine x_qI b4 dX35_setGlue_7 ?_
  refine w_aload_n dX35_setGlue_8 rfl rfl ?_
  obtain ⟨a5, b6, hf⟩ := Option.bind_eq_some_iff.mp hf
  refine GX35_169 b6 dX35_setGlue_9 rfl ?_
  refine w_iload_n dX35_setGlue_12 rfl rfl ?_
  refine w_iconst dX35_setGlue_13 (v := 0) (by decide) ?_
  obtain ⟨h7, b8, hf⟩ := Option.bind_eq_some_iff.mp hf
  refine x_qI b8 dX35_setGlue_14 ?_
  refine w_aload_n dX35_setGlue_15 rfl rfl ?_
  obtain ⟨a9, b10, hf⟩ := Option.bind_eq_some_iff.mp hf
  refine GX35_172 b10 dX35_setGlue_16 rfl ?_
  refine w_iload_n dX35_setGlue_19 rfl rfl ?_
  refine w_lload_n dX35_setGlue_20 rfl rfl ?_
  refine w_lconst dX35_setGlue_21 (v := 0) (by decide) ?_
  refine w_lcmp dX35_setGlue_22 ?_
  refine w_if_ge 34 dX35_setGlue_23 (by decide) (fun c11 => ?_) (fun c11 => ?_)
  · replace hf := (if_pos (show 0 ≤ (lg_cmp p1 (0 : Int64)) from c11)).symm.trans hf
    refine w_iconst dX35_setGlue_34 (v := 0) (by decide) ?_
    exact (pX35_setGlue_b35 hd hf).to ⟨rfl, rfl, rfl, trivial⟩
  · replace hf := (if_neg (show ¬ (0 ≤ (lg_cmp p1 (0 : Int64))) from c11)).symm.trans hf
    refine w_aload_n dX35_setGlue_26 rfl rfl ?_
    obtain ⟨x12, b13, hf⟩ := Option.bind_eq_some_iff.mp hf
    refine GX35_966 b13 dX35_setGlue_27 rfl ?_
    refine w_l2i dX35_setGlue_30 ?_
    refine w_goto 35 dX35_setGlue_31 (by decide) ?_
    exact (pX35_setGlue_b35 hd hf).to ⟨rfl, rfl, rfl, trivial⟩
abbrev cX35_pack : ByteArray := prog_37_method_139_code
def yX35_pack : MethodName := ⟨RX35, "pack", "([IIIZII)I"⟩
def YX35_pack : eY := (yX35_pack, cX35_pack, 15, (Option.some FieldType.int), [])
theorem mX35_pack : e_mv YX35_pack RX35 6 := ⟨q5656, qs349, q5657, by decide, by decide +kernel, (e_sig (by decide +kernel))⟩
theorem dX35_pack_0 : decode cX35_pack 0 = .ok (.iconst 0, 1) := dc_3 (by decide +kernel)
theorem dX35_pack_1 : decode cX35_pack 1 = .ok (.istore 7, 2) := dc_54 (a := 7) (by decide +kernel)
theorem dX35_pack_3 : decode cX35_pack 3 = .ok (.iconst 0, 1) := dc_3 (by decide +kernel)
theorem dX35_pack_4 : decode cX35_pack 4 = .ok (.istore 8, 2) := dc_54 (a := 8) (by decide +kernel)
theorem dX35_pack_6 : decode cX35_pack 6 = .ok (.lconst 0, 1) := dc_9 (by decide +kernel)
theorem dX35_pack_7 : decode cX35_pack 7 = .ok (.lstore 9, 2) := dc_55 (a := 9) (by decide +kernel)
theorem dX35_pack_9 : decode cX35_pack 9 = .ok (.iload_n 2, 1) := dc_28 (by decide +kernel)
theorem dX35_pack_10 : decode cX35_pack 10 = .ok (.istore 11, 2) := dc_54 (a := 11) (by decide +kernel)
theorem dX35_pack_12 : decode cX35_pack 12 = .ok (.iload 11, 2) := dc_21 (a := 11) (by decide +kernel)
theorem dX35_pack_14 : decode cX35_pack 14 = .ok (.iload_n 3, 1) := dc_29 (by decide +kernel)
theorem dX35_pack_15 : decode cX35_pack 15 = .ok (.if_icmp .ge 148, 3) := dc_162 (a := 0) (b := 148) (v := 148) (by decide +kernel)
theorem dX35_pack_18 : decode cX35_pack 18 = .ok (.aload_n 1, 1) := dc_43 (by decide +kernel)
theorem dX35_pack_19 : decode cX35_pack 19 = .ok (.bipush 6, 2) := dc_16 (a := 6) (v := 6) (by decide +kernel)
theorem dX35_pack_21 : decode cX35_pack 21 = .ok (.iload 11, 2) := dc_21 (a := 11) (by decide +kernel)
theorem dX35_pack_23 : decode cX35_pack 23 = .ok (.imul, 1) := dc_104 (by decide +kernel)
theorem dX35_pack_24 : decode cX35_pack 24 = .ok (.iaload, 1) := dc_46 (by decide +kernel)
theorem dX35_pack_25 : decode cX35_pack 25 = .ok (.iconst 4, 1) := dc_7 (by decide +kernel)
theorem dX35_pack_26 : decode cX35_pack 26 = .ok (.if_icmp .eq 19, 3) := dc_159 (a := 0) (b := 19) (v := 19) (by decide +kernel)
theorem dX35_pack_29 : decode cX35_pack 29 = .ok (.aload_n 1, 1) := dc_43 (by decide +kernel)
theorem dX35_pack_30 : decode cX35_pack 30 = .ok (.bipush 6, 2) := dc_16 (a := 6) (v := 6) (by decide +kernel)
theorem dX35_pack_32 : decode cX35_pack 32 = .ok (.iload 11, 2) := dc_21 (a := 11) (by decide +kernel)
theorem dX35_pack_34 : decode cX35_pack 34 = .ok (.imul, 1) := dc_104 (by decide +kernel)
theorem dX35_pack_35 : decode cX35_pack 35 = .ok (.iaload, 1) := dc_46 (by decide +kernel)
theorem dX35_pack_36 : decode cX35_pack 36 = .ok (.bipush 6, 2) := dc_16 (a := 6) (v := 6) (by decide +kernel)
theorem dX35_pack_38 : decode cX35_pack 38 = .ok (.if_icmp .eq 7, 3) := dc_159 (a := 0) (b := 7) (v := 7) (by decide +kernel)
theorem dX35_pack_41 : decode cX35_pack 41 = .ok (.iconst 1, 1) := dc_4 (by decide +kernel)
theorem dX35_pack_42 : decode cX35_pack 42 = .ok (.goto 4, 3) := dc_167 (a := 0) (b := 4) (v := 4) (by decide +kernel)
theorem dX35_pack_45 : decode cX35_pack 45 = .ok (.iconst 0, 1) := dc_3 (by decide +kernel)
theorem dX35_pack_46 : decode cX35_pack 46 = .ok (.istore 12, 2) := dc_54 (a := 12) (by decide +kernel)
theorem dX35_pack_48 : decode cX35_pack 48 = .ok (.iload 12, 2) := dc_21 (a := 12) (by decide +kernel)
theorem dX35_pack_50 : decode cX35_pack 50 = .ok (.ifCond .eq 10, 3) := dc_153 (a := 0) (b := 10) (v := 10) (by decide +kernel)
theorem dX35_pack_53 : decode cX35_pack 53 = .ok (.iload 7, 2) := dc_21 (a := 7) (by decide +kernel)
theorem dX35_pack_55 : decode cX35_pack 55 = .ok (.iconst 1, 1) := dc_4 (by decide +kernel)
theorem dX35_pack_56 : decode cX35_pack 56 = .ok (.iadd, 1) := dc_96 (by decide +kernel)
theorem dX35_pack_57 : decode cX35_pack 57 = .ok (.goto 5, 3) := dc_167 (a := 0) (b := 5) (v := 5) (by decide +kernel)
theorem dX35_pack_60 : decode cX35_pack 60 = .ok (.iload 7, 2) := dc_21 (a := 7) (by decide +kernel)
theorem dX35_pack_62 : decode cX35_pack 62 = .ok (.istore 7, 2) := dc_54 (a := 7) (by decide +kernel)
theorem dX35_pack_64 : decode cX35_pack 64 = .ok (.aload_n 1, 1) := dc_43 (by decide +kernel)
theorem dX35_pack_65 : decode cX35_pack 65 = .ok (.bipush 6, 2) := dc_16 (a := 6) (v := 6) (by decide +kernel)
theorem dX35_pack_67 : decode cX35_pack 67 = .ok (.iload 11, 2) := dc_21 (a := 11) (by decide +kernel)
theorem dX35_pack_69 : decode cX35_pack 69 = .ok (.imul, 1) := dc_104 (by decide +kernel)
theorem dX35_pack_70 : decode cX35_pack 70 = .ok (.iaload, 1) := dc_46 (by decide +kernel)
theorem dX35_pack_71 : decode cX35_pack 71 = .ok (.iconst 5, 1) := dc_8 (by decide +kernel)
theorem dX35_pack_72 : decode cX35_pack 72 = .ok (.if_icmp .ne 7, 3) := dc_160 (a := 0) (b := 7) (v := 7) (by decide +kernel)
theorem dX35_pack_75 : decode cX35_pack 75 = .ok (.iconst 1, 1) := dc_4 (by decide +kernel)
theorem dX35_pack_76 : decode cX35_pack 76 = .ok (.goto 4, 3) := dc_167 (a := 0) (b := 4) (v := 4) (by decide +kernel)
theorem dX35_pack_79 : decode cX35_pack 79 = .ok (.iconst 0, 1) := dc_3 (by decide +kernel)
theorem dX35_pack_80 : decode cX35_pack 80 = .ok (.istore 13, 2) := dc_54 (a := 13) (by decide +kernel)
theorem dX35_pack_82 : decode cX35_pack 82 = .ok (.iload 13, 2) := dc_21 (a := 13) (by decide +kernel)
theorem dX35_pack_84 : decode cX35_pack 84 = .ok (.ifCond .eq 39, 3) := dc_153 (a := 0) (b := 39) (v := 39) (by decide +kernel)
theorem dX35_pack_87 : decode cX35_pack 87 = .ok (.aload_n 0, 1) := dc_42 (by decide +kernel)
theorem dX35_pack_88 : decode cX35_pack 88 = .ok (.getfield 178, 3) := dc_180 (a := 0) (b := 178) (n := 178) (by decide +kernel)
theorem dX35_pack_91 : decode cX35_pack 91 = .ok (.aload_n 1, 1) := dc_43 (by decide +kernel)
theorem dX35_pack_92 : decode cX35_pack 92 = .ok (.bipush 6, 2) := dc_16 (a := 6) (v := 6) (by decide +kernel)
theorem dX35_pack_94 : decode cX35_pack 94 = .ok (.iload 11, 2) := dc_21 (a := 11) (by decide +kernel)
theorem dX35_pack_96 : decode cX35_pack 96 = .ok (.imul, 1) := dc_104 (by decide +kernel)
theorem dX35_pack_97 : decode cX35_pack 97 = .ok (.iconst 1, 1) := dc_4 (by decide +kernel)
theorem dX35_pack_98 : decode cX35_pack 98 = .ok (.iadd, 1) := dc_96 (by decide +kernel)
theorem dX35_pack_99 : decode cX35_pack 99 = .ok (.iaload, 1) := dc_46 (by decide +kernel)
theorem dX35_pack_100 : decode cX35_pack 100 = .ok (.iaload, 1) := dc_46 (by decide +kernel)
theorem dX35_pack_101 : decode cX35_pack 101 = .ok (.iload 8, 2) := dc_21 (a := 8) (by decide +kernel)
theorem dX35_pack_103 : decode cX35_pack 103 = .ok (.if_icmp .le 20, 3) := dc_164 (a := 0) (b := 20) (v := 20) (by decide +kernel)
theorem dX35_pack_106 : decode cX35_pack 106 = .ok (.aload_n 0, 1) := dc_42 (by decide +kernel)
theorem dX35_pack_107 : decode cX35_pack 107 = .ok (.getfield 178, 3) := dc_180 (a := 0) (b := 178) (n := 178) (by decide +kernel)
theorem dX35_pack_110 : decode cX35_pack 110 = .ok (.aload_n 1, 1) := dc_43 (by decide +kernel)
theorem dX35_pack_111 : decode cX35_pack 111 = .ok (.bipush 6, 2) := dc_16 (a := 6) (v := 6) (by decide +kernel)
theorem dX35_pack_113 : decode cX35_pack 113 = .ok (.iload 11, 2) := dc_21 (a := 11) (by decide +kernel)
theorem dX35_pack_115 : decode cX35_pack 115 = .ok (.imul, 1) := dc_104 (by decide +kernel)
theorem dX35_pack_116 : decode cX35_pack 116 = .ok (.iconst 1, 1) := dc_4 (by decide +kernel)
theorem dX35_pack_117 : decode cX35_pack 117 = .ok (.iadd, 1) := dc_96 (by decide +kernel)
theorem dX35_pack_118 : decode cX35_pack 118 = .ok (.iaload, 1) := dc_46 (by decide +kernel)
theorem dX35_pack_119 : decode cX35_pack 119 = .ok (.iaload, 1) := dc_46 (by decide +kernel)
theorem dX35_pack_120 : decode cX35_pack 120 = .ok (.goto 5, 3) := dc_167 (a := 0) (b := 5) (v := 5) (by decide +kernel)
theorem dX35_pack_123 : decode cX35_pack 123 = .ok (.iload 8, 2) := dc_21 (a := 8) (by decide +kernel)
theorem dX35_pack_125 : decode cX35_pack 125 = .ok (.istore 8, 2) := dc_54 (a := 8) (by decide +kernel)
theorem dX35_pack_127 : decode cX35_pack 127 = .ok (.iload 13, 2) := dc_21 (a := 13) (by decide +kernel)
theorem dX35_pack_129 : decode cX35_pack 129 = .ok (.ifCond .eq 24, 3) := dc_153 (a := 0) (b := 24) (v := 24) (by decide +kernel)
theorem dX35_pack_132 : decode cX35_pack 132 = .ok (.lload 9, 2) := dc_22 (a := 9) (by decide +kernel)
theorem dX35_pack_134 : decode cX35_pack 134 = .ok (.aload_n 0, 1) := dc_42 (by decide +kernel)
theorem dX35_pack_135 : decode cX35_pack 135 = .ok (.getfield 181, 3) := dc_180 (a := 0) (b := 181) (n := 181) (by decide +kernel)
theorem dX35_pack_138 : decode cX35_pack 138 = .ok (.aload_n 1, 1) := dc_43 (by decide +kernel)
theorem dX35_pack_139 : decode cX35_pack 139 = .ok (.bipush 6, 2) := dc_16 (a := 6) (v := 6) (by decide +kernel)
theorem dX35_pack_141 : decode cX35_pack 141 = .ok (.iload 11, 2) := dc_21 (a := 11) (by decide +kernel)
theorem dX35_pack_143 : decode cX35_pack 143 = .ok (.imul, 1) := dc_104 (by decide +kernel)
theorem dX35_pack_144 : decode cX35_pack 144 = .ok (.iconst 1, 1) := dc_4 (by decide +kernel)
theorem dX35_pack_145 : decode cX35_pack 145 = .ok (.iadd, 1) := dc_96 (by decide +kernel)
theorem dX35_pack_146 : decode cX35_pack 146 = .ok (.iaload, 1) := dc_46 (by decide +kernel)
theorem dX35_pack_147 : decode cX35_pack 147 = .ok (.iaload, 1) := dc_46 (by decide +kernel)
theorem dX35_pack_148 : decode cX35_pack 148 = .ok (.i2l, 1) := dc_133 (by decide +kernel)
theorem dX35_pack_149 : decode cX35_pack 149 = .ok (.ladd, 1) := dc_97 (by decide +kernel)
theorem dX35_pack_150 : decode cX35_pack 150 = .ok (.goto 5, 3) := dc_167 (a := 0) (b := 5) (v := 5) (by decide +kernel)
theorem dX35_pack_153 : decode cX35_pack 153 = .ok (.lload 9, 2) := dc_22 (a := 9) (by decide +kernel)
theorem dX35_pack_155 : decode cX35_pack 155 = .ok (.lstore 9, 2) := dc_55 (a := 9) (by decide +kernel)
theorem dX35_pack_157 : decode cX35_pack 157 = .ok (.iinc 11 1, 3) := dc_132 (a := 11) (b := 1) (v := 1) (by decide +kernel)
theorem dX35_pack_160 : decode cX35_pack 160 = .ok (.goto (-148), 3) := dc_167 (a := 255) (b := 108) (v := -148) (by decide +kernel)
theorem dX35_pack_163 : decode cX35_pack 163 = .ok (.aload_n 0, 1) := dc_42 (by decide +kernel)
theorem dX35_pack_164 : decode cX35_pack 164 = .ok (.getfield 306, 3) := dc_180 (a := 1) (b := 50) (n := 306) (by decide +kernel)
theorem dX35_pack_167 : decode cX35_pack 167 = .ok (.sipush 3000, 3) := dc_17 (a := 11) (b := 184) (v := 3000) (by decide +kernel)
theorem dX35_pack_170 : decode cX35_pack 170 = .ok (.if_icmp .eq 28, 3) := dc_159 (a := 0) (b := 28) (v := 28) (by decide +kernel)
theorem dX35_pack_173 : decode cX35_pack 173 = .ok (.aload_n 0, 1) := dc_42 (by decide +kernel)
theorem dX35_pack_174 : decode cX35_pack 174 = .ok (.getfield 151, 3) := dc_180 (a := 0) (b := 151) (n := 151) (by decide +kernel)
theorem dX35_pack_177 : decode cX35_pack 177 = .ok (.aload_n 0, 1) := dc_42 (by decide +kernel)
theorem dX35_pack_178 : decode cX35_pack 178 = .ok (.getfield 306, 3) := dc_180 (a := 1) (b := 50) (n := 306) (by decide +kernel)
theorem dX35_pack_181 : decode cX35_pack 181 = .ok (.iaload, 1) := dc_46 (by decide +kernel)
theorem dX35_pack_182 : decode cX35_pack 182 = .ok (.iload 7, 2) := dc_21 (a := 7) (by decide +kernel)
theorem dX35_pack_184 : decode cX35_pack 184 = .ok (.iadd, 1) := dc_96 (by decide +kernel)
theorem dX35_pack_185 : decode cX35_pack 185 = .ok (.sipush 20000, 3) := dc_17 (a := 78) (b := 32) (v := 20000) (by decide +kernel)
theorem dX35_pack_188 : decode cX35_pack 188 = .ok (.if_icmp .gt 10, 3) := dc_163 (a := 0) (b := 10) (v := 10) (by decide +kernel)
theorem dX35_pack_191 : decode cX35_pack 191 = .ok (.iload 8, 2) := dc_21 (a := 8) (by decide +kernel)
theorem dX35_pack_193 : decode cX35_pack 193 = .ok (.bipush 10, 2) := dc_16 (a := 10) (v := 10) (by decide +kernel)
theorem dX35_pack_195 : decode cX35_pack 195 = .ok (.if_icmp .ne 10, 3) := dc_160 (a := 0) (b := 10) (v := 10) (by decide +kernel)
theorem dX35_pack_198 : decode cX35_pack 198 = .ok (.aload_n 0, 1) := dc_42 (by decide +kernel)
theorem dX35_pack_199 : decode cX35_pack 199 = .ok (.iconst 2, 1) := dc_5 (by decide +kernel)
theorem dX35_pack_200 : decode cX35_pack 200 = .ok (.invokevirtual 428, 3) := dc_182 (a := 1) (b := 172) (n := 428) (by decide +kernel)
theorem dX35_pack_203 : decode cX35_pack 203 = .ok (.iconst (-1), 1) := dc_2 (by decide +kernel)
theorem dX35_pack_204 : decode cX35_pack 204 = .ok (.ireturn, 1) := dc_172 (by decide +kernel)
theorem dX35_pack_205 : decode cX35_pack 205 = .ok (.aload_n 0, 1) := dc_42 (by decide +kernel)
theorem dX35_pack_206 : decode cX35_pack 206 = .ok (.invokevirtual 991, 3) := dc_182 (a := 3) (b := 223) (n := 991) (by decide +kernel)
theorem dX35_pack_209 : decode cX35_pack 209 = .ok (.aload_n 0, 1) := dc_42 (by decide +kernel)
theorem dX35_pack_210 : decode cX35_pack 210 = .ok (.getfield 151, 3) := dc_180 (a := 0) (b := 151) (n := 151) (by decide +kernel)
theorem dX35_pack_213 : decode cX35_pack 213 = .ok (.aload_n 0, 1) := dc_42 (by decide +kernel)
theorem dX35_pack_214 : decode cX35_pack 214 = .ok (.getfield 306, 3) := dc_180 (a := 1) (b := 50) (n := 306) (by decide +kernel)
theorem dX35_pack_217 : decode cX35_pack 217 = .ok (.iaload, 1) := dc_46 (by decide +kernel)
theorem dX35_pack_218 : decode cX35_pack 218 = .ok (.istore 11, 2) := dc_54 (a := 11) (by decide +kernel)
theorem dX35_pack_220 : decode cX35_pack 220 = .ok (.iload_n 2, 1) := dc_28 (by decide +kernel)
theorem dX35_pack_221 : decode cX35_pack 221 = .ok (.istore 12, 2) := dc_54 (a := 12) (by decide +kernel)
theorem dX35_pack_223 : decode cX35_pack 223 = .ok (.iload 12, 2) := dc_21 (a := 12) (by decide +kernel)
theorem dX35_pack_225 : decode cX35_pack 225 = .ok (.iload_n 3, 1) := dc_29 (by decide +kernel)
theorem dX35_pack_226 : decode cX35_pack 226 = .ok (.if_icmp .ge 86, 3) := dc_162 (a := 0) (b := 86) (v := 86) (by decide +kernel)
theorem dX35_pack_229 : decode cX35_pack 229 = .ok (.aload_n 1, 1) := dc_43 (by decide +kernel)
theorem dX35_pack_230 : decode cX35_pack 230 = .ok (.bipush 6, 2) := dc_16 (a := 6) (v := 6) (by decide +kernel)
theorem dX35_pack_232 : decode cX35_pack 232 = .ok (.iload 12, 2) := dc_21 (a := 12) (by decide +kernel)
theorem dX35_pack_234 : decode cX35_pack 234 = .ok (.imul, 1) := dc_104 (by decide +kernel)
theorem dX35_pack_235 : decode cX35_pack 235 = .ok (.iaload, 1) := dc_46 (by decide +kernel)
theorem dX35_pack_236 : decode cX35_pack 236 = .ok (.iconst 4, 1) := dc_7 (by decide +kernel)
theorem dX35_pack_237 : decode cX35_pack 237 = .ok (.if_icmp .eq 69, 3) := dc_159 (a := 0) (b := 69) (v := 69) (by decide +kernel)
theorem dX35_pack_240 : decode cX35_pack 240 = .ok (.aload_n 1, 1) := dc_43 (by decide +kernel)
theorem dX35_pack_241 : decode cX35_pack 241 = .ok (.bipush 6, 2) := dc_16 (a := 6) (v := 6) (by decide +kernel)
theorem dX35_pack_243 : decode cX35_pack 243 = .ok (.iload 12, 2) := dc_21 (a := 12) (by decide +kernel)
theorem dX35_pack_245 : decode cX35_pack 245 = .ok (.imul, 1) := dc_104 (by decide +kernel)
theorem dX35_pack_246 : decode cX35_pack 246 = .ok (.iaload, 1) := dc_46 (by decide +kernel)
theorem dX35_pack_247 : decode cX35_pack 247 = .ok (.bipush 6, 2) := dc_16 (a := 6) (v := 6) (by decide +kernel)
theorem dX35_pack_249 : decode cX35_pack 249 = .ok (.if_icmp .eq 57, 3) := dc_159 (a := 0) (b := 57) (v := 57) (by decide +kernel)
theorem dX35_pack_252 : decode cX35_pack 252 = .ok (.aload_n 0, 1) := dc_42 (by decide +kernel)
theorem dX35_pack_253 : decode cX35_pack 253 = .ok (.aload_n 1, 1) := dc_43 (by decide +kernel)
theorem dX35_pack_254 : decode cX35_pack 254 = .ok (.bipush 6, 2) := dc_16 (a := 6) (v := 6) (by decide +kernel)
theorem dX35_pack_256 : decode cX35_pack 256 = .ok (.iload 12, 2) := dc_21 (a := 12) (by decide +kernel)
theorem dX35_pack_258 : decode cX35_pack 258 = .ok (.imul, 1) := dc_104 (by decide +kernel)
theorem dX35_pack_259 : decode cX35_pack 259 = .ok (.iload 4, 2) := dc_21 (a := 4) (by decide +kernel)
theorem dX35_pack_261 : decode cX35_pack 261 = .ok (.invokevirtual 994, 3) := dc_182 (a := 3) (b := 226) (n := 994) (by decide +kernel)
theorem dX35_pack_264 : decode cX35_pack 264 = .ok (.iconst 0, 1) := dc_3 (by decide +kernel)
theorem dX35_pack_265 : decode cX35_pack 265 = .ok (.istore 13, 2) := dc_54 (a := 13) (by decide +kernel)
theorem dX35_pack_267 : decode cX35_pack 267 = .ok (.iload 13, 2) := dc_21 (a := 13) (by decide +kernel)
theorem dX35_pack_269 : decode cX35_pack 269 = .ok (.bipush 6, 2) := dc_16 (a := 6) (v := 6) (by decide +kernel)
theorem dX35_pack_271 : decode cX35_pack 271 = .ok (.if_icmp .ge 32, 3) := dc_162 (a := 0) (b := 32) (v := 32) (by decide +kernel)
theorem dX35_pack_274 : decode cX35_pack 274 = .ok (.aload_n 0, 1) := dc_42 (by decide +kernel)
theorem dX35_pack_275 : decode cX35_pack 275 = .ok (.getfield 185, 3) := dc_180 (a := 0) (b := 185) (n := 185) (by decide +kernel)
theorem dX35_pack_278 : decode cX35_pack 278 = .ok (.bipush 6, 2) := dc_16 (a := 6) (v := 6) (by decide +kernel)
theorem dX35_pack_280 : decode cX35_pack 280 = .ok (.iload 11, 2) := dc_21 (a := 11) (by decide +kernel)
theorem dX35_pack_282 : decode cX35_pack 282 = .ok (.imul, 1) := dc_104 (by decide +kernel)
theorem dX35_pack_283 : decode cX35_pack 283 = .ok (.iload 13, 2) := dc_21 (a := 13) (by decide +kernel)
theorem dX35_pack_285 : decode cX35_pack 285 = .ok (.iadd, 1) := dc_96 (by decide +kernel)
theorem dX35_pack_286 : decode cX35_pack 286 = .ok (.aload_n 1, 1) := dc_43 (by decide +kernel)
theorem dX35_pack_287 : decode cX35_pack 287 = .ok (.bipush 6, 2) := dc_16 (a := 6) (v := 6) (by decide +kernel)
theorem dX35_pack_289 : decode cX35_pack 289 = .ok (.iload 12, 2) := dc_21 (a := 12) (by decide +kernel)
theorem dX35_pack_291 : decode cX35_pack 291 = .ok (.imul, 1) := dc_104 (by decide +kernel)
theorem dX35_pack_292 : decode cX35_pack 292 = .ok (.iload 13, 2) := dc_21 (a := 13) (by decide +kernel)
theorem dX35_pack_294 : decode cX35_pack 294 = .ok (.iadd, 1) := dc_96 (by decide +kernel)
theorem dX35_pack_295 : decode cX35_pack 295 = .ok (.iaload, 1) := dc_46 (by decide +kernel)
theorem dX35_pack_296 : decode cX35_pack 296 = .ok (.iastore, 1) := dc_79 (by decide +kernel)
theorem dX35_pack_297 : decode cX35_pack 297 = .ok (.iinc 13 1, 3) := dc_132 (a := 13) (b := 1) (v := 1) (by decide +kernel)
theorem dX35_pack_300 : decode cX35_pack 300 = .ok (.goto (-33), 3) := dc_167 (a := 255) (b := 223) (v := -33) (by decide +kernel)
theorem dX35_pack_303 : decode cX35_pack 303 = .ok (.iinc 11 1, 3) := dc_132 (a := 11) (b := 1) (v := 1) (by decide +kernel)
theorem dX35_pack_306 : decode cX35_pack 306 = .ok (.iinc 12 1, 3) := dc_132 (a := 12) (b := 1) (v := 1) (by decide +kernel)
theorem dX35_pack_309 : decode cX35_pack 309 = .ok (.goto (-86), 3) := dc_167 (a := 255) (b := 170) (v := -86) (by decide +kernel)
theorem dX35_pack_312 : decode cX35_pack 312 = .ok (.aload_n 0, 1) := dc_42 (by decide +kernel)
theorem dX35_pack_313 : decode cX35_pack 313 = .ok (.iload 4, 2) := dc_21 (a := 4) (by decide +kernel)
theorem dX35_pack_315 : decode cX35_pack 315 = .ok (.ifCond .eq 10, 3) := dc_153 (a := 0) (b := 10) (v := 10) (by decide +kernel)
theorem dX35_pack_318 : decode cX35_pack 318 = .ok (.aload_n 0, 1) := dc_42 (by decide +kernel)
theorem dX35_pack_319 : decode cX35_pack 319 = .ok (.getfield 957, 3) := dc_180 (a := 3) (b := 189) (n := 957) (by decide +kernel)
theorem dX35_pack_322 : decode cX35_pack 322 = .ok (.goto 7, 3) := dc_167 (a := 0) (b := 7) (v := 7) (by decide +kernel)
theorem dX35_pack_325 : decode cX35_pack 325 = .ok (.aload_n 0, 1) := dc_42 (by decide +kernel)
theorem dX35_pack_326 : decode cX35_pack 326 = .ok (.getfield 963, 3) := dc_180 (a := 3) (b := 195) (n := 963) (by decide +kernel)
theorem dX35_pack_329 : decode cX35_pack 329 = .ok (.putfield 963, 3) := dc_181 (a := 3) (b := 195) (n := 963) (by decide +kernel)
theorem dX35_pack_332 : decode cX35_pack 332 = .ok (.iload 5, 2) := dc_21 (a := 5) (by decide +kernel)
theorem dX35_pack_334 : decode cX35_pack 334 = .ok (.ifCond .ne 7, 3) := dc_154 (a := 0) (b := 7) (v := 7) (by decide +kernel)
theorem dX35_pack_337 : decode cX35_pack 337 = .ok (.lconst 0, 1) := dc_9 (by decide +kernel)
theorem dX35_pack_338 : decode cX35_pack 338 = .ok (.goto 23, 3) := dc_167 (a := 0) (b := 23) (v := 23) (by decide +kernel)
theorem dX35_pack_341 : decode cX35_pack 341 = .ok (.iload 5, 2) := dc_21 (a := 5) (by decide +kernel)
theorem dX35_pack_343 : decode cX35_pack 343 = .ok (.iconst 1, 1) := dc_4 (by decide +kernel)
theorem dX35_pack_344 : decode cX35_pack 344 = .ok (.if_icmp .ne 14, 3) := dc_160 (a := 0) (b := 14) (v := 14) (by decide +kernel)
theorem dX35_pack_347 : decode cX35_pack 347 = .ok (.iload 6, 2) := dc_21 (a := 6) (by decide +kernel)
theorem dX35_pack_349 : decode cX35_pack 349 = .ok (.i2l, 1) := dc_133 (by decide +kernel)
theorem dX35_pack_350 : decode cX35_pack 350 = .ok (.aload_n 0, 1) := dc_42 (by decide +kernel)
theorem dX35_pack_351 : decode cX35_pack 351 = .ok (.getfield 952, 3) := dc_180 (a := 3) (b := 184) (n := 952) (by decide +kernel)
theorem dX35_pack_354 : decode cX35_pack 354 = .ok (.lsub, 1) := dc_101 (by decide +kernel)
theorem dX35_pack_355 : decode cX35_pack 355 = .ok (.goto 6, 3) := dc_167 (a := 0) (b := 6) (v := 6) (by decide +kernel)
theorem dX35_pack_358 : decode cX35_pack 358 = .ok (.iload 6, 2) := dc_21 (a := 6) (by decide +kernel)
theorem dX35_pack_360 : decode cX35_pack 360 = .ok (.i2l, 1) := dc_133 (by decide +kernel)
theorem dX35_pack_361 : decode cX35_pack 361 = .ok (.lstore 12, 2) := dc_55 (a := 12) (by decide +kernel)
theorem dX35_pack_363 : decode cX35_pack 363 = .ok (.aload_n 0, 1) := dc_42 (by decide +kernel)
theorem dX35_pack_364 : decode cX35_pack 364 = .ok (.aload_n 0, 1) := dc_42 (by decide +kernel)
theorem dX35_pack_365 : decode cX35_pack 365 = .ok (.getfield 954, 3) := dc_180 (a := 3) (b := 186) (n := 954) (by decide +kernel)
theorem dX35_pack_368 : decode cX35_pack 368 = .ok (.ifCond .eq 15, 3) := dc_153 (a := 0) (b := 15) (v := 15) (by decide +kernel)
theorem dX35_pack_371 : decode cX35_pack 371 = .ok (.lload 12, 2) := dc_22 (a := 12) (by decide +kernel)
theorem dX35_pack_373 : decode cX35_pack 373 = .ok (.invokestatic 740, 3) := dc_184 (a := 2) (b := 228) (n := 740) (by decide +kernel)
theorem dX35_pack_376 : decode cX35_pack 376 = .ok (.ifCond .eq 7, 3) := dc_153 (a := 0) (b := 7) (v := 7) (by decide +kernel)
theorem dX35_pack_379 : decode cX35_pack 379 = .ok (.iconst 1, 1) := dc_4 (by decide +kernel)
theorem dX35_pack_380 : decode cX35_pack 380 = .ok (.goto 4, 3) := dc_167 (a := 0) (b := 4) (v := 4) (by decide +kernel)
theorem dX35_pack_383 : decode cX35_pack 383 = .ok (.iconst 0, 1) := dc_3 (by decide +kernel)
theorem dX35_pack_384 : decode cX35_pack 384 = .ok (.putfield 954, 3) := dc_181 (a := 3) (b := 186) (n := 954) (by decide +kernel)
theorem dX35_pack_387 : decode cX35_pack 387 = .ok (.aload_n 0, 1) := dc_42 (by decide +kernel)
theorem dX35_pack_388 : decode cX35_pack 388 = .ok (.lload 12, 2) := dc_22 (a := 12) (by decide +kernel)
theorem dX35_pack_390 : decode cX35_pack 390 = .ok (.invokevirtual 969, 3) := dc_182 (a := 3) (b := 201) (n := 969) (by decide +kernel)
theorem dX35_pack_393 : decode cX35_pack 393 = .ok (.aload_n 0, 1) := dc_42 (by decide +kernel)
theorem dX35_pack_394 : decode cX35_pack 394 = .ok (.getfield 954, 3) := dc_180 (a := 3) (b := 186) (n := 954) (by decide +kernel)
theorem dX35_pack_397 : decode cX35_pack 397 = .ok (.ifCond .eq 23, 3) := dc_153 (a := 0) (b := 23) (v := 23) (by decide +kernel)
theorem dX35_pack_400 : decode cX35_pack 400 = .ok (.aload_n 0, 1) := dc_42 (by decide +kernel)
theorem dX35_pack_401 : decode cX35_pack 401 = .ok (.getfield 963, 3) := dc_180 (a := 3) (b := 195) (n := 963) (by decide +kernel)
theorem dX35_pack_404 : decode cX35_pack 404 = .ok (.invokestatic 740, 3) := dc_184 (a := 2) (b := 228) (n := 740) (by decide +kernel)
theorem dX35_pack_407 : decode cX35_pack 407 = .ok (.ifCond .eq 13, 3) := dc_153 (a := 0) (b := 13) (v := 13) (by decide +kernel)
theorem dX35_pack_410 : decode cX35_pack 410 = .ok (.aload_n 0, 1) := dc_42 (by decide +kernel)
theorem dX35_pack_411 : decode cX35_pack 411 = .ok (.getfield 960, 3) := dc_180 (a := 3) (b := 192) (n := 960) (by decide +kernel)
theorem dX35_pack_414 : decode cX35_pack 414 = .ok (.invokestatic 740, 3) := dc_184 (a := 2) (b := 228) (n := 740) (by decide +kernel)
theorem dX35_pack_417 : decode cX35_pack 417 = .ok (.ifCond .ne 11, 3) := dc_154 (a := 0) (b := 11) (v := 11) (by decide +kernel)
theorem dX35_pack_420 : decode cX35_pack 420 = .ok (.aload_n 0, 1) := dc_42 (by decide +kernel)
theorem dX35_pack_421 : decode cX35_pack 421 = .ok (.bipush 16, 2) := dc_16 (a := 16) (v := 16) (by decide +kernel)
theorem dX35_pack_423 : decode cX35_pack 423 = .ok (.invokevirtual 428, 3) := dc_182 (a := 1) (b := 172) (n := 428) (by decide +kernel)
theorem dX35_pack_426 : decode cX35_pack 426 = .ok (.iconst (-1), 1) := dc_2 (by decide +kernel)
theorem dX35_pack_427 : decode cX35_pack 427 = .ok (.ireturn, 1) := dc_172 (by decide +kernel)
theorem dX35_pack_428 : decode cX35_pack 428 = .ok (.aload_n 0, 1) := dc_42 (by decide +kernel)
theorem dX35_pack_429 : decode cX35_pack 429 = .ok (.getfield 306, 3) := dc_180 (a := 1) (b := 50) (n := 306) (by decide +kernel)
theorem dX35_pack_432 : decode cX35_pack 432 = .ok (.istore 14, 2) := dc_54 (a := 14) (by decide +kernel)
theorem dX35_pack_434 : decode cX35_pack 434 = .ok (.aload_n 0, 1) := dc_42 (by decide +kernel)
theorem dX35_pack_435 : decode cX35_pack 435 = .ok (.dup, 1) := dc_89 (by decide +kernel)
theorem dX35_pack_436 : decode cX35_pack 436 = .ok (.getfield 306, 3) := dc_180 (a := 1) (b := 50) (n := 306) (by decide +kernel)
theorem dX35_pack_439 : decode cX35_pack 439 = .ok (.iconst 1, 1) := dc_4 (by decide +kernel)
theorem dX35_pack_440 : decode cX35_pack 440 = .ok (.iadd, 1) := dc_96 (by decide +kernel)
theorem dX35_pack_441 : decode cX35_pack 441 = .ok (.putfield 306, 3) := dc_181 (a := 1) (b := 50) (n := 306) (by decide +kernel)
theorem dX35_pack_444 : decode cX35_pack 444 = .ok (.aload_n 0, 1) := dc_42 (by decide +kernel)
theorem dX35_pack_445 : decode cX35_pack 445 = .ok (.getfield 151, 3) := dc_180 (a := 0) (b := 151) (n := 151) (by decide +kernel)
theorem dX35_pack_448 : decode cX35_pack 448 = .ok (.aload_n 0, 1) := dc_42 (by decide +kernel)
theorem dX35_pack_449 : decode cX35_pack 449 = .ok (.getfield 306, 3) := dc_180 (a := 1) (b := 50) (n := 306) (by decide +kernel)
theorem dX35_pack_452 : decode cX35_pack 452 = .ok (.iload 11, 2) := dc_21 (a := 11) (by decide +kernel)
theorem dX35_pack_454 : decode cX35_pack 454 = .ok (.iastore, 1) := dc_79 (by decide +kernel)
theorem dX35_pack_455 : decode cX35_pack 455 = .ok (.aload_n 0, 1) := dc_42 (by decide +kernel)
theorem dX35_pack_456 : decode cX35_pack 456 = .ok (.getfield 154, 3) := dc_180 (a := 0) (b := 154) (n := 154) (by decide +kernel)
theorem dX35_pack_459 : decode cX35_pack 459 = .ok (.iload 14, 2) := dc_21 (a := 14) (by decide +kernel)
theorem dX35_pack_461 : decode cX35_pack 461 = .ok (.iload 4, 2) := dc_21 (a := 4) (by decide +kernel)
theorem dX35_pack_463 : decode cX35_pack 463 = .ok (.bastore, 1) := dc_84 (by decide +kernel)
theorem dX35_pack_464 : decode cX35_pack 464 = .ok (.aload_n 0, 1) := dc_42 (by decide +kernel)
theorem dX35_pack_465 : decode cX35_pack 465 = .ok (.getfield 157, 3) := dc_180 (a := 0) (b := 157) (n := 157) (by decide +kernel)
theorem dX35_pack_468 : decode cX35_pack 468 = .ok (.iload 14, 2) := dc_21 (a := 14) (by decide +kernel)
theorem dX35_pack_470 : decode cX35_pack 470 = .ok (.iload 4, 2) := dc_21 (a := 4) (by decide +kernel)
theorem dX35_pack_472 : decode cX35_pack 472 = .ok (.ifCond .eq 10, 3) := dc_153 (a := 0) (b := 10) (v := 10) (by decide +kernel)
theorem dX35_pack_475 : decode cX35_pack 475 = .ok (.aload_n 0, 1) := dc_42 (by decide +kernel)
theorem dX35_pack_476 : decode cX35_pack 476 = .ok (.getfield 960, 3) := dc_180 (a := 3) (b := 192) (n := 960) (by decide +kernel)
theorem dX35_pack_479 : decode cX35_pack 479 = .ok (.goto 7, 3) := dc_167 (a := 0) (b := 7) (v := 7) (by decide +kernel)
theorem dX35_pack_482 : decode cX35_pack 482 = .ok (.aload_n 0, 1) := dc_42 (by decide +kernel)
theorem dX35_pack_483 : decode cX35_pack 483 = .ok (.getfield 952, 3) := dc_180 (a := 3) (b := 184) (n := 952) (by decide +kernel)
theorem dX35_pack_486 : decode cX35_pack 486 = .ok (.l2i, 1) := dc_136 (by decide +kernel)
theorem dX35_pack_487 : decode cX35_pack 487 = .ok (.iastore, 1) := dc_79 (by decide +kernel)
theorem dX35_pack_488 : decode cX35_pack 488 = .ok (.aload_n 0, 1) := dc_42 (by decide +kernel)
theorem dX35_pack_489 : decode cX35_pack 489 = .ok (.getfield 160, 3) := dc_180 (a := 0) (b := 160) (n := 160) (by decide +kernel)
theorem dX35_pack_492 : decode cX35_pack 492 = .ok (.iload 14, 2) := dc_21 (a := 14) (by decide +kernel)
theorem dX35_pack_494 : decode cX35_pack 494 = .ok (.iload 4, 2) := dc_21 (a := 4) (by decide +kernel)
theorem dX35_pack_496 : decode cX35_pack 496 = .ok (.ifCond .eq 10, 3) := dc_153 (a := 0) (b := 10) (v := 10) (by decide +kernel)
theorem dX35_pack_499 : decode cX35_pack 499 = .ok (.aload_n 0, 1) := dc_42 (by decide +kernel)
theorem dX35_pack_500 : decode cX35_pack 500 = .ok (.getfield 952, 3) := dc_180 (a := 3) (b := 184) (n := 952) (by decide +kernel)
theorem dX35_pack_503 : decode cX35_pack 503 = .ok (.goto 7, 3) := dc_167 (a := 0) (b := 7) (v := 7) (by decide +kernel)
theorem dX35_pack_506 : decode cX35_pack 506 = .ok (.aload_n 0, 1) := dc_42 (by decide +kernel)
theorem dX35_pack_507 : decode cX35_pack 507 = .ok (.getfield 960, 3) := dc_180 (a := 3) (b := 192) (n := 960) (by decide +kernel)
theorem dX35_pack_510 : decode cX35_pack 510 = .ok (.l2i, 1) := dc_136 (by decide +kernel)
theorem dX35_pack_511 : decode cX35_pack 511 = .ok (.iastore, 1) := dc_79 (by decide +kernel)
theorem dX35_pack_512 : decode cX35_pack 512 = .ok (.aload_n 0, 1) := dc_42 (by decide +kernel)
theorem dX35_pack_513 : decode cX35_pack 513 = .ok (.getfield 163, 3) := dc_180 (a := 0) (b := 163) (n := 163) (by decide +kernel)
theorem dX35_pack_516 : decode cX35_pack 516 = .ok (.iload 14, 2) := dc_21 (a := 14) (by decide +kernel)
theorem dX35_pack_518 : decode cX35_pack 518 = .ok (.aload_n 0, 1) := dc_42 (by decide +kernel)
theorem dX35_pack_519 : decode cX35_pack 519 = .ok (.getfield 963, 3) := dc_180 (a := 3) (b := 195) (n := 963) (by decide +kernel)
theorem dX35_pack_522 : decode cX35_pack 522 = .ok (.l2i, 1) := dc_136 (by decide +kernel)
theorem dX35_pack_523 : decode cX35_pack 523 = .ok (.iastore, 1) := dc_79 (by decide +kernel)
theorem dX35_pack_524 : decode cX35_pack 524 = .ok (.aload_n 0, 1) := dc_42 (by decide +kernel)
theorem dX35_pack_525 : decode cX35_pack 525 = .ok (.getfield 178, 3) := dc_180 (a := 0) (b := 178) (n := 178) (by decide +kernel)
theorem dX35_pack_528 : decode cX35_pack 528 = .ok (.iload 14, 2) := dc_21 (a := 14) (by decide +kernel)
theorem dX35_pack_530 : decode cX35_pack 530 = .ok (.iload 8, 2) := dc_21 (a := 8) (by decide +kernel)
theorem dX35_pack_532 : decode cX35_pack 532 = .ok (.iconst 1, 1) := dc_4 (by decide +kernel)
theorem dX35_pack_533 : decode cX35_pack 533 = .ok (.iadd, 1) := dc_96 (by decide +kernel)
theorem dX35_pack_534 : decode cX35_pack 534 = .ok (.iastore, 1) := dc_79 (by decide +kernel)
theorem dX35_pack_535 : decode cX35_pack 535 = .ok (.aload_n 0, 1) := dc_42 (by decide +kernel)
theorem dX35_pack_536 : decode cX35_pack 536 = .ok (.getfield 181, 3) := dc_180 (a := 0) (b := 181) (n := 181) (by decide +kernel)
theorem dX35_pack_539 : decode cX35_pack 539 = .ok (.iload 14, 2) := dc_21 (a := 14) (by decide +kernel)
theorem dX35_pack_541 : decode cX35_pack 541 = .ok (.iload 7, 2) := dc_21 (a := 7) (by decide +kernel)
theorem dX35_pack_543 : decode cX35_pack 543 = .ok (.i2l, 1) := dc_133 (by decide +kernel)
theorem dX35_pack_544 : decode cX35_pack 544 = .ok (.lload 9, 2) := dc_22 (a := 9) (by decide +kernel)
theorem dX35_pack_546 : decode cX35_pack 546 = .ok (.ladd, 1) := dc_97 (by decide +kernel)
theorem dX35_pack_547 : decode cX35_pack 547 = .ok (.ldc2_w 997, 3) := dc_20 (a := 3) (b := 229) (n := 997) (by decide +kernel)
theorem dX35_pack_550 : decode cX35_pack 550 = .ok (.lcmp, 1) := dc_148 (by decide +kernel)
theorem dX35_pack_551 : decode cX35_pack 551 = .ok (.ifCond .le 9, 3) := dc_158 (a := 0) (b := 9) (v := 9) (by decide +kernel)
theorem dX35_pack_554 : decode cX35_pack 554 = .ok (.ldc2_w 997, 3) := dc_20 (a := 3) (b := 229) (n := 997) (by decide +kernel)
theorem dX35_pack_557 : decode cX35_pack 557 = .ok (.goto 9, 3) := dc_167 (a := 0) (b := 9) (v := 9) (by decide +kernel)
theorem dX35_pack_560 : decode cX35_pack 560 = .ok (.iload 7, 2) := dc_21 (a := 7) (by decide +kernel)
theorem dX35_pack_562 : decode cX35_pack 562 = .ok (.i2l, 1) := dc_133 (by decide +kernel)
theorem dX35_pack_563 : decode cX35_pack 563 = .ok (.lload 9, 2) := dc_22 (a := 9) (by decide +kernel)
theorem dX35_pack_565 : decode cX35_pack 565 = .ok (.ladd, 1) := dc_97 (by decide +kernel)
theorem dX35_pack_566 : decode cX35_pack 566 = .ok (.l2i, 1) := dc_136 (by decide +kernel)
theorem dX35_pack_567 : decode cX35_pack 567 = .ok (.iastore, 1) := dc_79 (by decide +kernel)
theorem dX35_pack_568 : decode cX35_pack 568 = .ok (.aload_n 0, 1) := dc_42 (by decide +kernel)
theorem dX35_pack_569 : decode cX35_pack 569 = .ok (.iload 14, 2) := dc_21 (a := 14) (by decide +kernel)
theorem dX35_pack_571 : decode cX35_pack 571 = .ok (.lload 12, 2) := dc_22 (a := 12) (by decide +kernel)
theorem dX35_pack_573 : decode cX35_pack 573 = .ok (.invokevirtual 999, 3) := dc_182 (a := 3) (b := 231) (n := 999) (by decide +kernel)
theorem dX35_pack_576 : decode cX35_pack 576 = .ok (.iload 14, 2) := dc_21 (a := 14) (by decide +kernel)
theorem dX35_pack_578 : decode cX35_pack 578 = .ok (.ireturn, 1) := dc_172 (by decide +kernel)
theorem GX35_154 {w : eW} {d : Nat} {Y : eY} {pc : Nat} {ls : eL} {st : List Value} {h : eH} {Q : eO → eH → Prop} {a : Nat} {x : Nat} (hf : g_A 34 h a 67 = some x) (hd : decode Y.2.1 pc = .ok (.getfield 154, 3)) (hY : Y.1.cls = RX35) (kk : wp w d Y (pc + 3) ls (.ref x :: st) h Q) : wp w d Y pc ls (.ref a :: st) h Q := x_gA (ci := 34) (k := 67) hf hd rfl (by decide) (by rw [hY]; exact q4568) kk
theorem GX35_178 {w : eW} {d : Nat} {Y : eY} {pc : Nat} {ls : eL} {st : List Value} {h : eH} {Q : eO → eH → Prop} {a : Nat} {x : Nat} (hf : g_A 34 h a 75 = some x) (hd : decode Y.2.1 pc = .ok (.getfield 178, 3)) (hY : Y.1.cls = RX35) (kk : wp w d Y (pc + 3) ls (.ref x :: st) h Q) : wp w d Y pc ls (.ref a :: st) h Q := x_gA (ci := 34) (k := 75) hf hd rfl (by decide) (by rw [hY]; exact q4576) kk
theorem GX35_185 {w : eW} {d : Nat} {Y : eY} {pc : Nat} {ls : eL} {st : List Value} {h : eH} {Q : eO → eH → Prop} {a : Nat} {x : Nat} (hf : g_A 34 h a 77 = some x) (hd : decode Y.2.1 pc = .ok (.getfield 185, 3)) (hY : Y.1.cls = RX35) (kk : wp w d Y (pc + 3) ls (.ref x :: st) h Q) : wp w d Y pc ls (.ref a :: st) h Q := x_gA (ci := 34) (k := 77) hf hd rfl (by decide) (by rw [hY]; exact q4578) kk
def fX35_pack_b155 (N : Nat) (k12 : Nat → Nat → Int32 → Int32 → Int32 → Int32 → Int32 → Int32 → Int32 → Int64 → Int32 → eH → Option (Int32 × eH)) (l0 : Nat) (l1 : Nat) (l2 : Int32) (l3 : Int32) (l4 : Int32) (l5 : Int32) (l6 : Int32) (l7 : Int32) (l8 : Int32) (l11 : Int32) (s0 : Int64) (h : eH) : Option (Int32 × eH) :=
  k12 l0 l1 l2 l3 l4 l5 l6 l7 l8 s0 (l11 + (1 : Int32)) h
theorem pX35_pack_b155 {w : eW} {d : Nat} (hd : 4 ≤ d + 1) {N : Nat} {k12 : Nat → Nat → Int32 → Int32 → Int32 → Int32 → Int32 → Int32 → Int32 → Int64 → Int32 → eH → Option (Int32 × eH)} (hk12 : ∀ l0 l1 l2 l3 l4 l5 l6 l7 l8 l9 l11 h q, k12 l0 l1 l2 l3 l4 l5 l6 l7 l8 l9 l11 h = some q → wp w (d + 1) YX35_pack 12 [some (.ref l0), some (.ref l1), some (.int l2), some (.int l3), some (.int l4), some (.int l5), some (.int l6), some (.int l7), some (.int l8), some (.long l9), none, some (.int l11), none, none, none] [] h (e_is (e_rn c_I q))) {l0 : Nat} {l1 : Nat} {l2 : Int32} {l3 : Int32} {l4 : Int32} {l5 : Int32} {l6 : Int32} {l7 : Int32} {l8 : Int32} {l11 : Int32} {s0 : Int64} {h : eH} {q} (hf : fX35_pack_b155 N k12 l0 l1 l2 l3 l4 l5 l6 l7 l8 l11 s0 h = some q) : wp w (d + 1) YX35_pack 155 [some (.ref l0), some (.ref l1), some (.int l2), some (.int l3), some (.int l4), some (.int l5), some (.int l6), some (.int l7), some (.int l8), none, none, some (.int l11), none, none, none] [.long s0] h (e_is (e_rn c_I q)) := by
  unfold fX35_pack_b155 at hf
  refine w_lstore dX35_pack_155 (by decide) (ls' := [some (.ref l0), some (.ref l1), some (.int l2), some (.int l3), some (.int l4), some (.int l5), some (.int l6), some (.int l7), some (.int l8), some (.long s0), none, some (.int l11), none, none, none]) rfl ?_
  refine w_iinc dX35_pack_157 (v := (l11 + (1 : Int32))) rfl rfl (by decide) (ls' := [some (.ref l0), some (.ref l1), some (.int l2), some (.int l3), some (.int l4), some (.int l5), some (.int l6), some (.int l7), some (.int l8), some (.long s0), none, some (.int (l11 + (1 : Int32))), none, none, none]) rfl ?_
  refine w_goto 12 dX35_pack_160 (by decide) ?_
  exact (hk12 _ _ _ _ _ _ _ _ _ _ _ _ _ hf).to ⟨rfl, rfl, rfl, rfl, rfl, rfl, rfl, rfl, rfl, rfl, rfl, trivial⟩
def fX35_pack_b125 (N : Nat) (k12 : Nat → Nat → Int32 → Int32 → Int32 → Int32 → Int32 → Int32 → Int32 → Int64 → Int32 → eH → Option (Int32 × eH)) (l0 : Nat) (l1 : Nat) (l2 : Int32) (l3 : Int32) (l4 : Int32) (l5 : Int32) (l6 : Int32) (l7 : Int32) (l9 : Int64) (l11 : Int32) (l13 : Int32) (s0 : Int32) (h : eH) : Option (Int32 × eH) :=
  if l13 = 0 then
    fX35_pack_b155 N k12 l0 l1 l2 l3 l4 l5 l6 l7 s0 l11 l9 h
  else
    (g_A 34 h l0 76).bind fun a2 =>
    (r_I 100 h l1 (((6 : Int32) * l11) + (1 : Int32))).bind fun x4 =>
    (r_I 100 h a2 x4).bind fun x6 =>
    fX35_pack_b155 N k12 l0 l1 l2 l3 l4 l5 l6 l7 s0 l11 (l9 + (x6).toInt64) h
theorem pX35_pack_b125 {w : eW} {d : Nat} (hd : 4 ≤ d + 1) {N : Nat} {k12 : Nat → Nat → Int32 → Int32 → Int32 → Int32 → Int32 → Int32 → Int32 → Int64 → Int32 → eH → Option (Int32 × eH)} (hk12 : ∀ l0 l1 l2 l3 l4 l5 l6 l7 l8 l9 l11 h q, k12 l0 l1 l2 l3 l4 l5 l6 l7 l8 l9 l11 h = some q → wp w (d + 1) YX35_pack 12 [some (.ref l0), some (.ref l1), some (.int l2), some (.int l3), some (.int l4), some (.int l5), some (.int l6), some (.int l7), some (.int l8), some (.long l9), none, some (.int l11), none, none, none] [] h (e_is (e_rn c_I q))) {l0 : Nat} {l1 : Nat} {l2 : Int32} {l3 : Int32} {l4 : Int32} {l5 : Int32} {l6 : Int32} {l7 : Int32} {l9 : Int64} {l11 : Int32} {l13 : Int32} {s0 : Int32} {h : eH} {q} (hf : fX35_pack_b125 N k12 l0 l1 l2 l3 l4 l5 l6 l7 l9 l11 l13 s0 h = some q) : wp w (d + 1) YX35_pack 125 [some (.ref l0), some (.ref l1), some (.int l2), some (.int l3), some (.int l4), some (.int l5), some (.int l6), some (.int l7), none, some (.long l9), none, some (.int l11), none, some (.int l13), none] [.int s0] h (e_is (e_rn c_I q)) := by
  unfold fX35_pack_b125 at hf
  refine w_istore dX35_pack_125 (by decide) (ls' := [some (.ref l0), some (.ref l1), some (.int l2), some (.int l3), some (.int l4), some (.int l5), some (.int l6), some (.int l7), some (.int s0), some (.long l9), none, some (.int l11), none, some (.int l13), none]) rfl ?_
  refine w_iload dX35_pack_127 rfl ?_
  refine w_if_eq 153 dX35_pack_129 (by decide) (fun c1 => ?_) (fun c1 => ?_)
  · replace hf := (if_pos (show l13 = 0 from c1)).symm.trans hf
    refine w_lload dX35_pack_153 rfl ?_
    exact (pX35_pack_b155 hd hk12 hf).to ⟨rfl, rfl, rfl, rfl, rfl, rfl, rfl, rfl, rfl, rfl, trivial⟩
  · replace hf := (if_neg (show ¬ (l13 = 0) from c1)).symm.trans hf
    refine w_lload dX35_pack_132 rfl ?_
    refine w_aload_n dX35_pack_134 rfl rfl ?_
    obtain ⟨a2, b3, hf⟩ := Option.bind_eq_some_iff.mp hf
    refine GX35_181 b3 dX35_pack_135 rfl ?_
    refine w_aload_n dX35_pack_138 rfl rfl ?_
    refine w_bipush dX35_pack_139 (v := 6) (by decide) ?_
    refine w_iload dX35_pack_141 rfl ?_
    refine w_imul dX35_pack_143 ?_
    refine w_iconst dX35_pack_144 (v := 1) (by decide) ?_
    refine w_iadd dX35_pack_145 ?_
    obtain ⟨x4, b5, hf⟩ := Option.bind_eq_some_iff.mp hf
    refine x_rI b5 dX35_pack_146 ?_
    obtain ⟨x6, b7, hf⟩ := Option.bind_eq_some_iff.mp hf
    refine x_rI b7 dX35_pack_147 ?_
    refine w_i2l dX35_pack_148 ?_
    refine w_ladd dX35_pack_149 ?_
    refine w_goto 155 dX35_pack_150 (by decide) ?_
    exact (pX35_pack_b155 hd hk12 hf).to ⟨rfl, rfl, rfl, rfl, rfl, rfl, rfl, rfl, rfl, rfl, trivial⟩
def fX35_pack_b123 (N : Nat) (k12 : Nat → Nat → Int32 → Int32 → Int32 → Int32 → Int32 → Int32 → Int32 → Int64 → Int32 → eH → Option (Int32 × eH)) (l0 : Nat) (l1 : Nat) (l2 : Int32) (l3 : Int32) (l4 : Int32) (l5 : Int32) (l6 : Int32) (l7 : Int32) (l8 : Int32) (l9 : Int64) (l11 : Int32) (l13 : Int32) (h : eH) : Option (Int32 × eH) :=
  fX35_pack_b125 N k12 l0 l1 l2 l3 l4 l5 l6 l7 l9 l11 l13 l8 h
theorem pX35_pack_b123 {w : eW} {d : Nat} (hd : 4 ≤ d + 1) {N : Nat} {k12 : Nat → Nat → Int32 → Int32 → Int32 → Int32 → Int32 → Int32 → Int32 → Int64 → Int32 → eH → Option (Int32 × eH)} (hk12 : ∀ l0 l1 l2 l3 l4 l5 l6 l7 l8 l9 l11 h q, k12 l0 l1 l2 l3 l4 l5 l6 l7 l8 l9 l11 h = some q → wp w (d + 1) YX35_pack 12 [some (.ref l0), some (.ref l1), some (.int l2), some (.int l3), some (.int l4), some (.int l5), some (.int l6), some (.int l7), some (.int l8), some (.long l9), none, some (.int l11), none, none, none] [] h (e_is (e_rn c_I q))) {l0 : Nat} {l1 : Nat} {l2 : Int32} {l3 : Int32} {l4 : Int32} {l5 : Int32} {l6 : Int32} {l7 : Int32} {l8 : Int32} {l9 : Int64} {l11 : Int32} {l13 : Int32} {h : eH} {q} (hf : fX35_pack_b123 N k12 l0 l1 l2 l3 l4 l5 l6 l7 l8 l9 l11 l13 h = some q) : wp w (d + 1) YX35_pack 123 [some (.ref l0), some (.ref l1), some (.int l2), some (.int l3), some (.int l4), some (.int l5), some (.int l6), some (.int l7), some (.int l8), some (.long l9), none, some (.int l11), none, some (.int l13), none] [] h (e_is (e_rn c_I q)) := by
  unfold fX35_pack_b123 at hf
  refine w_iload dX35_pack_123 rfl ?_
  exact (pX35_pack_b125 hd hk12 hf).to ⟨rfl, rfl, rfl, rfl, rfl, rfl, rfl, rfl, rfl, rfl, rfl, trivial⟩
def fX35_pack_b80 (N : Nat) (k12 : Nat → Nat → Int32 → Int32 → Int32 → Int32 → Int32 → Int32 → Int32 → Int64 → Int32 → eH → Option (Int32 × eH)) (l0 : Nat) (l1 : Nat) (l2 : Int32) (l3 : Int32) (l4 : Int32) (l5 : Int32) (l6 : Int32) (l7 : Int32) (l8 : Int32) (l9 : Int64) (l11 : Int32) (s0 : Int32) (h : eH) : Option (Int32 × eH) :=
  if s0 = 0 then
    fX35_pack_b123 N k12 l0 l1 l2 l3 l4 l5 l6 l7 l8 l9 l11 s0 h
  else
    (g_A 34 h l0 75).bind fun a2 =>
    (r_I 100 h l1 (((6 : Int32) * l11) + (1 : Int32))).bind fun x4 =>
    (r_I 100 h a2 x4).bind fun x6 =>
    if x6 ≤ l8 then
      fX35_pack_b123 N k12 l0 l1 l2 l3 l4 l5 l6 l7 l8 l9 l11 s0 h
    else
      (g_A 34 h l0 75).bind fun a9 =>
      (r_I 100 h l1 (((6 : Int32) * l11) + (1 : Int32))).bind fun x11 =>
      (r_I 100 h a9 x11).bind fun x13 =>
      fX35_pack_b125 N k12 l0 l1 l2 l3 l4 l5 l6 l7 l9 l11 s0 x13 h
theorem pX35_pack_b80 {w : eW} {d : Nat} (hd : 4 ≤ d + 1) {N : Nat} {k12 : Nat → Nat → Int32 → Int32 → Int32 → Int32 → Int32 → Int32 → Int32 → Int64 → Int32 → eH → Option (Int32 × eH)} (hk12 : ∀ l0 l1 l2 l3 l4 l5 l6 l7 l8 l9 l11 h q, k12 l0 l1 l2 l3 l4 l5 l6 l7 l8 l9 l11 h = some q → wp w (d + 1) YX35_pack 12 [some (.ref l0), some (.ref l1), some (.int l2), some (.int l3), some (.int l4), some (.int l5), some (.int l6), some (.int l7), some (.int l8), some (.long l9), none, some (.int l11), none, none, none] [] h (e_is (e_rn c_I q))) {l0 : Nat} {l1 : Nat} {l2 : Int32} {l3 : Int32} {l4 : Int32} {l5 : Int32} {l6 : Int32} {l7 : Int32} {l8 : Int32} {l9 : Int64} {l11 : Int32} {s0 : Int32} {h : eH} {q} (hf : fX35_pack_b80 N k12 l0 l1 l2 l3 l4 l5 l6 l7 l8 l9 l11 s0 h = some q) : wp w (d + 1) YX35_pack 80 [some (.ref l0), some (.ref l1), some (.int l2), some (.int l3), some (.int l4), some (.int l5), some (.int l6), some (.int l7), some (.int l8), some (.long l9), none, some (.int l11), none, none, none] [.int s0] h (e_is (e_rn c_I q)) := by
  unfold fX35_pack_b80 at hf
  refine w_istore dX35_pack_80 (by decide) (ls' := [some (.ref l0), some (.ref l1), some (.int l2), some (.int l3), some (.int l4), some (.int l5), some (.int l6), some (.int l7), some (.int l8), some (.long l9), none, some (.int l11), none, some (.int s0), none]) rfl ?_
  refine w_iload dX35_pack_82 rfl ?_
  refine w_if_eq 123 dX35_pack_84 (by decide) (fun c1 => ?_) (fun c1 => ?_)
  · replace hf := (if_pos (show s0 = 0 from c1)).symm.trans hf
    exact (pX35_pack_b123 hd hk12 hf).to ⟨rfl, rfl, rfl, rfl, rfl, rfl, rfl, rfl, rfl, rfl, rfl, rfl, trivial⟩
  · replace hf := (if_neg (show ¬ (s0 = 0) from c1)).symm.trans hf
    refine w_aload_n dX35_pack_87 rfl rfl ?_
    obtain ⟨a2, b3, hf⟩ := Option.bind_eq_some_iff.mp hf
    refine GX35_178 b3 dX35_pack_88 rfl ?_
    refine w_aload_n dX35_pack_91 rfl rfl ?_
    refine w_bipush dX35_pack_92 (v := 6) (by decide) ?_
    refine w_iload dX35_pack_94 rfl ?_
    refine w_imul dX35_pack_96 ?_
    refine w_iconst dX35_pack_97 (v := 1) (by decide) ?_
    refine w_iadd dX35_pack_98 ?_
    obtain ⟨x4, b5, hf⟩ := Option.bind_eq_some_iff.mp hf
    refine x_rI b5 dX35_pack_99 ?_
    obtain ⟨x6, b7, hf⟩ := Option.bind_eq_some_iff.mp hf
    refine x_rI b7 dX35_pack_100 ?_
    refine w_iload dX35_pack_101 rfl ?_
    refine w_icmp_le 123 dX35_pack_103 (by decide) (fun c8 => ?_) (fun c8 => ?_)
    · replace hf := (if_pos (show x6 ≤ l8 from c8)).symm.trans hf
      exact (pX35_pack_b123 hd hk12 hf).to ⟨rfl, rfl, rfl, rfl, rfl, rfl, rfl, rfl, rfl, rfl, rfl, rfl, trivial⟩
    · replace hf := (if_neg (show ¬ (x6 ≤ l8) from c8)).symm.trans hf
      refine w_aload_n dX35_pack_106 rfl rfl ?_
      obtain ⟨a9, b10, hf⟩ := Option.bind_eq_some_iff.mp hf
      refine GX35_178 b10 dX35_pack_107 rfl ?_
      refine w_aload_n dX35_pack_110 rfl rfl ?_
      refine w_bipush dX35_pack_111 (v := 6) (by decide) ?_
      refine w_iload dX35_pack_113 rfl ?_
      refine w_imul dX35_pack_115 ?_
      refine w_iconst dX35_pack_116 (v := 1) (by decide) ?_
      refine w_iadd dX35_pack_117 ?_
      obtain ⟨x11, b12, hf⟩ := Option.bind_eq_some_iff.mp hf
      refine x_rI b12 dX35_pack_118 ?_
      obtain ⟨x13, b14, hf⟩ := Option.bind_eq_some_iff.mp hf
      refine x_rI b14 dX35_pack_119 ?_
      refine w_goto 125 dX35_pack_120 (by decide) ?_
      exact (pX35_pack_b125 hd hk12 hf).to ⟨rfl, rfl, rfl, rfl, rfl, rfl, rfl, rfl, rfl, rfl, rfl, trivial⟩
def fX35_pack_b62 (N : Nat) (k12 : Nat → Nat → Int32 → Int32 → Int32 → Int32 → Int32 → Int32 → Int32 → Int64 → Int32 → eH → Option (Int32 × eH)) (l0 : Nat) (l1 : Nat) (l2 : Int32) (l3 : Int32) (l4 : Int32) (l5 : Int32) (l6 : Int32) (l8 : Int32) (l9 : Int64) (l11 : Int32) (s0 : Int32) (h : eH) : Option (Int32 × eH) :=
  (r_I 100 h l1 ((6 : Int32) * l11)).bind fun x1 =>
  if ¬ x1 = (5 : Int32) then
    fX35_pack_b80 N k12 l0 l1 l2 l3 l4 l5 l6 s0 l8 l9 l11 (0 : Int32) h
  else
    fX35_pack_b80 N k12 l0 l1 l2 l3 l4 l5 l6 s0 l8 l9 l11 (1 : Int32) h
theorem pX35_pack_b62 {w : eW} {d : Nat} (hd : 4 ≤ d + 1) {N : Nat} {k12 : Nat → Nat → Int32 → Int32 → Int32 → Int32 → Int32 → Int32 → Int32 → Int64 → Int32 → eH → Option (Int32 × eH)} (hk12 : ∀ l0 l1 l2 l3 l4 l5 l6 l7 l8 l9 l11 h q, k12 l0 l1 l2 l3 l4 l5 l6 l7 l8 l9 l11 h = some q → wp w (d + 1) YX35_pack 12 [some (.ref l0), some (.ref l1), some (.int l2), some (.int l3), some (.int l4), some (.int l5), some (.int l6), some (.int l7), some (.int l8), some (.long l9), none, some (.int l11), none, none, none] [] h (e_is (e_rn c_I q))) {l0 : Nat} {l1 : Nat} {l2 : Int32} {l3 : Int32} {l4 : Int32} {l5 : Int32} {l6 : Int32} {l8 : Int32} {l9 : Int64} {l11 : Int32} {s0 : Int32} {h : eH} {q} (hf : fX35_pack_b62 N k12 l0 l1 l2 l3 l4 l5 l6 l8 l9 l11 s0 h = some q) : wp w (d + 1) YX35_pack 62 [some (.ref l0), some (.ref l1), some (.int l2), some (.int l3), some (.int l4), some (.int l5), some (.int l6), none, some (.int l8), some (.long l9), none, some (.int l11), none, none, none] [.int s0] h (e_is (e_rn c_I q)) := by
  unfold fX35_pack_b62 at hf
  refine w_istore dX35_pack_62 (by decide) (ls' := [some (.ref l0), some (.ref l1), some (.int l2), some (.int l3), some (.int l4), some (.int l5), some (.int l6), some (.int s0), some (.int l8), some (.long l9), none, some (.int l11), none, none, none]) rfl ?_
  refine w_aload_n dX35_pack_64 rfl rfl ?_
  refine w_bipush dX35_pack_65 (v := 6) (by decide) ?_
  refine w_iload dX35_pack_67 rfl ?_
  refine w_imul dX35_pack_69 ?_
  obtain ⟨x1, b2, hf⟩ := Option.bind_eq_some_iff.mp hf
  refine x_rI b2 dX35_pack_70 ?_
  refine w_iconst dX35_pack_71 (v := 5) (by decide) ?_
  refine w_icmp_ne 79 dX35_pack_72 (by decide) (fun c3 => ?_) (fun c3 => ?_)
  · replace hf := (if_pos (show ¬ x1 = (5 : Int32) from c3)).symm.trans hf
    refine w_iconst dX35_pack_79 (v := 0) (by decide) ?_
    exact (pX35_pack_b80 hd hk12 hf).to ⟨rfl, rfl, rfl, rfl, rfl, rfl, rfl, rfl, rfl, rfl, rfl, trivial⟩
  · replace hf := (if_neg (show ¬ (¬ x1 = (5 : Int32)) from (fun z => z c3))).symm.trans hf
    refine w_iconst dX35_pack_75 (v := 1) (by decide) ?_
    refine w_goto 80 dX35_pack_76 (by decide) ?_
    exact (pX35_pack_b80 hd hk12 hf).to ⟨rfl, rfl, rfl, rfl, rfl, rfl, rfl, rfl, rfl, rfl, rfl, trivial⟩
def fX35_pack_b46 (N : Nat) (k12 : Nat → Nat → Int32 → Int32 → Int32 → Int32 → Int32 → Int32 → Int32 → Int64 → Int32 → eH → Option (Int32 × eH)) (l0 : Nat) (l1 : Nat) (l2 : Int32) (l3 : Int32) (l4 : Int32) (l5 : Int32) (l6 : Int32) (l7 : Int32) (l8 : Int32) (l9 : Int64) (l11 : Int32) (s0 : Int32) (h : eH) : Option (Int32 × eH) :=
  if s0 = 0 then
    fX35_pack_b62 N k12 l0 l1 l2 l3 l4 l5 l6 l8 l9 l11 l7 h
  else
    fX35_pack_b62 N k12 l0 l1 l2 l3 l4 l5 l6 l8 l9 l11 (l7 + (1 : Int32)) h
theorem pX35_pack_b46 {w : eW} {d : Nat} (hd : 4 ≤ d + 1) {N : Nat} {k12 : Nat → Nat → Int32 → Int32 → Int32 → Int32 → Int32 → Int32 → Int32 → Int64 → Int32 → eH → Option (Int32 × eH)} (hk12 : ∀ l0 l1 l2 l3 l4 l5 l6 l7 l8 l9 l11 h q, k12 l0 l1 l2 l3 l4 l5 l6 l7 l8 l9 l11 h = some q → wp w (d + 1) YX35_pack 12 [some (.ref l0), some (.ref l1), some (.int l2), some (.int l3), some (.int l4), some (.int l5), some (.int l6), some (.int l7), some (.int l8), some (.long l9), none, some (.int l11), none, none, none] [] h (e_is (e_rn c_I q))) {l0 : Nat} {l1 : Nat} {l2 : Int32} {l3 : Int32} {l4 : Int32} {l5 : Int32} {l6 : Int32} {l7 : Int32} {l8 : Int32} {l9 : Int64} {l11 : Int32} {s0 : Int32} {h : eH} {q} (hf : fX35_pack_b46 N k12 l0 l1 l2 l3 l4 l5 l6 l7 l8 l9 l11 s0 h = some q) : wp w (d + 1) YX35_pack 46 [some (.ref l0), some (.ref l1), some (.int l2), some (.int l3), some (.int l4), some (.int l5), some (.int l6), some (.int l7), some (.int l8), some (.long l9), none, some (.int l11), none, none, none] [.int s0] h (e_is (e_rn c_I q)) := by
  unfold fX35_pack_b46 at hf
  refine w_istore dX35_pack_46 (by decide) (ls' := [some (.ref l0), some (.ref l1), some (.int l2), some (.int l3), some (.int l4), some (.int l5), some (.int l6), some (.int l7), some (.int l8), some (.long l9), none, some (.int l11), some (.int s0), none, none]) rfl ?_
  refine w_iload dX35_pack_48 rfl ?_
  refine w_if_eq 60 dX35_pack_50 (by decide) (fun c1 => ?_) (fun c1 => ?_)
  · replace hf := (if_pos (show s0 = 0 from c1)).symm.trans hf
    refine w_iload dX35_pack_60 rfl ?_
    exact (pX35_pack_b62 hd hk12 hf).to ⟨rfl, rfl, rfl, rfl, rfl, rfl, rfl, rfl, rfl, rfl, trivial⟩
  · replace hf := (if_neg (show ¬ (s0 = 0) from c1)).symm.trans hf
    refine w_iload dX35_pack_53 rfl ?_
    refine w_iconst dX35_pack_55 (v := 1) (by decide) ?_
    refine w_iadd dX35_pack_56 ?_
    refine w_goto 62 dX35_pack_57 (by decide) ?_
    exact (pX35_pack_b62 hd hk12 hf).to ⟨rfl, rfl, rfl, rfl, rfl, rfl, rfl, rfl, rfl, rfl, trivial⟩
def fX35_pack_b45 (N : Nat) (k12 : Nat → Nat → Int32 → Int32 → Int32 → Int32 → Int32 → Int32 → Int32 → Int64 → Int32 → eH → Option (Int32 × eH)) (l0 : Nat) (l1 : Nat) (l2 : Int32) (l3 : Int32) (l4 : Int32) (l5 : Int32) (l6 : Int32) (l7 : Int32) (l8 : Int32) (l9 : Int64) (l11 : Int32) (h : eH) : Option (Int32 × eH) :=
  fX35_pack_b46 N k12 l0 l1 l2 l3 l4 l5 l6 l7 l8 l9 l11 (0 : Int32) h
theorem pX35_pack_b45 {w : eW} {d : Nat} (hd : 4 ≤ d + 1) {N : Nat} {k12 : Nat → Nat → Int32 → Int32 → Int32 → Int32 → Int32 → Int32 → Int32 → Int64 → Int32 → eH → Option (Int32 × eH)} (hk12 : ∀ l0 l1 l2 l3 l4 l5 l6 l7 l8 l9 l11 h q, k12 l0 l1 l2 l3 l4 l5 l6 l7 l8 l9 l11 h = some q → wp w (d + 1) YX35_pack 12 [some (.ref l0), some (.ref l1), some (.int l2), some (.int l3), some (.int l4), some (.int l5), some (.int l6), some (.int l7), some (.int l8), some (.long l9), none, some (.int l11), none, none, none] [] h (e_is (e_rn c_I q))) {l0 : Nat} {l1 : Nat} {l2 : Int32} {l3 : Int32} {l4 : Int32} {l5 : Int32} {l6 : Int32} {l7 : Int32} {l8 : Int32} {l9 : Int64} {l11 : Int32} {h : eH} {q} (hf : fX35_pack_b45 N k12 l0 l1 l2 l3 l4 l5 l6 l7 l8 l9 l11 h = some q) : wp w (d + 1) YX35_pack 45 [some (.ref l0), some (.ref l1), some (.int l2), some (.int l3), some (.int l4), some (.int l5), some (.int l6), some (.int l7), some (.int l8), some (.long l9), none, some (.int l11), none, none, none] [] h (e_is (e_rn c_I q)) := by
  unfold fX35_pack_b45 at hf
  refine w_iconst dX35_pack_45 (v := 0) (by decide) ?_
  exact (pX35_pack_b46 hd hk12 hf).to ⟨rfl, rfl, rfl, rfl, rfl, rfl, rfl, rfl, rfl, rfl, rfl, trivial⟩
def fX35_pack_b198 (N : Nat) (l0 : Nat) (h : eH) : Option (Int32 × eH) :=
  (k_ok 34 h l0).bind fun _ =>
  (fX35_fail l0 (2 : Int32) h).bind fun q2 =>
  some ((-1 : Int32), q2.2)
theorem pX35_pack_b198 {w : eW} {d : Nat} (hd : 4 ≤ d + 1) {N : Nat} {l0 : Nat} {h : eH} {q} (hf : fX35_pack_b198 N l0 h = some q) : wp w (d + 1) YX35_pack 198 [some (.ref l0), none, none, none, none, none, none, none, none, none, none, none, none, none, none] [] h (e_is (e_rn c_I q)) := by
  unfold fX35_pack_b198 at hf
  refine w_aload_n dX35_pack_198 rfl rfl ?_
  refine w_iconst dX35_pack_199 (v := 2) (by decide) ?_
  obtain ⟨_, b1, hf⟩ := Option.bind_eq_some_iff.mp hf
  refine x_cnV hf (e_stV (Yc := YX35_fail) (ci := 34) (av := [.int (2 : Int32)]) (st := []) dX35_pack_200 q5109 mX35_fail rfl (k_ok_some b1).1 (k_ok_some b1).2) mX35_fail.2.2.1 mX35_fail.2.2.2.2.1 (Nat.le_of_ble_eq_true rfl) (Nat.le_of_ble_eq_true rfl) (fun q hq => pX35_fail (by omega) hq) (fun q2 hf => ?_)
  refine w_iconst dX35_pack_203 (v := -1) (by decide) ?_
  cases hf
  exact w_iret dX35_pack_204 rfl rfl rfl
def fX35_pack_b306 (N : Nat) (k223 : Nat → Nat → Int32 → Int32 → Int32 → Int32 → Int32 → Int32 → Int64 → Int32 → Int32 → eH → Option (Int32 × eH)) (l0 : Nat) (l1 : Nat) (l3 : Int32) (l4 : Int32) (l5 : Int32) (l6 : Int32) (l7 : Int32) (l8 : Int32) (l9 : Int64) (l11 : Int32) (l12 : Int32) (h : eH) : Option (Int32 × eH) :=
  k223 l0 l1 l3 l4 l5 l6 l7 l8 l9 l11 (l12 + (1 : Int32)) h
theorem pX35_pack_b306 {w : eW} {d : Nat} (hd : 4 ≤ d + 1) {N : Nat} {k223 : Nat → Nat → Int32 → Int32 → Int32 → Int32 → Int32 → Int32 → Int64 → Int32 → Int32 → eH → Option (Int32 × eH)} (hk223 : ∀ l0 l1 l3 l4 l5 l6 l7 l8 l9 l11 l12 h q, k223 l0 l1 l3 l4 l5 l6 l7 l8 l9 l11 l12 h = some q → wp w (d + 1) YX35_pack 223 [some (.ref l0), some (.ref l1), none, some (.int l3), some (.int l4), some (.int l5), some (.int l6), some (.int l7), some (.int l8), some (.long l9), none, some (.int l11), some (.int l12), none, none] [] h (e_is (e_rn c_I q))) {l0 : Nat} {l1 : Nat} {l3 : Int32} {l4 : Int32} {l5 : Int32} {l6 : Int32} {l7 : Int32} {l8 : Int32} {l9 : Int64} {l11 : Int32} {l12 : Int32} {h : eH} {q} (hf : fX35_pack_b306 N k223 l0 l1 l3 l4 l5 l6 l7 l8 l9 l11 l12 h = some q) : wp w (d + 1) YX35_pack 306 [some (.ref l0), some (.ref l1), none, some (.int l3), some (.int l4), some (.int l5), some (.int l6), some (.int l7), some (.int l8), some (.long l9), none, some (.int l11), some (.int l12), none, none] [] h (e_is (e_rn c_I q)) := by
  unfold fX35_pack_b306 at hf
  refine w_iinc dX35_pack_306 (v := (l12 + (1 : Int32))) rfl rfl (by decide) (ls' := [some (.ref l0), some (.ref l1), none, some (.int l3), some (.int l4), some (.int l5), some (.int l6), some (.int l7), some (.int l8), some (.long l9), none, some (.int l11), some (.int (l12 + (1 : Int32))), none, none]) rfl ?_
  refine w_goto 223 dX35_pack_309 (by decide) ?_
  exact (hk223 _ _ _ _ _ _ _ _ _ _ _ _ _ hf).to ⟨rfl, rfl, rfl, rfl, rfl, rfl, rfl, rfl, rfl, rfl, rfl, trivial⟩
def fX35_pack_b267 (N : Nat) (k223 : Nat → Nat → Int32 → Int32 → Int32 → Int32 → Int32 → Int32 → Int64 → Int32 → Int32 → eH → Option (Int32 × eH)) : Nat → Nat → Nat → Int32 → Int32 → Int32 → Int32 → Int32 → Int32 → Int64 → Int32 → Int32 → Int32 → eH → Option (Int32 × eH)
  | 0, _, _, _, _, _, _, _, _, _, _, _, _, _ => none
  | n + 1, l0, l1, l3, l4, l5, l6, l7, l8, l9, l11, l12, l13, h =>
    if (6 : Int32) ≤ l13 then
      fX35_pack_b306 N k223 l0 l1 l3 l4 l5 l6 l7 l8 l9 (l11 + (1 : Int32)) l12 h
    else
      (g_A 34 h l0 77).bind fun a2 =>
      (r_I 100 h l1 (((6 : Int32) * l12) + l13)).bind fun x4 =>
      (q_V 100 h a2 (((6 : Int32) * l11) + l13) (.int x4)).bind fun h6 =>
      fX35_pack_b267 N k223 n l0 l1 l3 l4 l5 l6 l7 l8 l9 l11 l12 (l13 + (1 : Int32)) h6
theorem pX35_pack_b267 {w : eW} {d : Nat} (hd : 4 ≤ d + 1) {N : Nat} {k223 : Nat → Nat → Int32 → Int32 → Int32 → Int32 → Int32 → Int32 → Int64 → Int32 → Int32 → eH → Option (Int32 × eH)} (hk223 : ∀ l0 l1 l3 l4 l5 l6 l7 l8 l9 l11 l12 h q, k223 l0 l1 l3 l4 l5 l6 l7 l8 l9 l11 l12 h = some q → wp w (d + 1) YX35_pack 223 [some (.ref l0), some (.ref l1), none, some (.int l3), some (.int l4), some (.int l5), some (.int l6), some (.int l7), some (.int l8), some (.long l9), none, some (.int l11), some (.int l12), none, none] [] h (e_is (e_rn c_I q))) : ∀ (n : Nat) l0 l1 l3 l4 l5 l6 l7 l8 l9 l11 l12 l13 h q, fX35_pack_b267 N k223 n l0 l1 l3 l4 l5 l6 l7 l8 l9 l11 l12 l13 h = some q → wp w (d + 1) YX35_pack 267 [some (.ref l0), some (.ref l1), none, some (.int l3), some (.int l4), some (.int l5), some (.int l6), some (.int l7), some (.int l8), some (.long l9), none, some (.int l11), some (.int l12), some (.int l13), none] [] h (e_is (e_rn c_I q)) := by
  intro n
  induction n with
  | zero => intro l0 l1 l3 l4 l5 l6 l7 l8 l9 l11 l12 l13 h q hf; simp [fX35_pack_b267] at hf
  | succ n ih =>
    intro l0 l1 l3 l4 l5 l6 l7 l8 l9 l11 l12 l13 h q hf
    rw [fX35_pack_b267] at hf
    refine w_iload dX35_pack_267 rfl ?_
    refine w_bipush dX35_pack_269 (v := 6) (by decide) ?_
    refine w_icmp_ge 303 dX35_pack_271 (by decide) (fun c1 => ?_) (fun c1 => ?_)
    · replace hf := (if_pos (show (6 : Int32) ≤ l13 from c1)).symm.trans hf
      refine w_iinc dX35_pack_303 (v := (l11 + (1 : Int32))) rfl rfl (by decide) (ls' := [some (.ref l0), some (.ref l1), none, some (.int l3), some (.int l4), some (.int l5), some (.int l6), some (.int l7), some (.int l8), some (.long l9), none, some (.int (l11 + (1 : Int32))), some (.int l12), some (.int l13), none]) rfl ?_
      exact (pX35_pack_b306 hd hk223 hf).to ⟨rfl, rfl, rfl, rfl, rfl, rfl, rfl, rfl, rfl, rfl, rfl, trivial⟩
    · replace hf := (if_neg (show ¬ ((6 : Int32) ≤ l13) from c1)).symm.trans hf
      refine w_aload_n dX35_pack_274 rfl rfl ?_
      obtain ⟨a2, b3, hf⟩ := Option.bind_eq_some_iff.mp hf
      refine GX35_185 b3 dX35_pack_275 rfl ?_
      refine w_bipush dX35_pack_278 (v := 6) (by decide) ?_
      refine w_iload dX35_pack_280 rfl ?_
      refine w_imul dX35_pack_282 ?_
      refine w_iload dX35_pack_283 rfl ?_
      refine w_iadd dX35_pack_285 ?_
      refine w_aload_n dX35_pack_286 rfl rfl ?_
      refine w_bipush dX35_pack_287 (v := 6) (by decide) ?_
      refine w_iload dX35_pack_289 rfl ?_
      refine w_imul dX35_pack_291 ?_
      refine w_iload dX35_pack_292 rfl ?_
      refine w_iadd dX35_pack_294 ?_
      obtain ⟨x4, b5, hf⟩ := Option.bind_eq_some_iff.mp hf
      refine x_rI b5 dX35_pack_295 ?_
      obtain ⟨h6, b7, hf⟩ := Option.bind_eq_some_iff.mp hf
      refine x_qI b7 dX35_pack_296 ?_
      refine w_iinc dX35_pack_297 (v := (l13 + (1 : Int32))) rfl rfl (by decide) (ls' := [some (.ref l0), some (.ref l1), none, some (.int l3), some (.int l4), some (.int l5), some (.int l6), some (.int l7), some (.int l8), some (.long l9), none, some (.int l11), some (.int l12), some (.int (l13 + (1 : Int32))), none]) rfl ?_
      refine w_goto 267 dX35_pack_300 (by decide) ?_
      exact (ih _ _ _ _ _ _ _ _ _ _ _ _ _ _ hf).to ⟨rfl, rfl, rfl, rfl, rfl, rfl, rfl, rfl, rfl, rfl, rfl, rfl, trivial⟩
def fX35_pack_b420 (N : Nat) (l0 : Nat) (h : eH) : Option (Int32 × eH) :=
  (k_ok 34 h l0).bind fun _ =>
  (fX35_fail l0 (16 : Int32) h).bind fun q2 =>
  some ((-1 : Int32), q2.2)
theorem pX35_pack_b420 {w : eW} {d : Nat} (hd : 4 ≤ d + 1) {N : Nat} {l0 : Nat} {h : eH} {q} (hf : fX35_pack_b420 N l0 h = some q) : wp w (d + 1) YX35_pack 420 [some (.ref l0), none, none, none, none, none, none, none, none, none, none, none, none, none, none] [] h (e_is (e_rn c_I q)) := by
  unfold fX35_pack_b420 at hf
  refine w_aload_n dX35_pack_420 rfl rfl ?_
  refine w_bipush dX35_pack_421 (v := 16) (by decide) ?_
  obtain ⟨_, b1, hf⟩ := Option.bind_eq_some_iff.mp hf
  refine x_cnV hf (e_stV (Yc := YX35_fail) (ci := 34) (av := [.int (16 : Int32)]) (st := []) dX35_pack_423 q5109 mX35_fail rfl (k_ok_some b1).1 (k_ok_some b1).2) mX35_fail.2.2.1 mX35_fail.2.2.2.2.1 (Nat.le_of_ble_eq_true rfl) (Nat.le_of_ble_eq_true rfl) (fun q hq => pX35_fail (by omega) hq) (fun q2 hf => ?_)
  refine w_iconst dX35_pack_426 (v := -1) (by decide) ?_
  cases hf
  exact w_iret dX35_pack_427 rfl rfl rfl
def fX35_pack_b566 (N : Nat) (l0 : Nat) (l12 : Int64) (l14 : Int32) (s0 : Nat) (s1 : Int32) (s2 : Int64) (h : eH) : Option (Int32 × eH) :=
  (q_V 100 h s0 s1 (.int (s2).toInt32)).bind fun h1 =>
  (k_ok 34 h1 l0).bind fun _ =>
  (fX35_setGlue N l0 l14 l12 h1).bind fun q4 =>
  some (l14, q4.2)
theorem pX35_pack_b566 {w : eW} {d : Nat} (hd : 4 ≤ d + 1) {N : Nat} {l0 : Nat} {l12 : Int64} {l14 : Int32} {s0 : Nat} {s1 : Int32} {s2 : Int64} {h : eH} {q} (hf : fX35_pack_b566 N l0 l12 l14 s0 s1 s2 h = some q) : wp w (d + 1) YX35_pack 566 [some (.ref l0), none, none, none, none, none, none, none, none, none, none, none, some (.long l12), none, some (.int l14)] [.long s2, .int s1, .ref s0] h (e_is (e_rn c_I q)) := by
  unfold fX35_pack_b566 at hf
  refine w_l2i dX35_pack_566 ?_
  obtain ⟨h1, b2, hf⟩ := Option.bind_eq_some_iff.mp hf
  refine x_qI b2 dX35_pack_567 ?_
  refine w_aload_n dX35_pack_568 rfl rfl ?_
  refine w_iload dX35_pack_569 rfl ?_
  refine w_lload dX35_pack_571 rfl ?_
  obtain ⟨_, b3, hf⟩ := Option.bind_eq_some_iff.mp hf
  refine x_cnV hf (e_stV (Yc := YX35_setGlue) (ci := 34) (av := [.int l14, .long l12]) (st := []) dX35_pack_573 q5659 mX35_setGlue rfl (k_ok_some b3).1 (k_ok_some b3).2) mX35_setGlue.2.2.1 mX35_setGlue.2.2.2.2.1 (Nat.le_of_ble_eq_true rfl) (Nat.le_of_ble_eq_true rfl) (fun q hq => pX35_setGlue (by omega) hq) (fun q4 hf => ?_)
  refine w_iload dX35_pack_576 rfl ?_
  cases hf
  exact w_iret dX35_pack_578 rfl rfl rfl
def fX35_pack_b510 (N : Nat) (l0 : Nat) (l7 : Int32) (l8 : Int32) (l9 : Int64) (l12 : Int64) (l14 : Int32) (s0 : Nat) (s1 : Int32) (s2 : Int64) (h : eH) : Option (Int32 × eH) :=
  (q_V 100 h s0 s1 (.int (s2).toInt32)).bind fun h1 =>
  (g_A 34 h1 l0 70).bind fun a3 =>
  (g_J 34 h1 l0 82).bind fun x5 =>
  (q_V 100 h1 a3 l14 (.int (x5).toInt32)).bind fun h7 =>
  (g_A 34 h7 l0 75).bind fun a9 =>
  (q_V 100 h7 a9 l14 (.int (l8 + (1 : Int32)))).bind fun h11 =>
  (g_A 34 h11 l0 76).bind fun a13 =>
  if (lg_cmp ((l7).toInt64 + l9) (1000000 : Int64)) ≤ 0 then
    fX35_pack_b566 N l0 l12 l14 a13 l14 ((l7).toInt64 + l9) h11
  else
    fX35_pack_b566 N l0 l12 l14 a13 l14 (1000000 : Int64) h11
theorem pX35_pack_b510 {w : eW} {d : Nat} (hd : 4 ≤ d + 1) {N : Nat} {l0 : Nat} {l7 : Int32} {l8 : Int32} {l9 : Int64} {l12 : Int64} {l14 : Int32} {s0 : Nat} {s1 : Int32} {s2 : Int64} {h : eH} {q} (hf : fX35_pack_b510 N l0 l7 l8 l9 l12 l14 s0 s1 s2 h = some q) : wp w (d + 1) YX35_pack 510 [some (.ref l0), none, none, none, none, none, none, some (.int l7), some (.int l8), some (.long l9), none, none, some (.long l12), none, some (.int l14)] [.long s2, .int s1, .ref s0] h (e_is (e_rn c_I q)) := by
  unfold fX35_pack_b510 at hf
  refine w_l2i dX35_pack_510 ?_
  obtain ⟨h1, b2, hf⟩ := Option.bind_eq_some_iff.mp hf
  refine x_qI b2 dX35_pack_511 ?_
  refine w_aload_n dX35_pack_512 rfl rfl ?_
  obtain ⟨a3, b4, hf⟩ := Option.bind_eq_some_iff.mp hf
  refine GX35_163 b4 dX35_pack_513 rfl ?_
  refine w_iload dX35_pack_516 rfl ?_
  refine w_aload_n dX35_pack_518 rfl rfl ?_
  obtain ⟨x5, b6, hf⟩ := Option.bind_eq_some_iff.mp hf
  refine GX35_963 b6 dX35_pack_519 rfl ?_
  refine w_l2i dX35_pack_522 ?_
  obtain ⟨h7, b8, hf⟩ := Option.bind_eq_some_iff.mp hf
  refine x_qI b8 dX35_pack_523 ?_
  refine w_aload_n dX35_pack_524 rfl rfl ?_
  obtain ⟨a9, b10, hf⟩ := Option.bind_eq_some_iff.mp hf
  refine GX35_178 b10 dX35_pack_525 rfl ?_
  refine w_iload dX35_pack_528 rfl ?_
  refine w_iload dX35_pack_530 rfl ?_
  refine w_iconst dX35_pack_532 (v := 1) (by decide) ?_
  refine w_iadd dX35_pack_533 ?_
  obtain ⟨h11, b12, hf⟩ := Option.bind_eq_some_iff.mp hf
  refine x_qI b12 dX35_pack_534 ?_
  refine w_aload_n dX35_pack_535 rfl rfl ?_
  obtain ⟨a13, b14, hf⟩ := Option.bind_eq_some_iff.mp hf
  refine GX35_181 b14 dX35_pack_536 rfl ?_
  refine w_iload dX35_pack_539 rfl ?_
  refine w_iload dX35_pack_541 rfl ?_
  refine w_i2l dX35_pack_543 ?_
  refine w_lload dX35_pack_544 rfl ?_
  refine w_ladd dX35_pack_546 ?_
  refine w_ldc2 dX35_pack_547 q5658 ?_
  refine w_lcmp dX35_pack_550 ?_
  refine w_if_le 560 dX35_pack_551 (by decide) (fun c15 => ?_) (fun c15 => ?_)
  · replace hf := (if_pos (show (lg_cmp ((l7).toInt64 + l9) (1000000 : Int64)) ≤ 0 from c15)).symm.trans hf
    refine w_iload dX35_pack_560 rfl ?_
    refine w_i2l dX35_pack_562 ?_
    refine w_lload dX35_pack_563 rfl ?_
    refine w_ladd dX35_pack_565 ?_
    exact (pX35_pack_b566 hd hf).to ⟨rfl, rfl, rfl, trivial⟩
  · replace hf := (if_neg (show ¬ ((lg_cmp ((l7).toInt64 + l9) (1000000 : Int64)) ≤ 0) from c15)).symm.trans hf
    refine w_ldc2 dX35_pack_554 q5658 ?_
    refine w_goto 566 dX35_pack_557 (by decide) ?_
    exact (pX35_pack_b566 hd hf).to ⟨rfl, rfl, rfl, trivial⟩
def fX35_pack_b486 (N : Nat) (l0 : Nat) (l4 : Int32) (l7 : Int32) (l8 : Int32) (l9 : Int64) (l12 : Int64) (l14 : Int32) (s0 : Nat) (s1 : Int32) (s2 : Int64) (h : eH) : Option (Int32 × eH) :=
  (q_V 100 h s0 s1 (.int (s2).toInt32)).bind fun h1 =>
  (g_A 34 h1 l0 69).bind fun a3 =>
  if l4 = 0 then
    (g_J 34 h1 l0 81).bind fun x6 =>
    fX35_pack_b510 N l0 l7 l8 l9 l12 l14 a3 l14 x6 h1
  else
    (g_J 34 h1 l0 79).bind fun x8 =>
    fX35_pack_b510 N l0 l7 l8 l9 l12 l14 a3 l14 x8 h1
theorem pX35_pack_b486 {w : eW} {d : Nat} (hd : 4 ≤ d + 1) {N : Nat} {l0 : Nat} {l4 : Int32} {l7 : Int32} {l8 : Int32} {l9 : Int64} {l12 : Int64} {l14 : Int32} {s0 : Nat} {s1 : Int32} {s2 : Int64} {h : eH} {q} (hf : fX35_pack_b486 N l0 l4 l7 l8 l9 l12 l14 s0 s1 s2 h = some q) : wp w (d + 1) YX35_pack 486 [some (.ref l0), none, none, none, some (.int l4), none, none, some (.int l7), some (.int l8), some (.long l9), none, none, some (.long l12), none, some (.int l14)] [.long s2, .int s1, .ref s0] h (e_is (e_rn c_I q)) := by
  unfold fX35_pack_b486 at hf
  refine w_l2i dX35_pack_486 ?_
  obtain ⟨h1, b2, hf⟩ := Option.bind_eq_some_iff.mp hf
  refine x_qI b2 dX35_pack_487 ?_
  refine w_aload_n dX35_pack_488 rfl rfl ?_
  obtain ⟨a3, b4, hf⟩ := Option.bind_eq_some_iff.mp hf
  refine GX35_160 b4 dX35_pack_489 rfl ?_
  refine w_iload dX35_pack_492 rfl ?_
  refine w_iload dX35_pack_494 rfl ?_
  refine w_if_eq 506 dX35_pack_496 (by decide) (fun c5 => ?_) (fun c5 => ?_)
  · replace hf := (if_pos (show l4 = 0 from c5)).symm.trans hf
    refine w_aload_n dX35_pack_506 rfl rfl ?_
    obtain ⟨x6, b7, hf⟩ := Option.bind_eq_some_iff.mp hf
    refine GX35_960 b7 dX35_pack_507 rfl ?_
    exact (pX35_pack_b510 hd hf).to ⟨rfl, rfl, rfl, rfl, rfl, rfl, trivial⟩
  · replace hf := (if_neg (show ¬ (l4 = 0) from c5)).symm.trans hf
    refine w_aload_n dX35_pack_499 rfl rfl ?_
    obtain ⟨x8, b9, hf⟩ := Option.bind_eq_some_iff.mp hf
    refine GX35_952 b9 dX35_pack_500 rfl ?_
    refine w_goto 510 dX35_pack_503 (by decide) ?_
    exact (pX35_pack_b510 hd hf).to ⟨rfl, rfl, rfl, rfl, rfl, rfl, trivial⟩
def fX35_pack_b384 (N : Nat) (l0 : Nat) (l4 : Int32) (l7 : Int32) (l8 : Int32) (l9 : Int64) (l11 : Int32) (l12 : Int64) (s0 : Nat) (s1 : Int32) (h : eH) : Option (Int32 × eH) :=
  (p_Z 34 h s0 78 s1).bind fun h1 =>
  (k_ok 34 h1 l0).bind fun _ =>
  (fX35_grow l0 l12 h1).bind fun q4 =>
  (g_I 34 q4.2 l0 78).bind fun x5 =>
  if x5 = 0 then
    fX35_pack_b420 N l0 q4.2
  else
    (g_J 34 q4.2 l0 82).bind fun x8 =>
    (fX35_isSize x8 q4.2).bind fun q10 =>
    if q10.1 = 0 then
      fX35_pack_b420 N l0 q10.2
    else
      (g_J 34 q10.2 l0 81).bind fun x12 =>
      (fX35_isSize x12 q10.2).bind fun q14 =>
      if ¬ q14.1 = 0 then
        (g_I 34 q14.2 l0 65).bind fun x16 =>
        (g_I 34 q14.2 l0 65).bind fun x18 =>
        (p_V 34 q14.2 l0 65 (.int (x18 + (1 : Int32)))).bind fun h20 =>
        (g_A 34 h20 l0 66).bind fun a22 =>
        (g_I 34 h20 l0 65).bind fun x24 =>
        (q_V 100 h20 a22 x24 (.int l11)).bind fun h26 =>
        (g_A 34 h26 l0 67).bind fun a28 =>
        (q_V 103 h26 a28 x16 (.int (l4 &&& 1))).bind fun h30 =>
        (g_A 34 h30 l0 68).bind fun a32 =>
        if l4 = 0 then
          (g_J 34 h30 l0 79).bind fun x35 =>
          fX35_pack_b486 N l0 l4 l7 l8 l9 l12 x16 a32 x16 x35 h30
        else
          (g_J 34 h30 l0 81).bind fun x37 =>
          fX35_pack_b486 N l0 l4 l7 l8 l9 l12 x16 a32 x16 x37 h30
      else
        fX35_pack_b420 N l0 q14.2
theorem pX35_pack_b384 {w : eW} {d : Nat} (hd : 4 ≤ d + 1) {N : Nat} {l0 : Nat} {l4 : Int32} {l7 : Int32} {l8 : Int32} {l9 : Int64} {l11 : Int32} {l12 : Int64} {s0 : Nat} {s1 : Int32} {h : eH} {q} (hf : fX35_pack_b384 N l0 l4 l7 l8 l9 l11 l12 s0 s1 h = some q) : wp w (d + 1) YX35_pack 384 [some (.ref l0), none, none, none, some (.int l4), none, none, some (.int l7), some (.int l8), some (.long l9), none, some (.int l11), some (.long l12), none, none] [.int s1, .ref s0] h (e_is (e_rn c_I q)) := by
  unfold fX35_pack_b384 at hf
  obtain ⟨h1, b2, hf⟩ := Option.bind_eq_some_iff.mp hf
  refine SX35_954 b2 dX35_pack_384 rfl ?_
  refine w_aload_n dX35_pack_387 rfl rfl ?_
  refine w_lload dX35_pack_388 rfl ?_
  obtain ⟨_, b3, hf⟩ := Option.bind_eq_some_iff.mp hf
  refine x_cnV hf (e_stV (Yc := YX35_grow) (ci := 34) (av := [.long l12]) (st := []) dX35_pack_390 q5554 mX35_grow rfl (k_ok_some b3).1 (k_ok_some b3).2) mX35_grow.2.2.1 mX35_grow.2.2.2.2.1 (Nat.le_of_ble_eq_true rfl) (Nat.le_of_ble_eq_true rfl) (fun q hq => pX35_grow (by omega) hq) (fun q4 hf => ?_)
  refine w_aload_n dX35_pack_393 rfl rfl ?_
  obtain ⟨x5, b6, hf⟩ := Option.bind_eq_some_iff.mp hf
  refine GX35_954 b6 dX35_pack_394 rfl ?_
  refine w_if_eq 420 dX35_pack_397 (by decide) (fun c7 => ?_) (fun c7 => ?_)
  · replace hf := (if_pos (show x5 = 0 from c7)).symm.trans hf
    exact (pX35_pack_b420 hd hf).to ⟨rfl, trivial⟩
  · replace hf := (if_neg (show ¬ (x5 = 0) from c7)).symm.trans hf
    refine w_aload_n dX35_pack_400 rfl rfl ?_
    obtain ⟨x8, b9, hf⟩ := Option.bind_eq_some_iff.mp hf
    refine GX35_963 b9 dX35_pack_401 rfl ?_
    refine x_cnI hf (e_stS (Yc := YX35_isSize) (av := [.long x8]) (st := []) dX35_pack_404 q5412 mX35_isSize) mX35_isSize.2.2.1 mX35_isSize.2.2.2.2.1 (Nat.le_of_ble_eq_true rfl) (Nat.le_of_ble_eq_true rfl) (fun q hq => pX35_isSize (by omega) hq) (fun q10 hf => ?_)
    refine w_if_eq 420 dX35_pack_407 (by decide) (fun c11 => ?_) (fun c11 => ?_)
    · replace hf := (if_pos (show q10.1 = 0 from c11)).symm.trans hf
      exact (pX35_pack_b420 hd hf).to ⟨rfl, trivial⟩
    · replace hf := (if_neg (show ¬ (q10.1 = 0) from c11)).symm.trans hf
      refine w_aload_n dX35_pack_410 rfl rfl ?_
      obtain ⟨x12, b13, hf⟩ := Option.bind_eq_some_iff.mp hf
      refine GX35_960 b13 dX35_pack_411 rfl ?_
      refine x_cnI hf (e_stS (Yc := YX35_isSize) (av := [.long x12]) (st := []) dX35_pack_414 q5412 mX35_isSize) mX35_isSize.2.2.1 mX35_isSize.2.2.2.2.1 (Nat.le_of_ble_eq_true rfl) (Nat.le_of_ble_eq_true rfl) (fun q hq => pX35_isSize (by omega) hq) (fun q14 hf => ?_)
      refine w_if_ne 428 dX35_pack_417 (by decide) (fun c15 => ?_) (fun c15 => ?_)
      · replace hf := (if_pos (show ¬ q14.1 = 0 from c15)).symm.trans hf
        refine w_aload_n dX35_pack_428 rfl rfl ?_
        obtain ⟨x16, b17, hf⟩ := Option.bind_eq_some_iff.mp hf
        refine GX35_306 b17 dX35_pack_429 rfl ?_
        refine w_istore dX35_pack_432 (by decide) (ls' := [some (.ref l0), none, none, none, some (.int l4), none, none, some (.int l7), some (.int l8), some (.long l9), none, some (.int l11), some (.long l12), none, some (.int x16)]) rfl ?_
        refine w_aload_n dX35_pack_434 rfl rfl ?_
        refine w_dup dX35_pack_435 rfl ?_
        obtain ⟨x18, b19, hf⟩ := Option.bind_eq_some_iff.mp hf
        refine GX35_306 b19 dX35_pack_436 rfl ?_
        refine w_iconst dX35_pack_439 (v := 1) (by decide) ?_
        refine w_iadd dX35_pack_440 ?_
        obtain ⟨h20, b21, hf⟩ := Option.bind_eq_some_iff.mp hf
        refine SX35_306 b21 dX35_pack_441 rfl ?_
        refine w_aload_n dX35_pack_444 rfl rfl ?_
        obtain ⟨a22, b23, hf⟩ := Option.bind_eq_some_iff.mp hf
        refine GX35_151 b23 dX35_pack_445 rfl ?_
        refine w_aload_n dX35_pack_448 rfl rfl ?_
        obtain ⟨x24, b25, hf⟩ := Option.bind_eq_some_iff.mp hf
        refine GX35_306 b25 dX35_pack_449 rfl ?_
        refine w_iload dX35_pack_452 rfl ?_
        obtain ⟨h26, b27, hf⟩ := Option.bind_eq_some_iff.mp hf
        refine x_qI b27 dX35_pack_454 ?_
        refine w_aload_n dX35_pack_455 rfl rfl ?_
        obtain ⟨a28, b29, hf⟩ := Option.bind_eq_some_iff.mp hf
        refine GX35_154 b29 dX35_pack_456 rfl ?_
        refine w_iload dX35_pack_459 rfl ?_
        refine w_iload dX35_pack_461 rfl ?_
        obtain ⟨h30, b31, hf⟩ := Option.bind_eq_some_iff.mp hf
        refine x_qZ b31 dX35_pack_463 ?_
        refine w_aload_n dX35_pack_464 rfl rfl ?_
        obtain ⟨a32, b33, hf⟩ := Option.bind_eq_some_iff.mp hf
        refine GX35_157 b33 dX35_pack_465 rfl ?_
        refine w_iload dX35_pack_468 rfl ?_
        refine w_iload dX35_pack_470 rfl ?_
        refine w_if_eq 482 dX35_pack_472 (by decide) (fun c34 => ?_) (fun c34 => ?_)
        · replace hf := (if_pos (show l4 = 0 from c34)).symm.trans hf
          refine w_aload_n dX35_pack_482 rfl rfl ?_
          obtain ⟨x35, b36, hf⟩ := Option.bind_eq_some_iff.mp hf
          refine GX35_952 b36 dX35_pack_483 rfl ?_
          exact (pX35_pack_b486 hd hf).to ⟨rfl, rfl, rfl, rfl, rfl, rfl, rfl, trivial⟩
        · replace hf := (if_neg (show ¬ (l4 = 0) from c34)).symm.trans hf
          refine w_aload_n dX35_pack_475 rfl rfl ?_
          obtain ⟨x37, b38, hf⟩ := Option.bind_eq_some_iff.mp hf
          refine GX35_960 b38 dX35_pack_476 rfl ?_
          refine w_goto 486 dX35_pack_479 (by decide) ?_
          exact (pX35_pack_b486 hd hf).to ⟨rfl, rfl, rfl, rfl, rfl, rfl, rfl, trivial⟩
      · replace hf := (if_neg (show ¬ (¬ q14.1 = 0) from (fun z => z c15))).symm.trans hf
        exact (pX35_pack_b420 hd hf).to ⟨rfl, trivial⟩
def fX35_pack_b383 (N : Nat) (l0 : Nat) (l4 : Int32) (l7 : Int32) (l8 : Int32) (l9 : Int64) (l11 : Int32) (l12 : Int64) (s0 : Nat) (h : eH) : Option (Int32 × eH) :=
  fX35_pack_b384 N l0 l4 l7 l8 l9 l11 l12 s0 (0 : Int32) h
theorem pX35_pack_b383 {w : eW} {d : Nat} (hd : 4 ≤ d + 1) {N : Nat} {l0 : Nat} {l4 : Int32} {l7 : Int32} {l8 : Int32} {l9 : Int64} {l11 : Int32} {l12 : Int64} {s0 : Nat} {h : eH} {q} (hf : fX35_pack_b383 N l0 l4 l7 l8 l9 l11 l12 s0 h = some q) : wp w (d + 1) YX35_pack 383 [some (.ref l0), none, none, none, some (.int l4), none, none, some (.int l7), some (.int l8), some (.long l9), none, some (.int l11), some (.long l12), none, none] [.ref s0] h (e_is (e_rn c_I q)) := by
  unfold fX35_pack_b383 at hf
  refine w_iconst dX35_pack_383 (v := 0) (by decide) ?_
  exact (pX35_pack_b384 hd hf).to ⟨rfl, rfl, rfl, rfl, rfl, rfl, rfl, trivial⟩
def fX35_pack_b361 (N : Nat) (l0 : Nat) (l4 : Int32) (l7 : Int32) (l8 : Int32) (l9 : Int64) (l11 : Int32) (s0 : Int64) (h : eH) : Option (Int32 × eH) :=
  (g_I 34 h l0 78).bind fun x1 =>
  if x1 = 0 then
    fX35_pack_b383 N l0 l4 l7 l8 l9 l11 s0 l0 h
  else
    (fX35_isSize s0 h).bind fun q4 =>
    if q4.1 = 0 then
      fX35_pack_b383 N l0 l4 l7 l8 l9 l11 s0 l0 q4.2
    else
      fX35_pack_b384 N l0 l4 l7 l8 l9 l11 s0 l0 (1 : Int32) q4.2
theorem pX35_pack_b361 {w : eW} {d : Nat} (hd : 4 ≤ d + 1) {N : Nat} {l0 : Nat} {l4 : Int32} {l7 : Int32} {l8 : Int32} {l9 : Int64} {l11 : Int32} {s0 : Int64} {h : eH} {q} (hf : fX35_pack_b361 N l0 l4 l7 l8 l9 l11 s0 h = some q) : wp w (d + 1) YX35_pack 361 [some (.ref l0), none, none, none, some (.int l4), none, none, some (.int l7), some (.int l8), some (.long l9), none, some (.int l11), none, none, none] [.long s0] h (e_is (e_rn c_I q)) := by
  unfold fX35_pack_b361 at hf
  refine w_lstore dX35_pack_361 (by decide) (ls' := [some (.ref l0), none, none, none, some (.int l4), none, none, some (.int l7), some (.int l8), some (.long l9), none, some (.int l11), some (.long s0), none, none]) rfl ?_
  refine w_aload_n dX35_pack_363 rfl rfl ?_
  refine w_aload_n dX35_pack_364 rfl rfl ?_
  obtain ⟨x1, b2, hf⟩ := Option.bind_eq_some_iff.mp hf
  refine GX35_954 b2 dX35_pack_365 rfl ?_
  refine w_if_eq 383 dX35_pack_368 (by decide) (fun c3 => ?_) (fun c3 => ?_)
  · replace hf := (if_pos (show x1 = 0 from c3)).symm.trans hf
    exact (pX35_pack_b383 hd hf).to ⟨rfl, rfl, rfl, rfl, rfl, rfl, rfl, trivial⟩
  · replace hf := (if_neg (show ¬ (x1 = 0) from c3)).symm.trans hf
    refine w_lload dX35_pack_371 rfl ?_
    refine x_cnI hf (e_stS (Yc := YX35_isSize) (av := [.long s0]) (st := [.ref l0]) dX35_pack_373 q5412 mX35_isSize) mX35_isSize.2.2.1 mX35_isSize.2.2.2.2.1 (Nat.le_of_ble_eq_true rfl) (Nat.le_of_ble_eq_true rfl) (fun q hq => pX35_isSize (by omega) hq) (fun q4 hf => ?_)
    refine w_if_eq 383 dX35_pack_376 (by decide) (fun c5 => ?_) (fun c5 => ?_)
    · replace hf := (if_pos (show q4.1 = 0 from c5)).symm.trans hf
      exact (pX35_pack_b383 hd hf).to ⟨rfl, rfl, rfl, rfl, rfl, rfl, rfl, trivial⟩
    · replace hf := (if_neg (show ¬ (q4.1 = 0) from c5)).symm.trans hf
      refine w_iconst dX35_pack_379 (v := 1) (by decide) ?_
      refine w_goto 384 dX35_pack_380 (by decide) ?_
      exact (pX35_pack_b384 hd hf).to ⟨rfl, rfl, rfl, rfl, rfl, rfl, rfl, trivial⟩
def fX35_pack_b329 (N : Nat) (l0 : Nat) (l4 : Int32) (l5 : Int32) (l6 : Int32) (l7 : Int32) (l8 : Int32) (l9 : Int64) (l11 : Int32) (s0 : Nat) (s1 : Int64) (h : eH) : Option (Int32 × eH) :=
  (p_V 34 h s0 82 (.long s1)).bind fun h1 =>
  if ¬ l5 = 0 then
    if ¬ l5 = (1 : Int32) then
      fX35_pack_b361 N l0 l4 l7 l8 l9 l11 (l6).toInt64 h1
    else
      (g_J 34 h1 l0 79).bind fun x5 =>
      fX35_pack_b361 N l0 l4 l7 l8 l9 l11 ((l6).toInt64 - x5) h1
  else
    fX35_pack_b361 N l0 l4 l7 l8 l9 l11 (0 : Int64) h1
theorem pX35_pack_b329 {w : eW} {d : Nat} (hd : 4 ≤ d + 1) {N : Nat} {l0 : Nat} {l4 : Int32} {l5 : Int32} {l6 : Int32} {l7 : Int32} {l8 : Int32} {l9 : Int64} {l11 : Int32} {s0 : Nat} {s1 : Int64} {h : eH} {q} (hf : fX35_pack_b329 N l0 l4 l5 l6 l7 l8 l9 l11 s0 s1 h = some q) : wp w (d + 1) YX35_pack 329 [some (.ref l0), none, none, none, some (.int l4), some (.int l5), some (.int l6), some (.int l7), some (.int l8), some (.long l9), none, some (.int l11), none, none, none] [.long s1, .ref s0] h (e_is (e_rn c_I q)) := by
  unfold fX35_pack_b329 at hf
  obtain ⟨h1, b2, hf⟩ := Option.bind_eq_some_iff.mp hf
  refine SX35_963 b2 dX35_pack_329 rfl ?_
  refine w_iload dX35_pack_332 rfl ?_
  refine w_if_ne 341 dX35_pack_334 (by decide) (fun c3 => ?_) (fun c3 => ?_)
  · replace hf := (if_pos (show ¬ l5 = 0 from c3)).symm.trans hf
    refine w_iload dX35_pack_341 rfl ?_
    refine w_iconst dX35_pack_343 (v := 1) (by decide) ?_
    refine w_icmp_ne 358 dX35_pack_344 (by decide) (fun c4 => ?_) (fun c4 => ?_)
    · replace hf := (if_pos (show ¬ l5 = (1 : Int32) from c4)).symm.trans hf
      refine w_iload dX35_pack_358 rfl ?_
      refine w_i2l dX35_pack_360 ?_
      exact (pX35_pack_b361 hd hf).to ⟨rfl, rfl, rfl, rfl, rfl, rfl, trivial⟩
    · replace hf := (if_neg (show ¬ (¬ l5 = (1 : Int32)) from (fun z => z c4))).symm.trans hf
      refine w_iload dX35_pack_347 rfl ?_
      refine w_i2l dX35_pack_349 ?_
      refine w_aload_n dX35_pack_350 rfl rfl ?_
      obtain ⟨x5, b6, hf⟩ := Option.bind_eq_some_iff.mp hf
      refine GX35_952 b6 dX35_pack_351 rfl ?_
      refine w_lsub dX35_pack_354 ?_
      refine w_goto 361 dX35_pack_355 (by decide) ?_
      exact (pX35_pack_b361 hd hf).to ⟨rfl, rfl, rfl, rfl, rfl, rfl, trivial⟩
  · replace hf := (if_neg (show ¬ (¬ l5 = 0) from (fun z => z c3))).symm.trans hf
    refine w_lconst dX35_pack_337 (v := 0) (by decide) ?_
    refine w_goto 361 dX35_pack_338 (by decide) ?_
    exact (pX35_pack_b361 hd hf).to ⟨rfl, rfl, rfl, rfl, rfl, rfl, trivial⟩
def fX35_pack_b223 (N : Nat) : Nat → Nat → Nat → Int32 → Int32 → Int32 → Int32 → Int32 → Int32 → Int64 → Int32 → Int32 → eH → Option (Int32 × eH)
  | 0, _, _, _, _, _, _, _, _, _, _, _, _ => none
  | n + 1, l0, l1, l3, l4, l5, l6, l7, l8, l9, l11, l12, h =>
    if l3 ≤ l12 then
      if l4 = 0 then
        (g_J 34 h l0 82).bind fun x3 =>
        fX35_pack_b329 N l0 l4 l5 l6 l7 l8 l9 l11 l0 x3 h
      else
        (g_J 34 h l0 80).bind fun x5 =>
        fX35_pack_b329 N l0 l4 l5 l6 l7 l8 l9 l11 l0 x5 h
    else
      (r_I 100 h l1 ((6 : Int32) * l12)).bind fun x7 =>
      if x7 = (4 : Int32) then
        fX35_pack_b306 N (fX35_pack_b223 N n) l0 l1 l3 l4 l5 l6 l7 l8 l9 l11 l12 h
      else
        (r_I 100 h l1 ((6 : Int32) * l12)).bind fun x10 =>
        if x10 = (6 : Int32) then
          fX35_pack_b306 N (fX35_pack_b223 N n) l0 l1 l3 l4 l5 l6 l7 l8 l9 l11 l12 h
        else
          (k_ok 34 h l0).bind fun _ =>
          (fX35_add l0 l1 ((6 : Int32) * l12) l4 h).bind fun q14 =>
          fX35_pack_b267 N (fX35_pack_b223 N n) N l0 l1 l3 l4 l5 l6 l7 l8 l9 l11 l12 (0 : Int32) q14.2
theorem pX35_pack_b223 {w : eW} {d : Nat} (hd : 4 ≤ d + 1) {N : Nat} : ∀ (n : Nat) l0 l1 l3 l4 l5 l6 l7 l8 l9 l11 l12 h q, fX35_pack_b223 N n l0 l1 l3 l4 l5 l6 l7 l8 l9 l11 l12 h = some q → wp w (d + 1) YX35_pack 223 [some (.ref l0), some (.ref l1), none, some (.int l3), some (.int l4), some (.int l5), some (.int l6), some (.int l7), some (.int l8), some (.long l9), none, some (.int l11), some (.int l12), none, none] [] h (e_is (e_rn c_I q)) := by
  intro n
  induction n with
  | zero => intro l0 l1 l3 l4 l5 l6 l7 l8 l9 l11 l12 h q hf; simp [fX35_pack_b223] at hf
  | succ n ih =>
    intro l0 l1 l3 l4 l5 l6 l7 l8 l9 l11 l12 h q hf
    rw [fX35_pack_b223] at hf
    refine w_iload dX35_pack_223 rfl ?_
    refine w_iload_n dX35_pack_225 rfl rfl ?_
    refine w_icmp_ge 312 dX35_pack_226 (by decide) (fun c1 => ?_) (fun c1 => ?_)
    · replace hf := (if_pos (show l3 ≤ l12 from c1)).symm.trans hf
      refine w_aload_n dX35_pack_312 rfl rfl ?_
      refine w_iload dX35_pack_313 rfl ?_
      refine w_if_eq 325 dX35_pack_315 (by decide) (fun c2 => ?_) (fun c2 => ?_)
      · replace hf := (if_pos (show l4 = 0 from c2)).symm.trans hf
        refine w_aload_n dX35_pack_325 rfl rfl ?_
        obtain ⟨x3, b4, hf⟩ := Option.bind_eq_some_iff.mp hf
        refine GX35_963 b4 dX35_pack_326 rfl ?_
        exact (pX35_pack_b329 hd hf).to ⟨rfl, rfl, rfl, rfl, rfl, rfl, rfl, rfl, trivial⟩
      · replace hf := (if_neg (show ¬ (l4 = 0) from c2)).symm.trans hf
        refine w_aload_n dX35_pack_318 rfl rfl ?_
        obtain ⟨x5, b6, hf⟩ := Option.bind_eq_some_iff.mp hf
        refine GX35_957 b6 dX35_pack_319 rfl ?_
        refine w_goto 329 dX35_pack_322 (by decide) ?_
        exact (pX35_pack_b329 hd hf).to ⟨rfl, rfl, rfl, rfl, rfl, rfl, rfl, rfl, trivial⟩
    · replace hf := (if_neg (show ¬ (l3 ≤ l12) from c1)).symm.trans hf
      refine w_aload_n dX35_pack_229 rfl rfl ?_
      refine w_bipush dX35_pack_230 (v := 6) (by decide) ?_
      refine w_iload dX35_pack_232 rfl ?_
      refine w_imul dX35_pack_234 ?_
      obtain ⟨x7, b8, hf⟩ := Option.bind_eq_some_iff.mp hf
      refine x_rI b8 dX35_pack_235 ?_
      refine w_iconst dX35_pack_236 (v := 4) (by decide) ?_
      refine w_icmp_eq 306 dX35_pack_237 (by decide) (fun c9 => ?_) (fun c9 => ?_)
      · replace hf := (if_pos (show x7 = (4 : Int32) from c9)).symm.trans hf
        exact (pX35_pack_b306 hd ih hf).to ⟨rfl, rfl, rfl, rfl, rfl, rfl, rfl, rfl, rfl, rfl, rfl, trivial⟩
      · replace hf := (if_neg (show ¬ (x7 = (4 : Int32)) from c9)).symm.trans hf
        refine w_aload_n dX35_pack_240 rfl rfl ?_
        refine w_bipush dX35_pack_241 (v := 6) (by decide) ?_
        refine w_iload dX35_pack_243 rfl ?_
        refine w_imul dX35_pack_245 ?_
        obtain ⟨x10, b11, hf⟩ := Option.bind_eq_some_iff.mp hf
        refine x_rI b11 dX35_pack_246 ?_
        refine w_bipush dX35_pack_247 (v := 6) (by decide) ?_
        refine w_icmp_eq 306 dX35_pack_249 (by decide) (fun c12 => ?_) (fun c12 => ?_)
        · replace hf := (if_pos (show x10 = (6 : Int32) from c12)).symm.trans hf
          exact (pX35_pack_b306 hd ih hf).to ⟨rfl, rfl, rfl, rfl, rfl, rfl, rfl, rfl, rfl, rfl, rfl, trivial⟩
        · replace hf := (if_neg (show ¬ (x10 = (6 : Int32)) from c12)).symm.trans hf
          refine w_aload_n dX35_pack_252 rfl rfl ?_
          refine w_aload_n dX35_pack_253 rfl rfl ?_
          refine w_bipush dX35_pack_254 (v := 6) (by decide) ?_
          refine w_iload dX35_pack_256 rfl ?_
          refine w_imul dX35_pack_258 ?_
          refine w_iload dX35_pack_259 rfl ?_
          obtain ⟨_, b13, hf⟩ := Option.bind_eq_some_iff.mp hf
          refine x_cnV hf (e_stV (Yc := YX35_add) (ci := 34) (av := [.ref l1, .int ((6 : Int32) * l12), .int l4]) (st := []) dX35_pack_261 q5546 mX35_add rfl (k_ok_some b13).1 (k_ok_some b13).2) mX35_add.2.2.1 mX35_add.2.2.2.2.1 (Nat.le_of_ble_eq_true rfl) (Nat.le_of_ble_eq_true rfl) (fun q hq => pX35_add (by omega) hq) (fun q14 hf => ?_)
          refine w_iconst dX35_pack_264 (v := 0) (by decide) ?_
          refine w_istore dX35_pack_265 (by decide) (ls' := [some (.ref l0), some (.ref l1), none, some (.int l3), some (.int l4), some (.int l5), some (.int l6), some (.int l7), some (.int l8), some (.long l9), none, some (.int l11), some (.int l12), some (.int (0 : Int32)), none]) rfl ?_
          exact (pX35_pack_b267 hd ih N _ _ _ _ _ _ _ _ _ _ _ _ _ _ hf).to ⟨rfl, rfl, rfl, rfl, rfl, rfl, rfl, rfl, rfl, rfl, rfl, rfl, trivial⟩
def fX35_pack_b12 (N : Nat) : Nat → Nat → Nat → Int32 → Int32 → Int32 → Int32 → Int32 → Int32 → Int32 → Int64 → Int32 → eH → Option (Int32 × eH)
  | 0, _, _, _, _, _, _, _, _, _, _, _, _ => none
  | n + 1, l0, l1, l2, l3, l4, l5, l6, l7, l8, l9, l11, h =>
    if l3 ≤ l11 then
      (g_I 34 h l0 65).bind fun x2 =>
      if x2 = (3000 : Int32) then
        fX35_pack_b198 N l0 h
      else
        (g_A 34 h l0 66).bind fun a5 =>
        (g_I 34 h l0 65).bind fun x7 =>
        (r_I 100 h a5 x7).bind fun x9 =>
        if (20000 : Int32) < (x9 + l7) then
          fX35_pack_b198 N l0 h
        else
          if ¬ l8 = (10 : Int32) then
            (k_ok 34 h l0).bind fun _ =>
            (fX35_nothing N l0 h).bind fun q14 =>
            (g_A 34 q14.2 l0 66).bind fun a15 =>
            (g_I 34 q14.2 l0 65).bind fun x17 =>
            (r_I 100 q14.2 a15 x17).bind fun x19 =>
            fX35_pack_b223 N N l0 l1 l3 l4 l5 l6 l7 l8 l9 x19 l2 q14.2
          else
            fX35_pack_b198 N l0 h
    else
      (r_I 100 h l1 ((6 : Int32) * l11)).bind fun x21 =>
      if x21 = (4 : Int32) then
        fX35_pack_b45 N (fX35_pack_b12 N n) l0 l1 l2 l3 l4 l5 l6 l7 l8 l9 l11 h
      else
        (r_I 100 h l1 ((6 : Int32) * l11)).bind fun x24 =>
        if x24 = (6 : Int32) then
          fX35_pack_b45 N (fX35_pack_b12 N n) l0 l1 l2 l3 l4 l5 l6 l7 l8 l9 l11 h
        else
          fX35_pack_b46 N (fX35_pack_b12 N n) l0 l1 l2 l3 l4 l5 l6 l7 l8 l9 l11 (1 : Int32) h
theorem pX35_pack_b12 {w : eW} {d : Nat} (hd : 4 ≤ d + 1) {N : Nat} : ∀ (n : Nat) l0 l1 l2 l3 l4 l5 l6 l7 l8 l9 l11 h q, fX35_pack_b12 N n l0 l1 l2 l3 l4 l5 l6 l7 l8 l9 l11 h = some q → wp w (d + 1) YX35_pack 12 [some (.ref l0), some (.ref l1), some (.int l2), some (.int l3), some (.int l4), some (.int l5), some (.int l6), some (.int l7), some (.int l8), some (.long l9), none, some (.int l11), none, none, none] [] h (e_is (e_rn c_I q)) := by
  intro n
  induction n with
  | zero => intro l0 l1 l2 l3 l4 l5 l6 l7 l8 l9 l11 h q hf; simp [fX35_pack_b12] at hf
  | succ n ih =>
    intro l0 l1 l2 l3 l4 l5 l6 l7 l8 l9 l11 h q hf
    rw [fX35_pack_b12] at hf
    refine w_iload dX35_pack_12 rfl ?_
    refine w_iload_n dX35_pack_14 rfl rfl ?_
    refine w_icmp_ge 163 dX35_pack_15 (by decide) (fun c1 => ?_) (fun c1 => ?_)
    · replace hf := (if_pos (show l3 ≤ l11 from c1)).symm.trans hf
      refine w_aload_n dX35_pack_163 rfl rfl ?_
      obtain ⟨x2, b3, hf⟩ := Option.bind_eq_some_iff.mp hf
      refine GX35_306 b3 dX35_pack_164 rfl ?_
      refine w_sipush dX35_pack_167 (v := 3000) (by decide) ?_
      refine w_icmp_eq 198 dX35_pack_170 (by decide) (fun c4 => ?_) (fun c4 => ?_)
      · replace hf := (if_pos (show x2 = (3000 : Int32) from c4)).symm.trans hf
        exact (pX35_pack_b198 hd hf).to ⟨rfl, trivial⟩
      · replace hf := (if_neg (show ¬ (x2 = (3000 : Int32)) from c4)).symm.trans hf
        refine w_aload_n dX35_pack_173 rfl rfl ?_
        obtain ⟨a5, b6, hf⟩ := Option.bind_eq_some_iff.mp hf
        refine GX35_151 b6 dX35_pack_174 rfl ?_
        refine w_aload_n dX35_pack_177 rfl rfl ?_
        obtain ⟨x7, b8, hf⟩ := Option.bind_eq_some_iff.mp hf
        refine GX35_306 b8 dX35_pack_178 rfl ?_
        obtain ⟨x9, b10, hf⟩ := Option.bind_eq_some_iff.mp hf
        refine x_rI b10 dX35_pack_181 ?_
        refine w_iload dX35_pack_182 rfl ?_
        refine w_iadd dX35_pack_184 ?_
        refine w_sipush dX35_pack_185 (v := 20000) (by decide) ?_
        refine w_icmp_gt 198 dX35_pack_188 (by decide) (fun c11 => ?_) (fun c11 => ?_)
        · replace hf := (if_pos (show (20000 : Int32) < (x9 + l7) from c11)).symm.trans hf
          exact (pX35_pack_b198 hd hf).to ⟨rfl, trivial⟩
        · replace hf := (if_neg (show ¬ ((20000 : Int32) < (x9 + l7)) from c11)).symm.trans hf
          refine w_iload dX35_pack_191 rfl ?_
          refine w_bipush dX35_pack_193 (v := 10) (by decide) ?_
          refine w_icmp_ne 205 dX35_pack_195 (by decide) (fun c12 => ?_) (fun c12 => ?_)
          · replace hf := (if_pos (show ¬ l8 = (10 : Int32) from c12)).symm.trans hf
            refine w_aload_n dX35_pack_205 rfl rfl ?_
            obtain ⟨_, b13, hf⟩ := Option.bind_eq_some_iff.mp hf
            refine x_cnV hf (e_stV (Yc := YX35_nothing) (ci := 34) (av := []) (st := []) dX35_pack_206 q5485 mX35_nothing rfl (k_ok_some b13).1 (k_ok_some b13).2) mX35_nothing.2.2.1 mX35_nothing.2.2.2.2.1 (Nat.le_of_ble_eq_true rfl) (Nat.le_of_ble_eq_true rfl) (fun q hq => pX35_nothing (by omega) hq) (fun q14 hf => ?_)
            refine w_aload_n dX35_pack_209 rfl rfl ?_
            obtain ⟨a15, b16, hf⟩ := Option.bind_eq_some_iff.mp hf
            refine GX35_151 b16 dX35_pack_210 rfl ?_
            refine w_aload_n dX35_pack_213 rfl rfl ?_
            obtain ⟨x17, b18, hf⟩ := Option.bind_eq_some_iff.mp hf
            refine GX35_306 b18 dX35_pack_214 rfl ?_
            obtain ⟨x19, b20, hf⟩ := Option.bind_eq_some_iff.mp hf
            refine x_rI b20 dX35_pack_217 ?_
            refine w_istore dX35_pack_218 (by decide) (ls' := [some (.ref l0), some (.ref l1), some (.int l2), some (.int l3), some (.int l4), some (.int l5), some (.int l6), some (.int l7), some (.int l8), some (.long l9), none, some (.int x19), none, none, none]) rfl ?_
            refine w_iload_n dX35_pack_220 rfl rfl ?_
            refine w_istore dX35_pack_221 (by decide) (ls' := [some (.ref l0), some (.ref l1), some (.int l2), some (.int l3), some (.int l4), some (.int l5), some (.int l6), some (.int l7), some (.int l8), some (.long l9), none, some (.int x19), some (.int l2), none, none]) rfl ?_
            exact (pX35_pack_b223 hd N _ _ _ _ _ _ _ _ _ _ _ _ _ hf).to ⟨rfl, rfl, rfl, rfl, rfl, rfl, rfl, rfl, rfl, rfl, rfl, trivial⟩
          · replace hf := (if_neg (show ¬ (¬ l8 = (10 : Int32)) from (fun z => z c12))).symm.trans hf
            exact (pX35_pack_b198 hd hf).to ⟨rfl, trivial⟩
    · replace hf := (if_neg (show ¬ (l3 ≤ l11) from c1)).symm.trans hf
      refine w_aload_n dX35_pack_18 rfl rfl ?_
      refine w_bipush dX35_pack_19 (v := 6) (by decide) ?_
      refine w_iload dX35_pack_21 rfl ?_
      refine w_imul dX35_pack_23 ?_
      obtain ⟨x21, b22, hf⟩ := Option.bind_eq_some_iff.mp hf
      refine x_rI b22 dX35_pack_24 ?_
      refine w_iconst dX35_pack_25 (v := 4) (by decide) ?_
      refine w_icmp_eq 45 dX35_pack_26 (by decide) (fun c23 => ?_) (fun c23 => ?_)
      · replace hf := (if_pos (show x21 = (4 : Int32) from c23)).symm.trans hf
        exact (pX35_pack_b45 hd ih hf).to ⟨rfl, rfl, rfl, rfl, rfl, rfl, rfl, rfl, rfl, rfl, rfl, trivial⟩
      · replace hf := (if_neg (show ¬ (x21 = (4 : Int32)) from c23)).symm.trans hf
        refine w_aload_n dX35_pack_29 rfl rfl ?_
        refine w_bipush dX35_pack_30 (v := 6) (by decide) ?_
        refine w_iload dX35_pack_32 rfl ?_
        refine w_imul dX35_pack_34 ?_
        obtain ⟨x24, b25, hf⟩ := Option.bind_eq_some_iff.mp hf
        refine x_rI b25 dX35_pack_35 ?_
        refine w_bipush dX35_pack_36 (v := 6) (by decide) ?_
        refine w_icmp_eq 45 dX35_pack_38 (by decide) (fun c26 => ?_) (fun c26 => ?_)
        · replace hf := (if_pos (show x24 = (6 : Int32) from c26)).symm.trans hf
          exact (pX35_pack_b45 hd ih hf).to ⟨rfl, rfl, rfl, rfl, rfl, rfl, rfl, rfl, rfl, rfl, rfl, trivial⟩
        · replace hf := (if_neg (show ¬ (x24 = (6 : Int32)) from c26)).symm.trans hf
          refine w_iconst dX35_pack_41 (v := 1) (by decide) ?_
          refine w_goto 46 dX35_pack_42 (by decide) ?_
          exact (pX35_pack_b46 hd ih hf).to ⟨rfl, rfl, rfl, rfl, rfl, rfl, rfl, rfl, rfl, rfl, rfl, trivial⟩
def fX35_pack (N : Nat) (this : Nat) (p0 : Nat) (p1 : Int32) (p2 : Int32) (p3 : Int32) (p4 : Int32) (p5 : Int32) (h : eH) : Option (Int32 × eH) :=
  fX35_pack_b12 N N this p0 p1 p2 p3 p4 p5 (0 : Int32) (0 : Int32) (0 : Int64) p1 h
theorem pX35_pack {w : eW} {d : Nat} (hd : 4 ≤ d) {N : Nat} {this : Nat} {p0 : Nat} {p1 : Int32} {p2 : Int32} {p3 : Int32} {p4 : Int32} {p5 : Int32} {h : eH} {q} (hf : fX35_pack N this p0 p1 p2 p3 p4 p5 h = some q) : wm w d YX35_pack [.ref this, .ref p0, .int p1, .int p2, .int p3, .int p4, .int p5] h (e_is (e_rn c_I q)) := by
  obtain ⟨d, rfl⟩ : ∃ e, d = e + 1 := ⟨d - 1, by omega⟩
  show wp w (d + 1) YX35_pack 0 [some (.ref this), some (.ref p0), some (.int p1), some (.int p2), some (.int p3), some (.int p4), some (.int p5), none, none, none, none, none, none, none, none] [] h _
  unfold fX35_pack at hf
  refine w_iconst dX35_pack_0 (v := 0) (by decide) ?_
  refine w_istore dX35_pack_1 (by decide) (ls' := [some (.ref this), some (.ref p0), some (.int p1), some (.int p2), some (.int p3), some (.int p4), some (.int p5), some (.int (0 : Int32)), none, none, none, none, none, none, none]) rfl ?_
  refine w_iconst dX35_pack_3 (v := 0) (by decide) ?_
  refine w_istore dX35_pack_4 (by decide) (ls' := [some (.ref this), some (.ref p0), some (.int p1), some (.int p2), some (.int p3), some (.int p4), some (.int p5), some (.int (0 : Int32)), some (.int (0 : Int32)), none, none, none, none, none, none]) rfl ?_
  refine w_lconst dX35_pack_6 (v := 0) (by decide) ?_
  refine w_lstore dX35_pack_7 (by decide) (ls' := [some (.ref this), some (.ref p0), some (.int p1), some (.int p2), some (.int p3), some (.int p4), some (.int p5), some (.int (0 : Int32)), some (.int (0 : Int32)), some (.long (0 : Int64)), none, none, none, none, none]) rfl ?_
  refine w_iload_n dX35_pack_9 rfl rfl ?_
  refine w_istore dX35_pack_10 (by decide) (ls' := [some (.ref this), some (.ref p0), some (.int p1), some (.int p2), some (.int p3), some (.int p4), some (.int p5), some (.int (0 : Int32)), some (.int (0 : Int32)), some (.long (0 : Int64)), none, some (.int p1), none, none, none]) rfl ?_
  exact (pX35_pack_b12 hd N _ _ _ _ _ _ _ _ _ _ _ _ _ hf).to ⟨rfl, rfl, rfl, rfl, rfl, rfl, rfl, rfl, rfl, rfl, rfl, trivial⟩
abbrev cX35_isVertical : ByteArray := prog_37_method_104_code
def yX35_isVertical : MethodName := ⟨RX35, "isVertical", "()Z"⟩
def YX35_isVertical : eY := (yX35_isVertical, cX35_isVertical, 1, (Option.some FieldType.boolean), [])
theorem mX35_isVertical : e_mv YX35_isVertical RX35 0 := ⟨q5451, qs309, q5452, by decide, by decide +kernel, (e_sig (by decide +kernel))⟩
theorem dX35_isVertical_0 : decode cX35_isVertical 0 = .ok (.aload_n 0, 1) := dc_42 (by decide +kernel)
theorem dX35_isVertical_1 : decode cX35_isVertical 1 = .ok (.invokevirtual 587, 3) := dc_182 (a := 2) (b := 75) (n := 587) (by decide +kernel)
theorem dX35_isVertical_4 : decode cX35_isVertical 4 = .ok (.iconst 2, 1) := dc_5 (by decide +kernel)
theorem dX35_isVertical_5 : decode cX35_isVertical 5 = .ok (.if_icmp .ge 7, 3) := dc_162 (a := 0) (b := 7) (v := 7) (by decide +kernel)
theorem dX35_isVertical_8 : decode cX35_isVertical 8 = .ok (.iconst 1, 1) := dc_4 (by decide +kernel)
theorem dX35_isVertical_9 : decode cX35_isVertical 9 = .ok (.goto 4, 3) := dc_167 (a := 0) (b := 4) (v := 4) (by decide +kernel)
theorem dX35_isVertical_12 : decode cX35_isVertical 12 = .ok (.iconst 0, 1) := dc_3 (by decide +kernel)
theorem dX35_isVertical_13 : decode cX35_isVertical 13 = .ok (.ireturn, 1) := dc_172 (by decide +kernel)
def fX35_isVertical_b13 (s0 : Int32) (h : eH) : Option (Int32 × eH) :=
  z_r s0 (s0, h)
theorem pX35_isVertical_b13 {w : eW} {d : Nat} (hd : 1 ≤ d + 1) {s0 : Int32} {h : eH} {q} (hf : fX35_isVertical_b13 s0 h = some q) : wp w (d + 1) YX35_isVertical 13 [none] [.int s0] h (e_is (e_rn c_I q)) := by
  unfold fX35_isVertical_b13 at hf
  obtain ⟨b1, rfl⟩ := z_r_some hf
  exact w_iret dX35_isVertical_13 rfl b1 rfl
def fX35_isVertical (this : Nat) (h : eH) : Option (Int32 × eH) :=
  (k_ok 34 h this).bind fun _ =>
  (fX35_mode this h).bind fun q2 =>
  if (2 : Int32) ≤ q2.1 then
    fX35_isVertical_b13 (0 : Int32) q2.2
  else
    fX35_isVertical_b13 (1 : Int32) q2.2
theorem pX35_isVertical {w : eW} {d : Nat} (hd : 1 ≤ d) {this : Nat} {h : eH} {q} (hf : fX35_isVertical this h = some q) : wm w d YX35_isVertical [.ref this] h (e_is (e_rn c_I q)) := by
  obtain ⟨d, rfl⟩ : ∃ e, d = e + 1 := ⟨d - 1, by omega⟩
  show wp w (d + 1) YX35_isVertical 0 [some (.ref this)] [] h _
  unfold fX35_isVertical at hf
  refine w_aload_n dX35_isVertical_0 rfl rfl ?_
  obtain ⟨_, b1, hf⟩ := Option.bind_eq_some_iff.mp hf
  refine x_cnI hf (e_stV (Yc := YX35_mode) (ci := 34) (av := []) (st := []) dX35_isVertical_1 q5417 mX35_mode rfl (k_ok_some b1).1 (k_ok_some b1).2) mX35_mode.2.2.1 mX35_mode.2.2.2.2.1 (Nat.le_of_ble_eq_true rfl) (Nat.le_of_ble_eq_true rfl) (fun q hq => pX35_mode (by omega) hq) (fun q2 hf => ?_)
  refine w_iconst dX35_isVertical_4 (v := 2) (by decide) ?_
  refine w_icmp_ge 12 dX35_isVertical_5 (by decide) (fun c3 => ?_) (fun c3 => ?_)
  · replace hf := (if_pos (show (2 : Int32) ≤ q2.1 from c3)).symm.trans hf
    refine w_iconst dX35_isVertical_12 (v := 0) (by decide) ?_
    exact (pX35_isVertical_b13 hd hf).to trivial
  · replace hf := (if_neg (show ¬ ((2 : Int32) ≤ q2.1) from c3)).symm.trans hf
    refine w_iconst dX35_isVertical_8 (v := 1) (by decide) ?_
    refine w_goto 13 dX35_isVertical_9 (by decide) ?_
    exact (pX35_isVertical_b13 hd hf).to trivial
