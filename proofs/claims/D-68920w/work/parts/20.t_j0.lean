set_option maxRecDepth 100000
set_option maxHeartbeats 4000000
theorem q461 : (Jvm.Cond.initialized "java/util/Arrays") ∈ lw_all := lw_g (lw_at lw_m1 36 rfl) rfl
theorem q463 : (Jvm.Cond.initialized "java/lang/StringLatin1") ∈ lw_all := lw_g (lw_at lw_m1 38 rfl) rfl
theorem q1923 : (Jvm.Cond.static ({ cls := "java/util/Arrays", name := "fill", desc := "([II)V" } : Jvm.MethodName)) ∈ lw_all := lw_g (lw_at lw_m7 58 rfl) rfl
theorem q1924 : (Jvm.Cond.code ({ cls := "java/util/Arrays", name := "fill", desc := "([II)V" } : Jvm.MethodName) prog_58_method_103_code (4 : Nat) (Option.none : Option Jvm.ClassFile.FieldType)) ∈ lw_all := lw_g (lw_at lw_m7 59 rfl) rfl
theorem q1950 : (Jvm.Cond.instanceMethod ({ cls := "java/lang/String", name := "length", desc := "()I" } : Jvm.MethodName)) ∈ lw_all := lw_g (lw_at lw_m7 85 rfl) rfl
theorem q1951 : (Jvm.Cond.selects "java/lang/String" ({ cls := "java/lang/String", name := "length", desc := "()I" } : Jvm.MethodName) ({ cls := "java/lang/String", name := "length", desc := "()I" } : Jvm.MethodName)) ∈ lw_all := lw_g (lw_at lw_m7 86 rfl) rfl
theorem q1952 : (Jvm.Cond.code ({ cls := "java/lang/String", name := "length", desc := "()I" } : Jvm.MethodName) prog_51_method_54_code (1 : Nat) (Option.some Jvm.ClassFile.FieldType.int)) ∈ lw_all := lw_g (lw_at lw_m7 87 rfl) rfl
theorem q1953 : (Jvm.Cond.methodLink "java/lang/String" (335 : Nat) ({ cls := "java/lang/String", name := "coder", desc := "()B" } : Jvm.MethodName)) ∈ lw_all := lw_g (lw_at lw_m7 88 rfl) rfl
theorem q1954 : (Jvm.Cond.instanceMethod ({ cls := "java/lang/String", name := "coder", desc := "()B" } : Jvm.MethodName)) ∈ lw_all := lw_g (lw_at lw_m7 89 rfl) rfl
theorem q1955 : (Jvm.Cond.selects "java/lang/String" ({ cls := "java/lang/String", name := "coder", desc := "()B" } : Jvm.MethodName) ({ cls := "java/lang/String", name := "coder", desc := "()B" } : Jvm.MethodName)) ∈ lw_all := lw_g (lw_at lw_m7 90 rfl) rfl
theorem q1956 : (Jvm.Cond.code ({ cls := "java/lang/String", name := "coder", desc := "()B" } : Jvm.MethodName) prog_51_method_152_code (1 : Nat) (Option.some Jvm.ClassFile.FieldType.byte)) ∈ lw_all := lw_g (lw_at lw_m7 91 rfl) rfl
theorem q1957 : (Jvm.Cond.fieldLink "java/lang/String" (38 : Nat) "java/lang/String" "COMPACT_STRINGS" "Z") ∈ lw_all := lw_g (lw_at lw_m7 92 rfl) rfl
theorem q1960 : (Jvm.Cond.instanceMethod ({ cls := "java/lang/String", name := "charAt", desc := "(I)C" } : Jvm.MethodName)) ∈ lw_all := lw_g (lw_at lw_m7 95 rfl) rfl
theorem q1961 : (Jvm.Cond.selects "java/lang/String" ({ cls := "java/lang/String", name := "charAt", desc := "(I)C" } : Jvm.MethodName) ({ cls := "java/lang/String", name := "charAt", desc := "(I)C" } : Jvm.MethodName)) ∈ lw_all := lw_g (lw_at lw_m7 96 rfl) rfl
theorem q1962 : (Jvm.Cond.code ({ cls := "java/lang/String", name := "charAt", desc := "(I)C" } : Jvm.MethodName) prog_51_method_56_code (2 : Nat) (Option.some Jvm.ClassFile.FieldType.char)) ∈ lw_all := lw_g (lw_at lw_m7 97 rfl) rfl
theorem q1963 : (Jvm.Cond.methodLink "java/lang/String" (492 : Nat) ({ cls := "java/lang/String", name := "isLatin1", desc := "()Z" } : Jvm.MethodName)) ∈ lw_all := lw_g (lw_at lw_m7 98 rfl) rfl
theorem q1964 : (Jvm.Cond.instanceMethod ({ cls := "java/lang/String", name := "isLatin1", desc := "()Z" } : Jvm.MethodName)) ∈ lw_all := lw_g (lw_at lw_m7 99 rfl) rfl
theorem q1965 : (Jvm.Cond.selects "java/lang/String" ({ cls := "java/lang/String", name := "isLatin1", desc := "()Z" } : Jvm.MethodName) ({ cls := "java/lang/String", name := "isLatin1", desc := "()Z" } : Jvm.MethodName)) ∈ lw_all := lw_g (lw_at lw_m7 100 rfl) rfl
theorem q1966 : (Jvm.Cond.code ({ cls := "java/lang/String", name := "isLatin1", desc := "()Z" } : Jvm.MethodName) prog_51_method_154_code (1 : Nat) (Option.some Jvm.ClassFile.FieldType.boolean)) ∈ lw_all := lw_g (lw_at lw_m7 101 rfl) rfl
theorem q1967 : (Jvm.Cond.methodLink "java/lang/String" (495 : Nat) ({ cls := "java/lang/StringLatin1", name := "charAt", desc := "([BI)C" } : Jvm.MethodName)) ∈ lw_all := lw_g (lw_at lw_m7 102 rfl) rfl
theorem q1968 : (Jvm.Cond.static ({ cls := "java/lang/StringLatin1", name := "charAt", desc := "([BI)C" } : Jvm.MethodName)) ∈ lw_all := lw_g (lw_at lw_m7 103 rfl) rfl
theorem q1969 : (Jvm.Cond.code ({ cls := "java/lang/StringLatin1", name := "charAt", desc := "([BI)C" } : Jvm.MethodName) prog_53_method_2_code (2 : Nat) (Option.some Jvm.ClassFile.FieldType.char)) ∈ lw_all := lw_g (lw_at lw_m7 104 rfl) rfl
theorem q1970 : (Jvm.Cond.methodLink "java/lang/StringLatin1" (9 : Nat) ({ cls := "java/lang/String", name := "checkIndex", desc := "(II)V" } : Jvm.MethodName)) ∈ lw_all := lw_g (lw_at lw_m7 105 rfl) rfl
theorem q2041 : (Jvm.Cond.static ({ cls := "java/util/Arrays", name := "fill", desc := "([ZZ)V" } : Jvm.MethodName)) ∈ lw_all := lw_g (lw_at lw_m7 176 rfl) rfl
theorem q2042 : (Jvm.Cond.code ({ cls := "java/util/Arrays", name := "fill", desc := "([ZZ)V" } : Jvm.MethodName) prog_58_method_111_code (4 : Nat) (Option.none : Option Jvm.ClassFile.FieldType)) ∈ lw_all := lw_g (lw_at lw_m7 177 rfl) rfl
theorem q2852 : (Jvm.Cond.static ({ cls := "java/util/Arrays", name := "fill", desc := "([IIII)V" } : Jvm.MethodName)) ∈ lw_all := lw_g (lw_at lw_m11 27 rfl) rfl
theorem q2853 : (Jvm.Cond.code ({ cls := "java/util/Arrays", name := "fill", desc := "([IIII)V" } : Jvm.MethodName) prog_58_method_104_code (5 : Nat) (Option.none : Option Jvm.ClassFile.FieldType)) ∈ lw_all := lw_g (lw_at lw_m11 28 rfl) rfl
theorem q2854 : (Jvm.Cond.methodLink "java/util/Arrays" (13 : Nat) ({ cls := "java/util/Arrays", name := "rangeCheck", desc := "(III)V" } : Jvm.MethodName)) ∈ lw_all := lw_g (lw_at lw_m11 29 rfl) rfl
theorem q2855 : (Jvm.Cond.static ({ cls := "java/util/Arrays", name := "rangeCheck", desc := "(III)V" } : Jvm.MethodName)) ∈ lw_all := lw_g (lw_at lw_m11 30 rfl) rfl
theorem q2856 : (Jvm.Cond.code ({ cls := "java/util/Arrays", name := "rangeCheck", desc := "(III)V" } : Jvm.MethodName) prog_58_method_30_code (3 : Nat) (Option.none : Option Jvm.ClassFile.FieldType)) ∈ lw_all := lw_g (lw_at lw_m11 31 rfl) rfl
theorem q3074 : (Jvm.Cond.fieldLink "java/lang/String" (9 : Nat) "java/lang/String" "value" "[B") ∈ lw_all := lw_g (lw_at lw_m12 9 rfl) rfl
theorem q3075 : (Jvm.Cond.fieldLink "java/lang/String" (15 : Nat) "java/lang/String" "coder" "B") ∈ lw_all := lw_g (lw_at lw_m12 10 rfl) rfl
theorem q3729 : (Jvm.Cond.static ({ cls := "java/util/Arrays", name := "fill", desc := "([JJ)V" } : Jvm.MethodName)) ∈ lw_all := lw_g (lw_at lw_m14 184 rfl) rfl
theorem q3730 : (Jvm.Cond.code ({ cls := "java/util/Arrays", name := "fill", desc := "([JJ)V" } : Jvm.MethodName) prog_58_method_101_code (5 : Nat) (Option.none : Option Jvm.ClassFile.FieldType)) ∈ lw_all := lw_g (lw_at lw_m14 185 rfl) rfl
abbrev cJ1_isLatin1 : ByteArray := prog_51_method_154_code
def yJ1_isLatin1 : MethodName := ⟨RJ1, "isLatin1", "()Z"⟩
def YJ1_isLatin1 : eY := (yJ1_isLatin1, cJ1_isLatin1, 1, (Option.some FieldType.boolean), [])
theorem mJ1_isLatin1 : e_mv YJ1_isLatin1 RJ1 0 := ⟨q1964, q1965, q1966, by decide, by decide +kernel, (e_sig (by decide +kernel))⟩
theorem dJ1_isLatin1_0 : decode cJ1_isLatin1 0 = .ok (.getstatic 38, 3) := dc_178 (a := 0) (b := 38) (n := 38) (by decide +kernel)
theorem dJ1_isLatin1_3 : decode cJ1_isLatin1 3 = .ok (.ifCond .eq 14, 3) := dc_153 (a := 0) (b := 14) (v := 14) (by decide +kernel)
theorem dJ1_isLatin1_6 : decode cJ1_isLatin1 6 = .ok (.aload_n 0, 1) := dc_42 (by decide +kernel)
theorem dJ1_isLatin1_7 : decode cJ1_isLatin1 7 = .ok (.getfield 15, 3) := dc_180 (a := 0) (b := 15) (n := 15) (by decide +kernel)
theorem dJ1_isLatin1_10 : decode cJ1_isLatin1 10 = .ok (.ifCond .ne 7, 3) := dc_154 (a := 0) (b := 7) (v := 7) (by decide +kernel)
theorem dJ1_isLatin1_13 : decode cJ1_isLatin1 13 = .ok (.iconst 1, 1) := dc_4 (by decide +kernel)
theorem dJ1_isLatin1_14 : decode cJ1_isLatin1 14 = .ok (.goto 4, 3) := dc_167 (a := 0) (b := 4) (v := 4) (by decide +kernel)
theorem dJ1_isLatin1_17 : decode cJ1_isLatin1 17 = .ok (.iconst 0, 1) := dc_3 (by decide +kernel)
theorem dJ1_isLatin1_18 : decode cJ1_isLatin1 18 = .ok (.ireturn, 1) := dc_172 (by decide +kernel)
def fJ1_isLatin1_b18 (s0 : Int32) (h : eH) : Option (Int32 × eH) :=
  z_r s0 (s0, h)
theorem pJ1_isLatin1_b18 {w : eW} {d : Nat} (hd : 0 ≤ d) {s0 : Int32} {h : eH} {q} (hf : fJ1_isLatin1_b18 s0 h = some q) : wp w d YJ1_isLatin1 18 [none] [.int s0] h (e_is (e_rn c_I q)) := by
  unfold fJ1_isLatin1_b18 at hf
  obtain ⟨b1, rfl⟩ := z_r_some hf
  exact w_iret dJ1_isLatin1_18 rfl b1 rfl
def fJ1_isLatin1_b17  (h : eH) : Option (Int32 × eH) :=
  fJ1_isLatin1_b18 (0 : Int32) h
theorem pJ1_isLatin1_b17 {w : eW} {d : Nat} (hd : 0 ≤ d)  {h : eH} {q} (hf : fJ1_isLatin1_b17  h = some q) : wp w d YJ1_isLatin1 17 [none] [] h (e_is (e_rn c_I q)) := by
  unfold fJ1_isLatin1_b17 at hf
  refine w_iconst dJ1_isLatin1_17 (v := 0) (by decide) ?_
  exact (pJ1_isLatin1_b18 hd hf).to trivial
def fJ1_isLatin1 (this : Nat) (h : eH) : Option (Int32 × eH) :=
  if (1 : Int32) = 0 then
    fJ1_isLatin1_b17 h
  else
    (o_cod this).bind fun x2 =>
    if ¬ x2 = 0 then
      fJ1_isLatin1_b17 h
    else
      fJ1_isLatin1_b18 (1 : Int32) h
theorem pJ1_isLatin1 {w : eW} {d : Nat} (hd : 0 ≤ d) {this : Nat} {h : eH} {q} (hf : fJ1_isLatin1 this h = some q) : wm w d YJ1_isLatin1 [.ref this] h (e_is (e_rn c_I q)) := by
  show wp w d YJ1_isLatin1 0 [some (.ref this)] [] h _
  unfold fJ1_isLatin1 at hf
  refine x_gs (j := 0) dJ1_isLatin1_0 rfl q1957 ?_
  refine w_if_eq 17 dJ1_isLatin1_3 (by decide) (fun c1 => ?_) (fun c1 => ?_)
  · replace hf := (if_pos (show (1 : Int32) = 0 from c1)).symm.trans hf
    exact (pJ1_isLatin1_b17 hd hf).to trivial
  · replace hf := (if_neg (show ¬ ((1 : Int32) = 0) from c1)).symm.trans hf
    refine w_aload_n dJ1_isLatin1_6 rfl rfl ?_
    obtain ⟨x2, b3, hf⟩ := Option.bind_eq_some_iff.mp hf
    refine x_cod b3 dJ1_isLatin1_7 q3075 ?_
    refine w_if_ne 17 dJ1_isLatin1_10 (by decide) (fun c4 => ?_) (fun c4 => ?_)
    · replace hf := (if_pos (show ¬ x2 = 0 from c4)).symm.trans hf
      exact (pJ1_isLatin1_b17 hd hf).to trivial
    · replace hf := (if_neg (show ¬ (¬ x2 = 0) from (fun z => z c4))).symm.trans hf
      refine w_iconst dJ1_isLatin1_13 (v := 1) (by decide) ?_
      refine w_goto 18 dJ1_isLatin1_14 (by decide) ?_
      exact (pJ1_isLatin1_b18 hd hf).to trivial
abbrev cJ2_charAt : ByteArray := prog_53_method_2_code
def yJ2_charAt : MethodName := ⟨RJ2, "charAt", "([BI)C"⟩
def YJ2_charAt : eY := (yJ2_charAt, cJ2_charAt, 2, (Option.some FieldType.char), [])
theorem mJ2_charAt : e_ms YJ2_charAt 2 := ⟨q1968, q463, q1969, by decide, by decide +kernel, (e_sig (by decide +kernel))⟩
theorem dJ2_charAt_0 : decode cJ2_charAt 0 = .ok (.iload_n 1, 1) := dc_27 (by decide +kernel)
theorem dJ2_charAt_1 : decode cJ2_charAt 1 = .ok (.aload_n 0, 1) := dc_42 (by decide +kernel)
theorem dJ2_charAt_2 : decode cJ2_charAt 2 = .ok (.arraylength, 1) := dc_190 (by decide +kernel)
theorem dJ2_charAt_3 : decode cJ2_charAt 3 = .ok (.invokestatic 9, 3) := dc_184 (a := 0) (b := 9) (n := 9) (by decide +kernel)
theorem dJ2_charAt_6 : decode cJ2_charAt 6 = .ok (.aload_n 0, 1) := dc_42 (by decide +kernel)
theorem dJ2_charAt_7 : decode cJ2_charAt 7 = .ok (.iload_n 1, 1) := dc_27 (by decide +kernel)
theorem dJ2_charAt_8 : decode cJ2_charAt 8 = .ok (.baload, 1) := dc_51 (by decide +kernel)
theorem dJ2_charAt_9 : decode cJ2_charAt 9 = .ok (.sipush 255, 3) := dc_17 (a := 0) (b := 255) (v := 255) (by decide +kernel)
theorem dJ2_charAt_12 : decode cJ2_charAt 12 = .ok (.iand, 1) := dc_126 (by decide +kernel)
theorem dJ2_charAt_13 : decode cJ2_charAt 13 = .ok (.i2c, 1) := dc_146 (by decide +kernel)
theorem dJ2_charAt_14 : decode cJ2_charAt 14 = .ok (.ireturn, 1) := dc_172 (by decide +kernel)
def fJ2_charAt (p0 : Nat) (p1 : Int32) (h : eH) : Option (Int32 × eH) :=
  (o_len p0).bind fun x1 =>
  (fJ1_checkIndex p1 x1 h).bind fun q3 =>
  (o_get p0 p1).bind fun x4 =>
  c_r (((x4 &&& (255 : Int32))).toUInt32 % 65536).toInt32 ((((x4 &&& (255 : Int32))).toUInt32 % 65536).toInt32, q3.2)
theorem pJ2_charAt {w : eW} {d : Nat} (hd : 2 ≤ d) {p0 : Nat} {p1 : Int32} {h : eH} {q} (hf : fJ2_charAt p0 p1 h = some q) : wm w d YJ2_charAt [.ref p0, .int p1] h (e_is (e_rn c_I q)) := by
  obtain ⟨d, rfl⟩ : ∃ e, d = e + 1 := ⟨d - 1, by omega⟩
  show wp w (d + 1) YJ2_charAt 0 [some (.ref p0), some (.int p1)] [] h _
  unfold fJ2_charAt at hf
  refine w_iload_n dJ2_charAt_0 rfl rfl ?_
  refine w_aload_n dJ2_charAt_1 rfl rfl ?_
  obtain ⟨x1, b2, hf⟩ := Option.bind_eq_some_iff.mp hf
  refine x_olen b2 dJ2_charAt_2 ?_
  refine x_cnV hf (e_stS (Yc := YJ1_checkIndex) (av := [.int p1, .int x1]) (st := []) dJ2_charAt_3 q1970 mJ1_checkIndex) mJ1_checkIndex.2.2.1 mJ1_checkIndex.2.2.2.2.1 (Nat.le_of_ble_eq_true rfl) (Nat.le_of_ble_eq_true rfl) (fun q hq => pJ1_checkIndex (by omega) hq) (fun q3 hf => ?_)
  refine w_aload_n dJ2_charAt_6 rfl rfl ?_
  refine w_iload_n dJ2_charAt_7 rfl rfl ?_
  obtain ⟨x4, b5, hf⟩ := Option.bind_eq_some_iff.mp hf
  refine x_oget b5 dJ2_charAt_8 ?_
  refine w_sipush dJ2_charAt_9 (v := 255) (by decide) ?_
  refine w_iand dJ2_charAt_12 ?_
  refine w_i2c dJ2_charAt_13 ?_
  obtain ⟨b6, rfl⟩ := c_r_some hf
  exact w_iret dJ2_charAt_14 rfl b6 rfl
abbrev cJ1_charAt : ByteArray := prog_51_method_56_code
def yJ1_charAt : MethodName := ⟨RJ1, "charAt", "(I)C"⟩
def YJ1_charAt : eY := (yJ1_charAt, cJ1_charAt, 2, (Option.some FieldType.char), [])
theorem mJ1_charAt : e_mv YJ1_charAt RJ1 1 := ⟨q1960, q1961, q1962, by decide, by decide +kernel, (e_sig (by decide +kernel))⟩
theorem dJ1_charAt_0 : decode cJ1_charAt 0 = .ok (.aload_n 0, 1) := dc_42 (by decide +kernel)
theorem dJ1_charAt_1 : decode cJ1_charAt 1 = .ok (.invokevirtual 492, 3) := dc_182 (a := 1) (b := 236) (n := 492) (by decide +kernel)
theorem dJ1_charAt_4 : decode cJ1_charAt 4 = .ok (.ifCond .eq 12, 3) := dc_153 (a := 0) (b := 12) (v := 12) (by decide +kernel)
theorem dJ1_charAt_7 : decode cJ1_charAt 7 = .ok (.aload_n 0, 1) := dc_42 (by decide +kernel)
theorem dJ1_charAt_8 : decode cJ1_charAt 8 = .ok (.getfield 9, 3) := dc_180 (a := 0) (b := 9) (n := 9) (by decide +kernel)
theorem dJ1_charAt_11 : decode cJ1_charAt 11 = .ok (.iload_n 1, 1) := dc_27 (by decide +kernel)
theorem dJ1_charAt_12 : decode cJ1_charAt 12 = .ok (.invokestatic 495, 3) := dc_184 (a := 1) (b := 239) (n := 495) (by decide +kernel)
theorem dJ1_charAt_15 : decode cJ1_charAt 15 = .ok (.ireturn, 1) := dc_172 (by decide +kernel)
theorem dJ1_charAt_16 : decode cJ1_charAt 16 = .ok (.aload_n 0, 1) := dc_42 (by decide +kernel)
theorem dJ1_charAt_17 : decode cJ1_charAt 17 = .ok (.getfield 9, 3) := dc_180 (a := 0) (b := 9) (n := 9) (by decide +kernel)
theorem dJ1_charAt_20 : decode cJ1_charAt 20 = .ok (.iload_n 1, 1) := dc_27 (by decide +kernel)
theorem dJ1_charAt_21 : decode cJ1_charAt 21 = .ok (.invokestatic 498, 3) := dc_184 (a := 1) (b := 242) (n := 498) (by decide +kernel)
theorem dJ1_charAt_24 : decode cJ1_charAt 24 = .ok (.ireturn, 1) := dc_172 (by decide +kernel)
def fJ1_charAt (this : Nat) (p0 : Int32) (h : eH) : Option (Int32 × eH) :=
  (s_ok this).bind fun _ =>
  (fJ1_isLatin1 this h).bind fun q2 =>
  if q2.1 = 0 then
    none
  else
    (o_val this).bind fun a6 =>
    (fJ2_charAt a6 p0 q2.2).bind fun q8 =>
    c_r q8.1 (q8.1, q8.2)
theorem pJ1_charAt {w : eW} {d : Nat} (hd : 3 ≤ d) {this : Nat} {p0 : Int32} {h : eH} {q} (hf : fJ1_charAt this p0 h = some q) : wm w d YJ1_charAt [.ref this, .int p0] h (e_is (e_rn c_I q)) := by
  obtain ⟨d, rfl⟩ : ∃ e, d = e + 1 := ⟨d - 1, by omega⟩
  show wp w (d + 1) YJ1_charAt 0 [some (.ref this), some (.int p0)] [] h _
  unfold fJ1_charAt at hf
  refine w_aload_n dJ1_charAt_0 rfl rfl ?_
  obtain ⟨_, b1, hf⟩ := Option.bind_eq_some_iff.mp hf
  refine x_cnI hf (e_stVO (Yc := YJ1_isLatin1) (av := []) (st := []) dJ1_charAt_1 q1963 mJ1_isLatin1 b1) mJ1_isLatin1.2.2.1 mJ1_isLatin1.2.2.2.2.1 (Nat.le_of_ble_eq_true rfl) (Nat.le_of_ble_eq_true rfl) (fun q hq => pJ1_isLatin1 (by omega) hq) (fun q2 hf => ?_)
  refine w_if_eq 16 dJ1_charAt_4 (by decide) (fun c3 => ?_) (fun c3 => ?_)
  · replace hf := (if_pos (show q2.1 = 0 from c3)).symm.trans hf
    cases hf
  · replace hf := (if_neg (show ¬ (q2.1 = 0) from c3)).symm.trans hf
    refine w_aload_n dJ1_charAt_7 rfl rfl ?_
    obtain ⟨a6, b7, hf⟩ := Option.bind_eq_some_iff.mp hf
    refine x_val b7 dJ1_charAt_8 q3074 ?_
    refine w_iload_n dJ1_charAt_11 rfl rfl ?_
    refine x_cnI hf (e_stS (Yc := YJ2_charAt) (av := [.ref a6, .int p0]) (st := []) dJ1_charAt_12 q1967 mJ2_charAt) mJ2_charAt.2.2.1 mJ2_charAt.2.2.2.2.1 (Nat.le_of_ble_eq_true rfl) (Nat.le_of_ble_eq_true rfl) (fun q hq => pJ2_charAt (by omega) hq) (fun q8 hf => ?_)
    obtain ⟨b9, rfl⟩ := c_r_some hf
    exact w_iret dJ1_charAt_15 rfl b9 rfl
abbrev cJ1_coder : ByteArray := prog_51_method_152_code
def yJ1_coder : MethodName := ⟨RJ1, "coder", "()B"⟩
def YJ1_coder : eY := (yJ1_coder, cJ1_coder, 1, (Option.some FieldType.byte), [])
theorem mJ1_coder : e_mv YJ1_coder RJ1 0 := ⟨q1954, q1955, q1956, by decide, by decide +kernel, (e_sig (by decide +kernel))⟩
theorem dJ1_coder_0 : decode cJ1_coder 0 = .ok (.getstatic 38, 3) := dc_178 (a := 0) (b := 38) (n := 38) (by decide +kernel)
theorem dJ1_coder_3 : decode cJ1_coder 3 = .ok (.ifCond .eq 10, 3) := dc_153 (a := 0) (b := 10) (v := 10) (by decide +kernel)
theorem dJ1_coder_6 : decode cJ1_coder 6 = .ok (.aload_n 0, 1) := dc_42 (by decide +kernel)
theorem dJ1_coder_7 : decode cJ1_coder 7 = .ok (.getfield 15, 3) := dc_180 (a := 0) (b := 15) (n := 15) (by decide +kernel)
theorem dJ1_coder_10 : decode cJ1_coder 10 = .ok (.goto 4, 3) := dc_167 (a := 0) (b := 4) (v := 4) (by decide +kernel)
theorem dJ1_coder_13 : decode cJ1_coder 13 = .ok (.iconst 1, 1) := dc_4 (by decide +kernel)
theorem dJ1_coder_14 : decode cJ1_coder 14 = .ok (.ireturn, 1) := dc_172 (by decide +kernel)
def fJ1_coder_b14 (s0 : Int32) (h : eH) : Option (Int32 × eH) :=
  b_r s0 (s0, h)
theorem pJ1_coder_b14 {w : eW} {d : Nat} (hd : 0 ≤ d) {s0 : Int32} {h : eH} {q} (hf : fJ1_coder_b14 s0 h = some q) : wp w d YJ1_coder 14 [none] [.int s0] h (e_is (e_rn c_I q)) := by
  unfold fJ1_coder_b14 at hf
  obtain ⟨b1, rfl⟩ := b_r_some hf
  exact w_iret dJ1_coder_14 rfl b1 rfl
def fJ1_coder (this : Nat) (h : eH) : Option (Int32 × eH) :=
  if (1 : Int32) = 0 then
    fJ1_coder_b14 (1 : Int32) h
  else
    (o_cod this).bind fun x2 =>
    fJ1_coder_b14 x2 h
theorem pJ1_coder {w : eW} {d : Nat} (hd : 0 ≤ d) {this : Nat} {h : eH} {q} (hf : fJ1_coder this h = some q) : wm w d YJ1_coder [.ref this] h (e_is (e_rn c_I q)) := by
  show wp w d YJ1_coder 0 [some (.ref this)] [] h _
  unfold fJ1_coder at hf
  refine x_gs (j := 0) dJ1_coder_0 rfl q1957 ?_
  refine w_if_eq 13 dJ1_coder_3 (by decide) (fun c1 => ?_) (fun c1 => ?_)
  · replace hf := (if_pos (show (1 : Int32) = 0 from c1)).symm.trans hf
    refine w_iconst dJ1_coder_13 (v := 1) (by decide) ?_
    exact (pJ1_coder_b14 hd hf).to trivial
  · replace hf := (if_neg (show ¬ ((1 : Int32) = 0) from c1)).symm.trans hf
    refine w_aload_n dJ1_coder_6 rfl rfl ?_
    obtain ⟨x2, b3, hf⟩ := Option.bind_eq_some_iff.mp hf
    refine x_cod b3 dJ1_coder_7 q3075 ?_
    refine w_goto 14 dJ1_coder_10 (by decide) ?_
    exact (pJ1_coder_b14 hd hf).to trivial
abbrev cJ1_length : ByteArray := prog_51_method_54_code
def yJ1_length : MethodName := ⟨RJ1, "length", "()I"⟩
def YJ1_length : eY := (yJ1_length, cJ1_length, 1, (Option.some FieldType.int), [])
theorem mJ1_length : e_mv YJ1_length RJ1 0 := ⟨q1950, q1951, q1952, by decide, by decide +kernel, (e_sig (by decide +kernel))⟩
theorem dJ1_length_0 : decode cJ1_length 0 = .ok (.aload_n 0, 1) := dc_42 (by decide +kernel)
theorem dJ1_length_1 : decode cJ1_length 1 = .ok (.getfield 9, 3) := dc_180 (a := 0) (b := 9) (n := 9) (by decide +kernel)
theorem dJ1_length_4 : decode cJ1_length 4 = .ok (.arraylength, 1) := dc_190 (by decide +kernel)
theorem dJ1_length_5 : decode cJ1_length 5 = .ok (.aload_n 0, 1) := dc_42 (by decide +kernel)
theorem dJ1_length_6 : decode cJ1_length 6 = .ok (.invokevirtual 335, 3) := dc_182 (a := 1) (b := 79) (n := 335) (by decide +kernel)
theorem dJ1_length_9 : decode cJ1_length 9 = .ok (.ishr, 1) := dc_122 (by decide +kernel)
theorem dJ1_length_10 : decode cJ1_length 10 = .ok (.ireturn, 1) := dc_172 (by decide +kernel)
def fJ1_length (this : Nat) (h : eH) : Option (Int32 × eH) :=
  (o_val this).bind fun a1 =>
  (o_len a1).bind fun x3 =>
  (s_ok this).bind fun _ =>
  (fJ1_coder this h).bind fun q6 =>
  some ((x3 >>> (q6.1 &&& 31)), q6.2)
theorem pJ1_length {w : eW} {d : Nat} (hd : 1 ≤ d) {this : Nat} {h : eH} {q} (hf : fJ1_length this h = some q) : wm w d YJ1_length [.ref this] h (e_is (e_rn c_I q)) := by
  obtain ⟨d, rfl⟩ : ∃ e, d = e + 1 := ⟨d - 1, by omega⟩
  show wp w (d + 1) YJ1_length 0 [some (.ref this)] [] h _
  unfold fJ1_length at hf
  refine w_aload_n dJ1_length_0 rfl rfl ?_
  obtain ⟨a1, b2, hf⟩ := Option.bind_eq_some_iff.mp hf
  refine x_val b2 dJ1_length_1 q3074 ?_
  obtain ⟨x3, b4, hf⟩ := Option.bind_eq_some_iff.mp hf
  refine x_olen b4 dJ1_length_4 ?_
  refine w_aload_n dJ1_length_5 rfl rfl ?_
  obtain ⟨_, b5, hf⟩ := Option.bind_eq_some_iff.mp hf
  refine x_cnI hf (e_stVO (Yc := YJ1_coder) (av := []) (st := [.int x3]) dJ1_length_6 q1953 mJ1_coder b5) mJ1_coder.2.2.1 mJ1_coder.2.2.2.2.1 (Nat.le_of_ble_eq_true rfl) (Nat.le_of_ble_eq_true rfl) (fun q hq => pJ1_coder (by omega) hq) (fun q6 hf => ?_)
  refine w_ishr dJ1_length_9 ?_
  cases hf
  exact w_iret dJ1_length_10 rfl rfl rfl
abbrev cJ0_fill : ByteArray := prog_58_method_103_code
def yJ0_fill : MethodName := ⟨RJ0, "fill", "([II)V"⟩
def YJ0_fill : eY := (yJ0_fill, cJ0_fill, 4, none, [])
theorem mJ0_fill : e_ms YJ0_fill 2 := ⟨q1923, q461, q1924, by decide, by decide +kernel, (e_sig (by decide +kernel))⟩
theorem dJ0_fill_0 : decode cJ0_fill 0 = .ok (.iconst 0, 1) := dc_3 (by decide +kernel)
theorem dJ0_fill_1 : decode cJ0_fill 1 = .ok (.istore_n 2, 1) := dc_61 (by decide +kernel)
theorem dJ0_fill_2 : decode cJ0_fill 2 = .ok (.aload_n 0, 1) := dc_42 (by decide +kernel)
theorem dJ0_fill_3 : decode cJ0_fill 3 = .ok (.arraylength, 1) := dc_190 (by decide +kernel)
theorem dJ0_fill_4 : decode cJ0_fill 4 = .ok (.istore_n 3, 1) := dc_62 (by decide +kernel)
theorem dJ0_fill_5 : decode cJ0_fill 5 = .ok (.iload_n 2, 1) := dc_28 (by decide +kernel)
theorem dJ0_fill_6 : decode cJ0_fill 6 = .ok (.iload_n 3, 1) := dc_29 (by decide +kernel)
theorem dJ0_fill_7 : decode cJ0_fill 7 = .ok (.if_icmp .ge 13, 3) := dc_162 (a := 0) (b := 13) (v := 13) (by decide +kernel)
theorem dJ0_fill_10 : decode cJ0_fill 10 = .ok (.aload_n 0, 1) := dc_42 (by decide +kernel)
theorem dJ0_fill_11 : decode cJ0_fill 11 = .ok (.iload_n 2, 1) := dc_28 (by decide +kernel)
theorem dJ0_fill_12 : decode cJ0_fill 12 = .ok (.iload_n 1, 1) := dc_27 (by decide +kernel)
theorem dJ0_fill_13 : decode cJ0_fill 13 = .ok (.iastore, 1) := dc_79 (by decide +kernel)
theorem dJ0_fill_14 : decode cJ0_fill 14 = .ok (.iinc 2 1, 3) := dc_132 (a := 2) (b := 1) (v := 1) (by decide +kernel)
theorem dJ0_fill_17 : decode cJ0_fill 17 = .ok (.goto (-12), 3) := dc_167 (a := 255) (b := 244) (v := -12) (by decide +kernel)
theorem dJ0_fill_20 : decode cJ0_fill 20 = .ok (.return_, 1) := dc_177 (by decide +kernel)
def fJ0_fill_b5 (N : Nat) : Nat → Nat → Int32 → Int32 → Int32 → eH → Option (Unit × eH)
  | 0, _, _, _, _, _ => none
  | n + 1, l0, l1, l2, l3, h =>
    if l3 ≤ l2 then
      some ((), h)
    else
      (q_V 100 h l0 l2 (.int l1)).bind fun h2 =>
      fJ0_fill_b5 N n l0 l1 (l2 + (1 : Int32)) l3 h2
theorem pJ0_fill_b5 {w : eW} {d : Nat} (hd : 0 ≤ d) {N : Nat} : ∀ (n : Nat) l0 l1 l2 l3 h q, fJ0_fill_b5 N n l0 l1 l2 l3 h = some q → wp w d YJ0_fill 5 [some (.ref l0), some (.int l1), some (.int l2), some (.int l3)] [] h (e_is (e_rn c_V q)) := by
  intro n
  induction n with
  | zero => intro l0 l1 l2 l3 h q hf; simp [fJ0_fill_b5] at hf
  | succ n ih =>
    intro l0 l1 l2 l3 h q hf
    rw [fJ0_fill_b5] at hf
    refine w_iload_n dJ0_fill_5 rfl rfl ?_
    refine w_iload_n dJ0_fill_6 rfl rfl ?_
    refine w_icmp_ge 20 dJ0_fill_7 (by decide) (fun c1 => ?_) (fun c1 => ?_)
    · replace hf := (if_pos (show l3 ≤ l2 from c1)).symm.trans hf
      cases hf
      exact w_vret dJ0_fill_20 rfl rfl
    · replace hf := (if_neg (show ¬ (l3 ≤ l2) from c1)).symm.trans hf
      refine w_aload_n dJ0_fill_10 rfl rfl ?_
      refine w_iload_n dJ0_fill_11 rfl rfl ?_
      refine w_iload_n dJ0_fill_12 rfl rfl ?_
      obtain ⟨h2, b3, hf⟩ := Option.bind_eq_some_iff.mp hf
      refine x_qI b3 dJ0_fill_13 ?_
      refine w_iinc dJ0_fill_14 (v := (l2 + (1 : Int32))) rfl rfl (by decide) (ls' := [some (.ref l0), some (.int l1), some (.int (l2 + (1 : Int32))), some (.int l3)]) rfl ?_
      refine w_goto 5 dJ0_fill_17 (by decide) ?_
      exact (ih _ _ _ _ _ _ hf).to ⟨rfl, rfl, rfl, rfl, trivial⟩
def fJ0_fill (N : Nat) (p0 : Nat) (p1 : Int32) (h : eH) : Option (Unit × eH) :=
  (a_len h p0).bind fun x1 =>
  fJ0_fill_b5 N N p0 p1 (0 : Int32) x1 h
theorem pJ0_fill {w : eW} {d : Nat} (hd : 0 ≤ d) {N : Nat} {p0 : Nat} {p1 : Int32} {h : eH} {q} (hf : fJ0_fill N p0 p1 h = some q) : wm w d YJ0_fill [.ref p0, .int p1] h (e_is (e_rn c_V q)) := by
  show wp w d YJ0_fill 0 [some (.ref p0), some (.int p1), none, none] [] h _
  unfold fJ0_fill at hf
  refine w_iconst dJ0_fill_0 (v := 0) (by decide) ?_
  refine w_istore_n dJ0_fill_1 rfl (by decide) (ls' := [some (.ref p0), some (.int p1), some (.int (0 : Int32)), none]) rfl ?_
  refine w_aload_n dJ0_fill_2 rfl rfl ?_
  obtain ⟨x1, b2, hf⟩ := Option.bind_eq_some_iff.mp hf
  refine x_len b2 dJ0_fill_3 ?_
  refine w_istore_n dJ0_fill_4 rfl (by decide) (ls' := [some (.ref p0), some (.int p1), some (.int (0 : Int32)), some (.int x1)]) rfl ?_
  exact (pJ0_fill_b5 hd N _ _ _ _ _ _ hf).to ⟨rfl, rfl, rfl, rfl, trivial⟩
abbrev cJ0_rangeCheck : ByteArray := prog_58_method_30_code
def yJ0_rangeCheck : MethodName := ⟨RJ0, "rangeCheck", "(III)V"⟩
def YJ0_rangeCheck : eY := (yJ0_rangeCheck, cJ0_rangeCheck, 3, none, [])
theorem mJ0_rangeCheck : e_ms YJ0_rangeCheck 3 := ⟨q2855, q461, q2856, by decide, by decide +kernel, (e_sig (by decide +kernel))⟩
theorem dJ0_rangeCheck_0 : decode cJ0_rangeCheck 0 = .ok (.iload_n 1, 1) := dc_27 (by decide +kernel)
theorem dJ0_rangeCheck_1 : decode cJ0_rangeCheck 1 = .ok (.iload_n 2, 1) := dc_28 (by decide +kernel)
theorem dJ0_rangeCheck_2 : decode cJ0_rangeCheck 2 = .ok (.if_icmp .le 44, 3) := dc_164 (a := 0) (b := 44) (v := 44) (by decide +kernel)
theorem dJ0_rangeCheck_5 : decode cJ0_rangeCheck 5 = .ok (.new 43, 3) := dc_187 (a := 0) (b := 43) (n := 43) (by decide +kernel)
theorem dJ0_rangeCheck_8 : decode cJ0_rangeCheck 8 = .ok (.dup, 1) := dc_89 (by decide +kernel)
theorem dJ0_rangeCheck_9 : decode cJ0_rangeCheck 9 = .ok (.new 45, 3) := dc_187 (a := 0) (b := 45) (n := 45) (by decide +kernel)
theorem dJ0_rangeCheck_12 : decode cJ0_rangeCheck 12 = .ok (.dup, 1) := dc_89 (by decide +kernel)
theorem dJ0_rangeCheck_13 : decode cJ0_rangeCheck 13 = .ok (.invokespecial 47, 3) := dc_183 (a := 0) (b := 47) (n := 47) (by decide +kernel)
theorem dJ0_rangeCheck_16 : decode cJ0_rangeCheck 16 = .ok (.ldc 48, 2) := dc_18 (a := 48) (by decide +kernel)
theorem dJ0_rangeCheck_18 : decode cJ0_rangeCheck 18 = .ok (.invokevirtual 50, 3) := dc_182 (a := 0) (b := 50) (n := 50) (by decide +kernel)
theorem dJ0_rangeCheck_21 : decode cJ0_rangeCheck 21 = .ok (.iload_n 1, 1) := dc_27 (by decide +kernel)
theorem dJ0_rangeCheck_22 : decode cJ0_rangeCheck 22 = .ok (.invokevirtual 54, 3) := dc_182 (a := 0) (b := 54) (n := 54) (by decide +kernel)
theorem dJ0_rangeCheck_25 : decode cJ0_rangeCheck 25 = .ok (.ldc 57, 2) := dc_18 (a := 57) (by decide +kernel)
theorem dJ0_rangeCheck_27 : decode cJ0_rangeCheck 27 = .ok (.invokevirtual 50, 3) := dc_182 (a := 0) (b := 50) (n := 50) (by decide +kernel)
theorem dJ0_rangeCheck_30 : decode cJ0_rangeCheck 30 = .ok (.iload_n 2, 1) := dc_28 (by decide +kernel)
theorem dJ0_rangeCheck_31 : decode cJ0_rangeCheck 31 = .ok (.invokevirtual 54, 3) := dc_182 (a := 0) (b := 54) (n := 54) (by decide +kernel)
theorem dJ0_rangeCheck_34 : decode cJ0_rangeCheck 34 = .ok (.ldc 59, 2) := dc_18 (a := 59) (by decide +kernel)
theorem dJ0_rangeCheck_36 : decode cJ0_rangeCheck 36 = .ok (.invokevirtual 50, 3) := dc_182 (a := 0) (b := 50) (n := 50) (by decide +kernel)
theorem dJ0_rangeCheck_39 : decode cJ0_rangeCheck 39 = .ok (.invokevirtual 61, 3) := dc_182 (a := 0) (b := 61) (n := 61) (by decide +kernel)
theorem dJ0_rangeCheck_42 : decode cJ0_rangeCheck 42 = .ok (.invokespecial 65, 3) := dc_183 (a := 0) (b := 65) (n := 65) (by decide +kernel)
theorem dJ0_rangeCheck_45 : decode cJ0_rangeCheck 45 = .ok (.athrow, 1) := dc_191 (by decide +kernel)
theorem dJ0_rangeCheck_46 : decode cJ0_rangeCheck 46 = .ok (.iload_n 1, 1) := dc_27 (by decide +kernel)
theorem dJ0_rangeCheck_47 : decode cJ0_rangeCheck 47 = .ok (.ifCond .ge 12, 3) := dc_156 (a := 0) (b := 12) (v := 12) (by decide +kernel)
theorem dJ0_rangeCheck_50 : decode cJ0_rangeCheck 50 = .ok (.new 68, 3) := dc_187 (a := 0) (b := 68) (n := 68) (by decide +kernel)
theorem dJ0_rangeCheck_53 : decode cJ0_rangeCheck 53 = .ok (.dup, 1) := dc_89 (by decide +kernel)
theorem dJ0_rangeCheck_54 : decode cJ0_rangeCheck 54 = .ok (.iload_n 1, 1) := dc_27 (by decide +kernel)
theorem dJ0_rangeCheck_55 : decode cJ0_rangeCheck 55 = .ok (.invokespecial 70, 3) := dc_183 (a := 0) (b := 70) (n := 70) (by decide +kernel)
theorem dJ0_rangeCheck_58 : decode cJ0_rangeCheck 58 = .ok (.athrow, 1) := dc_191 (by decide +kernel)
theorem dJ0_rangeCheck_59 : decode cJ0_rangeCheck 59 = .ok (.iload_n 2, 1) := dc_28 (by decide +kernel)
theorem dJ0_rangeCheck_60 : decode cJ0_rangeCheck 60 = .ok (.iload_n 0, 1) := dc_26 (by decide +kernel)
theorem dJ0_rangeCheck_61 : decode cJ0_rangeCheck 61 = .ok (.if_icmp .le 12, 3) := dc_164 (a := 0) (b := 12) (v := 12) (by decide +kernel)
theorem dJ0_rangeCheck_64 : decode cJ0_rangeCheck 64 = .ok (.new 68, 3) := dc_187 (a := 0) (b := 68) (n := 68) (by decide +kernel)
theorem dJ0_rangeCheck_67 : decode cJ0_rangeCheck 67 = .ok (.dup, 1) := dc_89 (by decide +kernel)
theorem dJ0_rangeCheck_68 : decode cJ0_rangeCheck 68 = .ok (.iload_n 2, 1) := dc_28 (by decide +kernel)
theorem dJ0_rangeCheck_69 : decode cJ0_rangeCheck 69 = .ok (.invokespecial 70, 3) := dc_183 (a := 0) (b := 70) (n := 70) (by decide +kernel)
theorem dJ0_rangeCheck_72 : decode cJ0_rangeCheck 72 = .ok (.athrow, 1) := dc_191 (by decide +kernel)
theorem dJ0_rangeCheck_73 : decode cJ0_rangeCheck 73 = .ok (.return_, 1) := dc_177 (by decide +kernel)
def fJ0_rangeCheck (p0 : Int32) (p1 : Int32) (p2 : Int32) (h : eH) : Option (Unit × eH) :=
  if p1 ≤ p2 then
    if 0 ≤ p1 then
      if p2 ≤ p0 then
        some ((), h)
      else
        none
    else
      none
  else
    none
theorem pJ0_rangeCheck {w : eW} {d : Nat} (hd : 0 ≤ d) {p0 : Int32} {p1 : Int32} {p2 : Int32} {h : eH} {q} (hf : fJ0_rangeCheck p0 p1 p2 h = some q) : wm w d YJ0_rangeCheck [.int p0, .int p1, .int p2] h (e_is (e_rn c_V q)) := by
  show wp w d YJ0_rangeCheck 0 [some (.int p0), some (.int p1), some (.int p2)] [] h _
  unfold fJ0_rangeCheck at hf
  refine w_iload_n dJ0_rangeCheck_0 rfl rfl ?_
  refine w_iload_n dJ0_rangeCheck_1 rfl rfl ?_
  refine w_icmp_le 46 dJ0_rangeCheck_2 (by decide) (fun c1 => ?_) (fun c1 => ?_)
  · replace hf := (if_pos (show p1 ≤ p2 from c1)).symm.trans hf
    refine w_iload_n dJ0_rangeCheck_46 rfl rfl ?_
    refine w_if_ge 59 dJ0_rangeCheck_47 (by decide) (fun c2 => ?_) (fun c2 => ?_)
    · replace hf := (if_pos (show 0 ≤ p1 from c2)).symm.trans hf
      refine w_iload_n dJ0_rangeCheck_59 rfl rfl ?_
      refine w_iload_n dJ0_rangeCheck_60 rfl rfl ?_
      refine w_icmp_le 73 dJ0_rangeCheck_61 (by decide) (fun c3 => ?_) (fun c3 => ?_)
      · replace hf := (if_pos (show p2 ≤ p0 from c3)).symm.trans hf
        cases hf
        exact w_vret dJ0_rangeCheck_73 rfl rfl
      · replace hf := (if_neg (show ¬ (p2 ≤ p0) from c3)).symm.trans hf
        cases hf
    · replace hf := (if_neg (show ¬ (0 ≤ p1) from c2)).symm.trans hf
      cases hf
  · replace hf := (if_neg (show ¬ (p1 ≤ p2) from c1)).symm.trans hf
    cases hf
abbrev cJ0_fill_3 : ByteArray := prog_58_method_104_code
def yJ0_fill_3 : MethodName := ⟨RJ0, "fill", "([IIII)V"⟩
def YJ0_fill_3 : eY := (yJ0_fill_3, cJ0_fill_3, 5, none, [])
theorem mJ0_fill_3 : e_ms YJ0_fill_3 4 := ⟨q2852, q461, q2853, by decide, by decide +kernel, (e_sig (by decide +kernel))⟩
theorem dJ0_fill_3_0 : decode cJ0_fill_3 0 = .ok (.aload_n 0, 1) := dc_42 (by decide +kernel)
theorem dJ0_fill_3_1 : decode cJ0_fill_3 1 = .ok (.arraylength, 1) := dc_190 (by decide +kernel)
theorem dJ0_fill_3_2 : decode cJ0_fill_3 2 = .ok (.iload_n 1, 1) := dc_27 (by decide +kernel)
theorem dJ0_fill_3_3 : decode cJ0_fill_3 3 = .ok (.iload_n 2, 1) := dc_28 (by decide +kernel)
theorem dJ0_fill_3_4 : decode cJ0_fill_3 4 = .ok (.invokestatic 13, 3) := dc_184 (a := 0) (b := 13) (n := 13) (by decide +kernel)
theorem dJ0_fill_3_7 : decode cJ0_fill_3 7 = .ok (.iload_n 1, 1) := dc_27 (by decide +kernel)
theorem dJ0_fill_3_8 : decode cJ0_fill_3 8 = .ok (.istore 4, 2) := dc_54 (a := 4) (by decide +kernel)
theorem dJ0_fill_3_10 : decode cJ0_fill_3 10 = .ok (.iload 4, 2) := dc_21 (a := 4) (by decide +kernel)
theorem dJ0_fill_3_12 : decode cJ0_fill_3 12 = .ok (.iload_n 2, 1) := dc_28 (by decide +kernel)
theorem dJ0_fill_3_13 : decode cJ0_fill_3 13 = .ok (.if_icmp .ge 14, 3) := dc_162 (a := 0) (b := 14) (v := 14) (by decide +kernel)
theorem dJ0_fill_3_16 : decode cJ0_fill_3 16 = .ok (.aload_n 0, 1) := dc_42 (by decide +kernel)
theorem dJ0_fill_3_17 : decode cJ0_fill_3 17 = .ok (.iload 4, 2) := dc_21 (a := 4) (by decide +kernel)
theorem dJ0_fill_3_19 : decode cJ0_fill_3 19 = .ok (.iload_n 3, 1) := dc_29 (by decide +kernel)
theorem dJ0_fill_3_20 : decode cJ0_fill_3 20 = .ok (.iastore, 1) := dc_79 (by decide +kernel)
theorem dJ0_fill_3_21 : decode cJ0_fill_3 21 = .ok (.iinc 4 1, 3) := dc_132 (a := 4) (b := 1) (v := 1) (by decide +kernel)
theorem dJ0_fill_3_24 : decode cJ0_fill_3 24 = .ok (.goto (-14), 3) := dc_167 (a := 255) (b := 242) (v := -14) (by decide +kernel)
theorem dJ0_fill_3_27 : decode cJ0_fill_3 27 = .ok (.return_, 1) := dc_177 (by decide +kernel)
def fJ0_fill_3_b10 (N : Nat) : Nat → Nat → Int32 → Int32 → Int32 → eH → Option (Unit × eH)
  | 0, _, _, _, _, _ => none
  | n + 1, l0, l2, l3, l4, h =>
    if l2 ≤ l4 then
      some ((), h)
    else
      (q_V 100 h l0 l4 (.int l3)).bind fun h2 =>
      fJ0_fill_3_b10 N n l0 l2 l3 (l4 + (1 : Int32)) h2
theorem pJ0_fill_3_b10 {w : eW} {d : Nat} (hd : 1 ≤ d + 1) {N : Nat} : ∀ (n : Nat) l0 l2 l3 l4 h q, fJ0_fill_3_b10 N n l0 l2 l3 l4 h = some q → wp w (d + 1) YJ0_fill_3 10 [some (.ref l0), none, some (.int l2), some (.int l3), some (.int l4)] [] h (e_is (e_rn c_V q)) := by
  intro n
  induction n with
  | zero => intro l0 l2 l3 l4 h q hf; simp [fJ0_fill_3_b10] at hf
  | succ n ih =>
    intro l0 l2 l3 l4 h q hf
    rw [fJ0_fill_3_b10] at hf
    refine w_iload dJ0_fill_3_10 rfl ?_
    refine w_iload_n dJ0_fill_3_12 rfl rfl ?_
    refine w_icmp_ge 27 dJ0_fill_3_13 (by decide) (fun c1 => ?_) (fun c1 => ?_)
    · replace hf := (if_pos (show l2 ≤ l4 from c1)).symm.trans hf
      cases hf
      exact w_vret dJ0_fill_3_27 rfl rfl
    · replace hf := (if_neg (show ¬ (l2 ≤ l4) from c1)).symm.trans hf
      refine w_aload_n dJ0_fill_3_16 rfl rfl ?_
      refine w_iload dJ0_fill_3_17 rfl ?_
      refine w_iload_n dJ0_fill_3_19 rfl rfl ?_
      obtain ⟨h2, b3, hf⟩ := Option.bind_eq_some_iff.mp hf
      refine x_qI b3 dJ0_fill_3_20 ?_
      refine w_iinc dJ0_fill_3_21 (v := (l4 + (1 : Int32))) rfl rfl (by decide) (ls' := [some (.ref l0), none, some (.int l2), some (.int l3), some (.int (l4 + (1 : Int32)))]) rfl ?_
      refine w_goto 10 dJ0_fill_3_24 (by decide) ?_
      exact (ih _ _ _ _ _ _ hf).to ⟨rfl, rfl, rfl, rfl, trivial⟩
def fJ0_fill_3 (N : Nat) (p0 : Nat) (p1 : Int32) (p2 : Int32) (p3 : Int32) (h : eH) : Option (Unit × eH) :=
  (a_len h p0).bind fun x1 =>
  (fJ0_rangeCheck x1 p1 p2 h).bind fun q3 =>
  fJ0_fill_3_b10 N N p0 p2 p3 p1 q3.2
theorem pJ0_fill_3 {w : eW} {d : Nat} (hd : 1 ≤ d) {N : Nat} {p0 : Nat} {p1 : Int32} {p2 : Int32} {p3 : Int32} {h : eH} {q} (hf : fJ0_fill_3 N p0 p1 p2 p3 h = some q) : wm w d YJ0_fill_3 [.ref p0, .int p1, .int p2, .int p3] h (e_is (e_rn c_V q)) := by
  obtain ⟨d, rfl⟩ : ∃ e, d = e + 1 := ⟨d - 1, by omega⟩
  show wp w (d + 1) YJ0_fill_3 0 [some (.ref p0), some (.int p1), some (.int p2), some (.int p3), none] [] h _
  unfold fJ0_fill_3 at hf
  refine w_aload_n dJ0_fill_3_0 rfl rfl ?_
  obtain ⟨x1, b2, hf⟩ := Option.bind_eq_some_iff.mp hf
  refine x_len b2 dJ0_fill_3_1 ?_
  refine w_iload_n dJ0_fill_3_2 rfl rfl ?_
  refine w_iload_n dJ0_fill_3_3 rfl rfl ?_
  refine x_cnV hf (e_stS (Yc := YJ0_rangeCheck) (av := [.int x1, .int p1, .int p2]) (st := []) dJ0_fill_3_4 q2854 mJ0_rangeCheck) mJ0_rangeCheck.2.2.1 mJ0_rangeCheck.2.2.2.2.1 (Nat.le_of_ble_eq_true rfl) (Nat.le_of_ble_eq_true rfl) (fun q hq => pJ0_rangeCheck (by omega) hq) (fun q3 hf => ?_)
  refine w_iload_n dJ0_fill_3_7 rfl rfl ?_
  refine w_istore dJ0_fill_3_8 (by decide) (ls' := [some (.ref p0), some (.int p1), some (.int p2), some (.int p3), some (.int p1)]) rfl ?_
  exact (pJ0_fill_3_b10 hd N _ _ _ _ _ _ hf).to ⟨rfl, rfl, rfl, rfl, trivial⟩
abbrev cJ0_fill_4 : ByteArray := prog_58_method_101_code
def yJ0_fill_4 : MethodName := ⟨RJ0, "fill", "([JJ)V"⟩
def YJ0_fill_4 : eY := (yJ0_fill_4, cJ0_fill_4, 5, none, [])
theorem mJ0_fill_4 : e_ms YJ0_fill_4 2 := ⟨q3729, q461, q3730, by decide, by decide +kernel, (e_sig (by decide +kernel))⟩
theorem dJ0_fill_4_0 : decode cJ0_fill_4 0 = .ok (.iconst 0, 1) := dc_3 (by decide +kernel)
theorem dJ0_fill_4_1 : decode cJ0_fill_4 1 = .ok (.istore_n 3, 1) := dc_62 (by decide +kernel)
theorem dJ0_fill_4_2 : decode cJ0_fill_4 2 = .ok (.aload_n 0, 1) := dc_42 (by decide +kernel)
theorem dJ0_fill_4_3 : decode cJ0_fill_4 3 = .ok (.arraylength, 1) := dc_190 (by decide +kernel)
theorem dJ0_fill_4_4 : decode cJ0_fill_4 4 = .ok (.istore 4, 2) := dc_54 (a := 4) (by decide +kernel)
theorem dJ0_fill_4_6 : decode cJ0_fill_4 6 = .ok (.iload_n 3, 1) := dc_29 (by decide +kernel)
theorem dJ0_fill_4_7 : decode cJ0_fill_4 7 = .ok (.iload 4, 2) := dc_21 (a := 4) (by decide +kernel)
theorem dJ0_fill_4_9 : decode cJ0_fill_4 9 = .ok (.if_icmp .ge 13, 3) := dc_162 (a := 0) (b := 13) (v := 13) (by decide +kernel)
theorem dJ0_fill_4_12 : decode cJ0_fill_4 12 = .ok (.aload_n 0, 1) := dc_42 (by decide +kernel)
theorem dJ0_fill_4_13 : decode cJ0_fill_4 13 = .ok (.iload_n 3, 1) := dc_29 (by decide +kernel)
theorem dJ0_fill_4_14 : decode cJ0_fill_4 14 = .ok (.lload_n 1, 1) := dc_31 (by decide +kernel)
theorem dJ0_fill_4_15 : decode cJ0_fill_4 15 = .ok (.lastore, 1) := dc_80 (by decide +kernel)
theorem dJ0_fill_4_16 : decode cJ0_fill_4 16 = .ok (.iinc 3 1, 3) := dc_132 (a := 3) (b := 1) (v := 1) (by decide +kernel)
theorem dJ0_fill_4_19 : decode cJ0_fill_4 19 = .ok (.goto (-13), 3) := dc_167 (a := 255) (b := 243) (v := -13) (by decide +kernel)
theorem dJ0_fill_4_22 : decode cJ0_fill_4 22 = .ok (.return_, 1) := dc_177 (by decide +kernel)
def fJ0_fill_4_b6 (N : Nat) : Nat → Nat → Int64 → Int32 → Int32 → eH → Option (Unit × eH)
  | 0, _, _, _, _, _ => none
  | n + 1, l0, l1, l3, l4, h =>
    if l4 ≤ l3 then
      some ((), h)
    else
      (q_V 101 h l0 l3 (.long l1)).bind fun h2 =>
      fJ0_fill_4_b6 N n l0 l1 (l3 + (1 : Int32)) l4 h2
theorem pJ0_fill_4_b6 {w : eW} {d : Nat} (hd : 0 ≤ d) {N : Nat} : ∀ (n : Nat) l0 l1 l3 l4 h q, fJ0_fill_4_b6 N n l0 l1 l3 l4 h = some q → wp w d YJ0_fill_4 6 [some (.ref l0), some (.long l1), none, some (.int l3), some (.int l4)] [] h (e_is (e_rn c_V q)) := by
  intro n
  induction n with
  | zero => intro l0 l1 l3 l4 h q hf; simp [fJ0_fill_4_b6] at hf
  | succ n ih =>
    intro l0 l1 l3 l4 h q hf
    rw [fJ0_fill_4_b6] at hf
    refine w_iload_n dJ0_fill_4_6 rfl rfl ?_
    refine w_iload dJ0_fill_4_7 rfl ?_
    refine w_icmp_ge 22 dJ0_fill_4_9 (by decide) (fun c1 => ?_) (fun c1 => ?_)
    · replace hf := (if_pos (show l4 ≤ l3 from c1)).symm.trans hf
      cases hf
      exact w_vret dJ0_fill_4_22 rfl rfl
    · replace hf := (if_neg (show ¬ (l4 ≤ l3) from c1)).symm.trans hf
      refine w_aload_n dJ0_fill_4_12 rfl rfl ?_
      refine w_iload_n dJ0_fill_4_13 rfl rfl ?_
      refine w_lload_n dJ0_fill_4_14 rfl rfl ?_
      obtain ⟨h2, b3, hf⟩ := Option.bind_eq_some_iff.mp hf
      refine x_qJ b3 dJ0_fill_4_15 ?_
      refine w_iinc dJ0_fill_4_16 (v := (l3 + (1 : Int32))) rfl rfl (by decide) (ls' := [some (.ref l0), some (.long l1), none, some (.int (l3 + (1 : Int32))), some (.int l4)]) rfl ?_
      refine w_goto 6 dJ0_fill_4_19 (by decide) ?_
      exact (ih _ _ _ _ _ _ hf).to ⟨rfl, rfl, rfl, rfl, trivial⟩
def fJ0_fill_4 (N : Nat) (p0 : Nat) (p1 : Int64) (h : eH) : Option (Unit × eH) :=
  (a_len h p0).bind fun x1 =>
  fJ0_fill_4_b6 N N p0 p1 (0 : Int32) x1 h
theorem pJ0_fill_4 {w : eW} {d : Nat} (hd : 0 ≤ d) {N : Nat} {p0 : Nat} {p1 : Int64} {h : eH} {q} (hf : fJ0_fill_4 N p0 p1 h = some q) : wm w d YJ0_fill_4 [.ref p0, .long p1] h (e_is (e_rn c_V q)) := by
  show wp w d YJ0_fill_4 0 [some (.ref p0), some (.long p1), none, none, none] [] h _
  unfold fJ0_fill_4 at hf
  refine w_iconst dJ0_fill_4_0 (v := 0) (by decide) ?_
  refine w_istore_n dJ0_fill_4_1 rfl (by decide) (ls' := [some (.ref p0), some (.long p1), none, some (.int (0 : Int32)), none]) rfl ?_
  refine w_aload_n dJ0_fill_4_2 rfl rfl ?_
  obtain ⟨x1, b2, hf⟩ := Option.bind_eq_some_iff.mp hf
  refine x_len b2 dJ0_fill_4_3 ?_
  refine w_istore dJ0_fill_4_4 (by decide) (ls' := [some (.ref p0), some (.long p1), none, some (.int (0 : Int32)), some (.int x1)]) rfl ?_
  exact (pJ0_fill_4_b6 hd N _ _ _ _ _ _ hf).to ⟨rfl, rfl, rfl, rfl, trivial⟩
abbrev cJ0_fill_2 : ByteArray := prog_58_method_111_code
def yJ0_fill_2 : MethodName := ⟨RJ0, "fill", "([ZZ)V"⟩
def YJ0_fill_2 : eY := (yJ0_fill_2, cJ0_fill_2, 4, none, [])
theorem mJ0_fill_2 : e_ms YJ0_fill_2 2 := ⟨q2041, q461, q2042, by decide, by decide +kernel, (e_sig (by decide +kernel))⟩
theorem dJ0_fill_2_0 : decode cJ0_fill_2 0 = .ok (.iconst 0, 1) := dc_3 (by decide +kernel)
theorem dJ0_fill_2_1 : decode cJ0_fill_2 1 = .ok (.istore_n 2, 1) := dc_61 (by decide +kernel)
theorem dJ0_fill_2_2 : decode cJ0_fill_2 2 = .ok (.aload_n 0, 1) := dc_42 (by decide +kernel)
theorem dJ0_fill_2_3 : decode cJ0_fill_2 3 = .ok (.arraylength, 1) := dc_190 (by decide +kernel)
theorem dJ0_fill_2_4 : decode cJ0_fill_2 4 = .ok (.istore_n 3, 1) := dc_62 (by decide +kernel)
theorem dJ0_fill_2_5 : decode cJ0_fill_2 5 = .ok (.iload_n 2, 1) := dc_28 (by decide +kernel)
theorem dJ0_fill_2_6 : decode cJ0_fill_2 6 = .ok (.iload_n 3, 1) := dc_29 (by decide +kernel)
theorem dJ0_fill_2_7 : decode cJ0_fill_2 7 = .ok (.if_icmp .ge 13, 3) := dc_162 (a := 0) (b := 13) (v := 13) (by decide +kernel)
theorem dJ0_fill_2_10 : decode cJ0_fill_2 10 = .ok (.aload_n 0, 1) := dc_42 (by decide +kernel)
theorem dJ0_fill_2_11 : decode cJ0_fill_2 11 = .ok (.iload_n 2, 1) := dc_28 (by decide +kernel)
theorem dJ0_fill_2_12 : decode cJ0_fill_2 12 = .ok (.iload_n 1, 1) := dc_27 (by decide +kernel)
theorem dJ0_fill_2_13 : decode cJ0_fill_2 13 = .ok (.bastore, 1) := dc_84 (by decide +kernel)
theorem dJ0_fill_2_14 : decode cJ0_fill_2 14 = .ok (.iinc 2 1, 3) := dc_132 (a := 2) (b := 1) (v := 1) (by decide +kernel)
theorem dJ0_fill_2_17 : decode cJ0_fill_2 17 = .ok (.goto (-12), 3) := dc_167 (a := 255) (b := 244) (v := -12) (by decide +kernel)
theorem dJ0_fill_2_20 : decode cJ0_fill_2 20 = .ok (.return_, 1) := dc_177 (by decide +kernel)
def fJ0_fill_2_b5 (N : Nat) : Nat → Nat → Int32 → Int32 → Int32 → eH → Option (Unit × eH)
  | 0, _, _, _, _, _ => none
  | n + 1, l0, l1, l2, l3, h =>
    if l3 ≤ l2 then
      some ((), h)
    else
      (q_V 103 h l0 l2 (.int (l1 &&& 1))).bind fun h2 =>
      fJ0_fill_2_b5 N n l0 l1 (l2 + (1 : Int32)) l3 h2
theorem pJ0_fill_2_b5 {w : eW} {d : Nat} (hd : 0 ≤ d) {N : Nat} : ∀ (n : Nat) l0 l1 l2 l3 h q, fJ0_fill_2_b5 N n l0 l1 l2 l3 h = some q → wp w d YJ0_fill_2 5 [some (.ref l0), some (.int l1), some (.int l2), some (.int l3)] [] h (e_is (e_rn c_V q)) := by
  intro n
  induction n with
  | zero => intro l0 l1 l2 l3 h q hf; simp [fJ0_fill_2_b5] at hf
  | succ n ih =>
    intro l0 l1 l2 l3 h q hf
    rw [fJ0_fill_2_b5] at hf
    refine w_iload_n dJ0_fill_2_5 rfl rfl ?_
    refine w_iload_n dJ0_fill_2_6 rfl rfl ?_
    refine w_icmp_ge 20 dJ0_fill_2_7 (by decide) (fun c1 => ?_) (fun c1 => ?_)
    · replace hf := (if_pos (show l3 ≤ l2 from c1)).symm.trans hf
      cases hf
      exact w_vret dJ0_fill_2_20 rfl rfl
    · replace hf := (if_neg (show ¬ (l3 ≤ l2) from c1)).symm.trans hf
      refine w_aload_n dJ0_fill_2_10 rfl rfl ?_
      refine w_iload_n dJ0_fill_2_11 rfl rfl ?_
      refine w_iload_n dJ0_fill_2_12 rfl rfl ?_
      obtain ⟨h2, b3, hf⟩ := Option.bind_eq_some_iff.mp hf
      refine x_qZ b3 dJ0_fill_2_13 ?_
      refine w_iinc dJ0_fill_2_14 (v := (l2 + (1 : Int32))) rfl rfl (by decide) (ls' := [some (.ref l0), some (.int l1), some (.int (l2 + (1 : Int32))), some (.int l3)]) rfl ?_
      refine w_goto 5 dJ0_fill_2_17 (by decide) ?_
      exact (ih _ _ _ _ _ _ hf).to ⟨rfl, rfl, rfl, rfl, trivial⟩
def fJ0_fill_2 (N : Nat) (p0 : Nat) (p1 : Int32) (h : eH) : Option (Unit × eH) :=
  (a_len h p0).bind fun x1 =>
  fJ0_fill_2_b5 N N p0 p1 (0 : Int32) x1 h
theorem pJ0_fill_2 {w : eW} {d : Nat} (hd : 0 ≤ d) {N : Nat} {p0 : Nat} {p1 : Int32} {h : eH} {q} (hf : fJ0_fill_2 N p0 p1 h = some q) : wm w d YJ0_fill_2 [.ref p0, .int p1] h (e_is (e_rn c_V q)) := by
  show wp w d YJ0_fill_2 0 [some (.ref p0), some (.int p1), none, none] [] h _
  unfold fJ0_fill_2 at hf
  refine w_iconst dJ0_fill_2_0 (v := 0) (by decide) ?_
  refine w_istore_n dJ0_fill_2_1 rfl (by decide) (ls' := [some (.ref p0), some (.int p1), some (.int (0 : Int32)), none]) rfl ?_
  refine w_aload_n dJ0_fill_2_2 rfl rfl ?_
  obtain ⟨x1, b2, hf⟩ := Option.bind_eq_some_iff.mp hf
  refine x_len b2 dJ0_fill_2_3 ?_
  refine w_istore_n dJ0_fill_2_4 rfl (by decide) (ls' := [some (.ref p0), some (.int p1), some (.int (0 : Int32)), some (.int x1)]) rfl ?_
  exact (pJ0_fill_2_b5 hd N _ _ _ _ _ _ hf).to ⟨rfl, rfl, rfl, rfl, trivial⟩
