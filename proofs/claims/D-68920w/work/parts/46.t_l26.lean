set_option maxRecDepth 100000
set_option maxHeartbeats 4000000
theorem q425 : (Jvm.Cond.initialized "TypeHouseLaw") ∈ lw_all := lw_g (lw_at lw_m1 0 rfl) rfl
theorem q484 : (Jvm.Cond.classLink "TypeHouseLaw" (8 : Nat) "TypeHouse") ∈ lw_all := lw_g (lw_at lw_m1 59 rfl) rfl
theorem q485 : (Jvm.Cond.instantiable "TypeHouse" (5 : Nat)) ∈ lw_all := lw_g (lw_at lw_m1 60 rfl) rfl
theorem q486 : (Jvm.Cond.methodLink "TypeHouseLaw" (37 : Nat) ({ cls := "TypeHouse", name := "<init>", desc := "()V" } : Jvm.MethodName)) ∈ lw_all := lw_g (lw_at lw_m1 61 rfl) rfl
theorem q2070 : (Jvm.Cond.methodLink "TypeHouseLaw" (59 : Nat) ({ cls := "TypeHouse", name := "clear", desc := "(Z)I" } : Jvm.MethodName)) ∈ lw_all := lw_g (lw_at lw_m7 205 rfl) rfl
theorem q2083 : (Jvm.Cond.methodLink "TypeHouseLaw" (64 : Nat) ({ cls := "TypeHouse", name := "size", desc := "()I" } : Jvm.MethodName)) ∈ lw_all := lw_g (lw_at lw_m7 218 rfl) rfl
theorem q2087 : (Jvm.Cond.methodLink "TypeHouseLaw" (41 : Nat) ({ cls := "TypeHouseLaw", name := "feed", desc := "(LTypeHouse;IIIII)I" } : Jvm.MethodName)) ∈ lw_all := lw_g (lw_at lw_m7 222 rfl) rfl
theorem q2088 : (Jvm.Cond.static ({ cls := "TypeHouseLaw", name := "feed", desc := "(LTypeHouse;IIIII)I" } : Jvm.MethodName)) ∈ lw_all := lw_g (lw_at lw_m7 223 rfl) rfl
theorem q2089 : (Jvm.Cond.codeWith ({ cls := "TypeHouseLaw", name := "feed", desc := "(LTypeHouse;IIIII)I" } : Jvm.MethodName) method_3_code (7 : Nat) (Option.some Jvm.ClassFile.FieldType.int) [((0 : Nat), (11 : Nat), (14 : Nat), (13 : Nat))]) ∈ lw_all := lw_g (lw_at lw_m7 224 rfl) rfl
theorem q2090 : (Jvm.Cond.classLink "TypeHouseLaw" (13 : Nat) "java/lang/UnsupportedOperationException") ∈ lw_all := lw_g (lw_at lw_m7 225 rfl) rfl
theorem q2091 : (Jvm.Cond.methodLink "TypeHouseLaw" (7 : Nat) ({ cls := "TypeHouse", name := "feed", desc := "(IIIII)V" } : Jvm.MethodName)) ∈ lw_all := lw_g (lw_at lw_m7 226 rfl) rfl
theorem q2164 : (Jvm.Cond.methodLink "TypeHouseLaw" (51 : Nat) ({ cls := "TypeHouseLaw", name := "fuel", desc := "(LTypeHouse;I)I" } : Jvm.MethodName)) ∈ lw_all := lw_g (lw_at lw_m8 59 rfl) rfl
theorem q2165 : (Jvm.Cond.static ({ cls := "TypeHouseLaw", name := "fuel", desc := "(LTypeHouse;I)I" } : Jvm.MethodName)) ∈ lw_all := lw_g (lw_at lw_m8 60 rfl) rfl
theorem q2166 : (Jvm.Cond.codeWith ({ cls := "TypeHouseLaw", name := "fuel", desc := "(LTypeHouse;I)I" } : Jvm.MethodName) method_4_code (3 : Nat) (Option.some Jvm.ClassFile.FieldType.int) [((0 : Nat), (5 : Nat), (8 : Nat), (19 : Nat))]) ∈ lw_all := lw_g (lw_at lw_m8 61 rfl) rfl
theorem q2167 : (Jvm.Cond.classLink "TypeHouseLaw" (19 : Nat) "java/lang/IllegalArgumentException") ∈ lw_all := lw_g (lw_at lw_m8 62 rfl) rfl
theorem q2168 : (Jvm.Cond.methodLink "TypeHouseLaw" (15 : Nat) ({ cls := "TypeHouse", name := "fuel", desc := "(I)V" } : Jvm.MethodName)) ∈ lw_all := lw_g (lw_at lw_m8 63 rfl) rfl
theorem q2188 : (Jvm.Cond.methodLink "TypeHouseLaw" (55 : Nat) ({ cls := "TypeHouseLaw", name := "end", desc := "(LTypeHouse;II[J)I" } : Jvm.MethodName)) ∈ lw_all := lw_g (lw_at lw_m8 83 rfl) rfl
theorem q2189 : (Jvm.Cond.static ({ cls := "TypeHouseLaw", name := "end", desc := "(LTypeHouse;II[J)I" } : Jvm.MethodName)) ∈ lw_all := lw_g (lw_at lw_m8 84 rfl) rfl
theorem q2190 : (Jvm.Cond.codeWith ({ cls := "TypeHouseLaw", name := "end", desc := "(LTypeHouse;II[J)I" } : Jvm.MethodName) method_5_code (5 : Nat) (Option.some Jvm.ClassFile.FieldType.int) [((0 : Nat), (10 : Nat), (13 : Nat), (19 : Nat))]) ∈ lw_all := lw_g (lw_at lw_m8 85 rfl) rfl
theorem q2191 : (Jvm.Cond.methodLink "TypeHouseLaw" (21 : Nat) ({ cls := "TypeHouse", name := "end", desc := "(II)I" } : Jvm.MethodName)) ∈ lw_all := lw_g (lw_at lw_m8 86 rfl) rfl
theorem q4072 : (Jvm.Cond.methodLink "TypeHouseLaw" (68 : Nat) ({ cls := "TypeHouseLaw", name := "out", desc := "(LTypeHouse;I[J)I" } : Jvm.MethodName)) ∈ lw_all := lw_g (lw_at lw_m16 47 rfl) rfl
theorem q4073 : (Jvm.Cond.static ({ cls := "TypeHouseLaw", name := "out", desc := "(LTypeHouse;I[J)I" } : Jvm.MethodName)) ∈ lw_all := lw_g (lw_at lw_m16 48 rfl) rfl
theorem q4074 : (Jvm.Cond.codeWith ({ cls := "TypeHouseLaw", name := "out", desc := "(LTypeHouse;I[J)I" } : Jvm.MethodName) method_6_code (4 : Nat) (Option.some Jvm.ClassFile.FieldType.int) [((0 : Nat), (9 : Nat), (12 : Nat), (29 : Nat))]) ∈ lw_all := lw_g (lw_at lw_m16 49 rfl) rfl
theorem q4075 : (Jvm.Cond.classLink "TypeHouseLaw" (29 : Nat) "java/lang/IndexOutOfBoundsException") ∈ lw_all := lw_g (lw_at lw_m16 50 rfl) rfl
theorem q4076 : (Jvm.Cond.methodLink "TypeHouseLaw" (25 : Nat) ({ cls := "TypeHouse", name := "out", desc := "(I)I" } : Jvm.MethodName)) ∈ lw_all := lw_g (lw_at lw_m16 51 rfl) rfl
theorem q4099 : (Jvm.Cond.methodLink "TypeHouseLaw" (72 : Nat) ({ cls := "TypeHouseLaw", name := "about", desc := "(LTypeHouse;I[J)I" } : Jvm.MethodName)) ∈ lw_all := lw_g (lw_at lw_m16 74 rfl) rfl
theorem q4100 : (Jvm.Cond.static ({ cls := "TypeHouseLaw", name := "about", desc := "(LTypeHouse;I[J)I" } : Jvm.MethodName)) ∈ lw_all := lw_g (lw_at lw_m16 75 rfl) rfl
theorem q4101 : (Jvm.Cond.codeWith ({ cls := "TypeHouseLaw", name := "about", desc := "(LTypeHouse;I[J)I" } : Jvm.MethodName) method_7_code (4 : Nat) (Option.some Jvm.ClassFile.FieldType.int) [((0 : Nat), (9 : Nat), (12 : Nat), (29 : Nat))]) ∈ lw_all := lw_g (lw_at lw_m16 76 rfl) rfl
theorem q4102 : (Jvm.Cond.methodLink "TypeHouseLaw" (31 : Nat) ({ cls := "TypeHouse", name := "about", desc := "(I)I" } : Jvm.MethodName)) ∈ lw_all := lw_g (lw_at lw_m16 77 rfl) rfl
theorem q4106 : (Jvm.Cond.methodLink "TypeHouseLaw" (75 : Nat) ({ cls := "TypeHouseLaw", name := "count", desc := "(LTypeHouse;I[J)I" } : Jvm.MethodName)) ∈ lw_all := lw_g (lw_at lw_m16 81 rfl) rfl
theorem q4107 : (Jvm.Cond.static ({ cls := "TypeHouseLaw", name := "count", desc := "(LTypeHouse;I[J)I" } : Jvm.MethodName)) ∈ lw_all := lw_g (lw_at lw_m16 82 rfl) rfl
theorem q4108 : (Jvm.Cond.codeWith ({ cls := "TypeHouseLaw", name := "count", desc := "(LTypeHouse;I[J)I" } : Jvm.MethodName) method_8_code (4 : Nat) (Option.some Jvm.ClassFile.FieldType.int) [((0 : Nat), (9 : Nat), (12 : Nat), (29 : Nat))]) ∈ lw_all := lw_g (lw_at lw_m16 83 rfl) rfl
theorem q4109 : (Jvm.Cond.methodLink "TypeHouseLaw" (34 : Nat) ({ cls := "TypeHouse", name := "count", desc := "(I)I" } : Jvm.MethodName)) ∈ lw_all := lw_g (lw_at lw_m16 84 rfl) rfl
theorem q4113 : (Jvm.Cond.classLink "TypeHouseLaw" (38 : Nat) "TypeHouseModel") ∈ lw_all := lw_g (lw_at lw_m16 88 rfl) rfl
theorem q4114 : (Jvm.Cond.instantiable "TypeHouseModel" (129 : Nat)) ∈ lw_all := lw_g (lw_at lw_m16 89 rfl) rfl
theorem q4115 : (Jvm.Cond.methodLink "TypeHouseLaw" (40 : Nat) ({ cls := "TypeHouseModel", name := "<init>", desc := "()V" } : Jvm.MethodName)) ∈ lw_all := lw_g (lw_at lw_m16 90 rfl) rfl
theorem q4889 : (Jvm.Cond.methodLink "TypeHouseLaw" (47 : Nat) ({ cls := "TypeHouseModel", name := "thrown", desc := "()I" } : Jvm.MethodName)) ∈ lw_all := lw_g (lw_at lw_m19 144 rfl) rfl
theorem q4893 : (Jvm.Cond.methodLink "TypeHouseLaw" (46 : Nat) ({ cls := "TypeHouseModel", name := "feed", desc := "(IIIII)V" } : Jvm.MethodName)) ∈ lw_all := lw_g (lw_at lw_m19 148 rfl) rfl
theorem q4901 : (Jvm.Cond.methodLink "TypeHouseLaw" (54 : Nat) ({ cls := "TypeHouseModel", name := "fuel", desc := "(I)V" } : Jvm.MethodName)) ∈ lw_all := lw_g (lw_at lw_m19 156 rfl) rfl
theorem q4906 : (Jvm.Cond.methodLink "TypeHouseLaw" (58 : Nat) ({ cls := "TypeHouseModel", name := "end", desc := "(II)I" } : Jvm.MethodName)) ∈ lw_all := lw_g (lw_at lw_m19 161 rfl) rfl
theorem q6052 : (Jvm.Cond.methodLink "TypeHouseLaw" (63 : Nat) ({ cls := "TypeHouseModel", name := "clear", desc := "(Z)I" } : Jvm.MethodName)) ∈ lw_all := lw_g (lw_at lw_m24 107 rfl) rfl
theorem q6060 : (Jvm.Cond.methodLink "TypeHouseLaw" (67 : Nat) ({ cls := "TypeHouseModel", name := "size", desc := "()I" } : Jvm.MethodName)) ∈ lw_all := lw_g (lw_at lw_m24 115 rfl) rfl
theorem q6064 : (Jvm.Cond.methodLink "TypeHouseLaw" (71 : Nat) ({ cls := "TypeHouseModel", name := "out", desc := "(I)I" } : Jvm.MethodName)) ∈ lw_all := lw_g (lw_at lw_m24 119 rfl) rfl
theorem q6068 : (Jvm.Cond.methodLink "TypeHouseLaw" (74 : Nat) ({ cls := "TypeHouseModel", name := "about", desc := "(I)I" } : Jvm.MethodName)) ∈ lw_all := lw_g (lw_at lw_m24 123 rfl) rfl
theorem q6072 : (Jvm.Cond.methodLink "TypeHouseLaw" (77 : Nat) ({ cls := "TypeHouseModel", name := "count", desc := "(I)I" } : Jvm.MethodName)) ∈ lw_all := lw_g (lw_at lw_m24 127 rfl) rfl
abbrev cX0_about : ByteArray := method_7_code
def yX0_about : MethodName := ⟨RX0, "about", "(LTypeHouse;I[J)I"⟩
def YX0_about : eY := (yX0_about, cX0_about, 4, (Option.some FieldType.int), [(0, 9, 12, 29)])
theorem mX0_about : e_ms YX0_about 3 := ⟨q4100, q425, q4101, by decide, by decide +kernel, (e_sig (by decide +kernel))⟩
theorem dX0_about_0 : decode cX0_about 0 = .ok (.aload_n 2, 1) := dc_44 (by decide +kernel)
theorem dX0_about_1 : decode cX0_about 1 = .ok (.iconst 0, 1) := dc_3 (by decide +kernel)
theorem dX0_about_2 : decode cX0_about 2 = .ok (.aload_n 0, 1) := dc_42 (by decide +kernel)
theorem dX0_about_3 : decode cX0_about 3 = .ok (.iload_n 1, 1) := dc_27 (by decide +kernel)
theorem dX0_about_4 : decode cX0_about 4 = .ok (.invokevirtual 31, 3) := dc_182 (a := 0) (b := 31) (n := 31) (by decide +kernel)
theorem dX0_about_7 : decode cX0_about 7 = .ok (.i2l, 1) := dc_133 (by decide +kernel)
theorem dX0_about_8 : decode cX0_about 8 = .ok (.lastore, 1) := dc_80 (by decide +kernel)
theorem dX0_about_9 : decode cX0_about 9 = .ok (.goto 6, 3) := dc_167 (a := 0) (b := 6) (v := 6) (by decide +kernel)
theorem dX0_about_12 : decode cX0_about 12 = .ok (.astore_n 3, 1) := dc_78 (by decide +kernel)
theorem dX0_about_13 : decode cX0_about 13 = .ok (.iconst 1, 1) := dc_4 (by decide +kernel)
theorem dX0_about_14 : decode cX0_about 14 = .ok (.ireturn, 1) := dc_172 (by decide +kernel)
theorem dX0_about_15 : decode cX0_about 15 = .ok (.iconst 0, 1) := dc_3 (by decide +kernel)
theorem dX0_about_16 : decode cX0_about 16 = .ok (.ireturn, 1) := dc_172 (by decide +kernel)
def fX0_about_b12 (s0 : Nat) (h : eH) : Option (Int32 × eH) :=
  some ((1 : Int32), h)
theorem pX0_about_b12 {w : eW} {d : Nat} (hd : 7 ≤ d + 1) {s0 : Nat} {h : eH} {q} (hf : fX0_about_b12 s0 h = some q) : wp w (d + 1) YX0_about 12 [none, none, none, none] [.ref s0] h (e_is (e_rn c_I q)) := by
  unfold fX0_about_b12 at hf
  refine w_astore_n dX0_about_12 rfl (by decide) (ls' := [none, none, none, some (.ref s0)]) rfl ?_
  refine w_iconst dX0_about_13 (v := 1) (by decide) ?_
  cases hf
  exact w_iret dX0_about_14 rfl rfl rfl
def fX0_about (p0 : Nat) (p1 : Int32) (p2 : Nat) (h : eH) : Option (Int32 × eH) :=
  (k_ok 0 h p0).bind fun _ =>
  t_C 52 (fX1_about p0 p1 h) (kt := fun a4 h5 =>
    fX0_about_b12 a4 h5
    ) (k := fun x2 h3 =>
  (q_V 101 h3 p2 (0 : Int32) (.long (x2).toInt64)).bind fun h6 =>
  some ((0 : Int32), h6)
  )
theorem pX0_about {w : eW} {d : Nat} (hd : 7 ≤ d) {p0 : Nat} {p1 : Int32} {p2 : Nat} {h : eH} {q} (hf : fX0_about p0 p1 p2 h = some q) : wm w d YX0_about [.ref p0, .int p1, .ref p2] h (e_is (e_rn c_I q)) := by
  obtain ⟨d, rfl⟩ : ∃ e, d = e + 1 := ⟨d - 1, by omega⟩
  show wp w (d + 1) YX0_about 0 [some (.ref p0), some (.int p1), some (.ref p2), none] [] h _
  unfold fX0_about at hf
  refine w_aload_n dX0_about_0 rfl rfl ?_
  refine w_iconst dX0_about_1 (v := 0) (by decide) ?_
  refine w_aload_n dX0_about_2 rfl rfl ?_
  refine w_iload_n dX0_about_3 rfl rfl ?_
  obtain ⟨_, b1, hf⟩ := Option.bind_eq_some_iff.mp hf
  refine x_ccI hf (e_stV (Yc := YX1_about) (ci := 0) (av := [.int p1]) (st := [.int (0 : Int32), .ref p2]) dX0_about_4 q4102 mX1_about rfl (k_ok_some b1).1 (k_ok_some b1).2) mX1_about.2.2.1 mX1_about.2.2.2.2.1 (Nat.le_of_ble_eq_true rfl) (Nat.le_of_ble_eq_true rfl) rfl (by decide) (by decide) (Nat.le_of_ble_eq_true rfl) (Nat.le_of_ble_eq_true rfl) q4075 (fun q hq => pX1_about (by omega) hq) (fun a4 h5 hf => ?_) (fun x2 h3 hf => ?_)
  · exact (pX0_about_b12 hd hf).to trivial
  refine w_i2l dX0_about_7 ?_
  obtain ⟨h6, b7, hf⟩ := Option.bind_eq_some_iff.mp hf
  refine x_qJ b7 dX0_about_8 ?_
  refine w_goto 15 dX0_about_9 (by decide) ?_
  refine w_iconst dX0_about_15 (v := 0) (by decide) ?_
  cases hf
  exact w_iret dX0_about_16 rfl rfl rfl
abbrev cX0_count : ByteArray := method_8_code
def yX0_count : MethodName := ⟨RX0, "count", "(LTypeHouse;I[J)I"⟩
def YX0_count : eY := (yX0_count, cX0_count, 4, (Option.some FieldType.int), [(0, 9, 12, 29)])
theorem mX0_count : e_ms YX0_count 3 := ⟨q4107, q425, q4108, by decide, by decide +kernel, (e_sig (by decide +kernel))⟩
theorem dX0_count_0 : decode cX0_count 0 = .ok (.aload_n 2, 1) := dc_44 (by decide +kernel)
theorem dX0_count_1 : decode cX0_count 1 = .ok (.iconst 0, 1) := dc_3 (by decide +kernel)
theorem dX0_count_2 : decode cX0_count 2 = .ok (.aload_n 0, 1) := dc_42 (by decide +kernel)
theorem dX0_count_3 : decode cX0_count 3 = .ok (.iload_n 1, 1) := dc_27 (by decide +kernel)
theorem dX0_count_4 : decode cX0_count 4 = .ok (.invokevirtual 34, 3) := dc_182 (a := 0) (b := 34) (n := 34) (by decide +kernel)
theorem dX0_count_7 : decode cX0_count 7 = .ok (.i2l, 1) := dc_133 (by decide +kernel)
theorem dX0_count_8 : decode cX0_count 8 = .ok (.lastore, 1) := dc_80 (by decide +kernel)
theorem dX0_count_9 : decode cX0_count 9 = .ok (.goto 6, 3) := dc_167 (a := 0) (b := 6) (v := 6) (by decide +kernel)
theorem dX0_count_12 : decode cX0_count 12 = .ok (.astore_n 3, 1) := dc_78 (by decide +kernel)
theorem dX0_count_13 : decode cX0_count 13 = .ok (.iconst 1, 1) := dc_4 (by decide +kernel)
theorem dX0_count_14 : decode cX0_count 14 = .ok (.ireturn, 1) := dc_172 (by decide +kernel)
theorem dX0_count_15 : decode cX0_count 15 = .ok (.iconst 0, 1) := dc_3 (by decide +kernel)
theorem dX0_count_16 : decode cX0_count 16 = .ok (.ireturn, 1) := dc_172 (by decide +kernel)
def fX0_count_b12 (s0 : Nat) (h : eH) : Option (Int32 × eH) :=
  some ((1 : Int32), h)
theorem pX0_count_b12 {w : eW} {d : Nat} (hd : 7 ≤ d + 1) {s0 : Nat} {h : eH} {q} (hf : fX0_count_b12 s0 h = some q) : wp w (d + 1) YX0_count 12 [none, none, none, none] [.ref s0] h (e_is (e_rn c_I q)) := by
  unfold fX0_count_b12 at hf
  refine w_astore_n dX0_count_12 rfl (by decide) (ls' := [none, none, none, some (.ref s0)]) rfl ?_
  refine w_iconst dX0_count_13 (v := 1) (by decide) ?_
  cases hf
  exact w_iret dX0_count_14 rfl rfl rfl
def fX0_count (p0 : Nat) (p1 : Int32) (p2 : Nat) (h : eH) : Option (Int32 × eH) :=
  (k_ok 0 h p0).bind fun _ =>
  t_C 52 (fX1_count p0 p1 h) (kt := fun a4 h5 =>
    fX0_count_b12 a4 h5
    ) (k := fun x2 h3 =>
  (q_V 101 h3 p2 (0 : Int32) (.long (x2).toInt64)).bind fun h6 =>
  some ((0 : Int32), h6)
  )
theorem pX0_count {w : eW} {d : Nat} (hd : 7 ≤ d) {p0 : Nat} {p1 : Int32} {p2 : Nat} {h : eH} {q} (hf : fX0_count p0 p1 p2 h = some q) : wm w d YX0_count [.ref p0, .int p1, .ref p2] h (e_is (e_rn c_I q)) := by
  obtain ⟨d, rfl⟩ : ∃ e, d = e + 1 := ⟨d - 1, by omega⟩
  show wp w (d + 1) YX0_count 0 [some (.ref p0), some (.int p1), some (.ref p2), none] [] h _
  unfold fX0_count at hf
  refine w_aload_n dX0_count_0 rfl rfl ?_
  refine w_iconst dX0_count_1 (v := 0) (by decide) ?_
  refine w_aload_n dX0_count_2 rfl rfl ?_
  refine w_iload_n dX0_count_3 rfl rfl ?_
  obtain ⟨_, b1, hf⟩ := Option.bind_eq_some_iff.mp hf
  refine x_ccI hf (e_stV (Yc := YX1_count) (ci := 0) (av := [.int p1]) (st := [.int (0 : Int32), .ref p2]) dX0_count_4 q4109 mX1_count rfl (k_ok_some b1).1 (k_ok_some b1).2) mX1_count.2.2.1 mX1_count.2.2.2.2.1 (Nat.le_of_ble_eq_true rfl) (Nat.le_of_ble_eq_true rfl) rfl (by decide) (by decide) (Nat.le_of_ble_eq_true rfl) (Nat.le_of_ble_eq_true rfl) q4075 (fun q hq => pX1_count (by omega) hq) (fun a4 h5 hf => ?_) (fun x2 h3 hf => ?_)
  · exact (pX0_count_b12 hd hf).to trivial
  refine w_i2l dX0_count_7 ?_
  obtain ⟨h6, b7, hf⟩ := Option.bind_eq_some_iff.mp hf
  refine x_qJ b7 dX0_count_8 ?_
  refine w_goto 15 dX0_count_9 (by decide) ?_
  refine w_iconst dX0_count_15 (v := 0) (by decide) ?_
  cases hf
  exact w_iret dX0_count_16 rfl rfl rfl
abbrev cX0_end : ByteArray := method_5_code
def yX0_end : MethodName := ⟨RX0, "end", "(LTypeHouse;II[J)I"⟩
def YX0_end : eY := (yX0_end, cX0_end, 5, (Option.some FieldType.int), [(0, 10, 13, 19)])
theorem mX0_end : e_ms YX0_end 4 := ⟨q2189, q425, q2190, by decide, by decide +kernel, (e_sig (by decide +kernel))⟩
theorem dX0_end_0 : decode cX0_end 0 = .ok (.aload_n 3, 1) := dc_45 (by decide +kernel)
theorem dX0_end_1 : decode cX0_end 1 = .ok (.iconst 0, 1) := dc_3 (by decide +kernel)
theorem dX0_end_2 : decode cX0_end 2 = .ok (.aload_n 0, 1) := dc_42 (by decide +kernel)
theorem dX0_end_3 : decode cX0_end 3 = .ok (.iload_n 1, 1) := dc_27 (by decide +kernel)
theorem dX0_end_4 : decode cX0_end 4 = .ok (.iload_n 2, 1) := dc_28 (by decide +kernel)
theorem dX0_end_5 : decode cX0_end 5 = .ok (.invokevirtual 21, 3) := dc_182 (a := 0) (b := 21) (n := 21) (by decide +kernel)
theorem dX0_end_8 : decode cX0_end 8 = .ok (.i2l, 1) := dc_133 (by decide +kernel)
theorem dX0_end_9 : decode cX0_end 9 = .ok (.lastore, 1) := dc_80 (by decide +kernel)
theorem dX0_end_10 : decode cX0_end 10 = .ok (.goto 7, 3) := dc_167 (a := 0) (b := 7) (v := 7) (by decide +kernel)
theorem dX0_end_13 : decode cX0_end 13 = .ok (.astore 4, 2) := dc_58 (a := 4) (by decide +kernel)
theorem dX0_end_15 : decode cX0_end 15 = .ok (.iconst 1, 1) := dc_4 (by decide +kernel)
theorem dX0_end_16 : decode cX0_end 16 = .ok (.ireturn, 1) := dc_172 (by decide +kernel)
theorem dX0_end_17 : decode cX0_end 17 = .ok (.iconst 0, 1) := dc_3 (by decide +kernel)
theorem dX0_end_18 : decode cX0_end 18 = .ok (.ireturn, 1) := dc_172 (by decide +kernel)
def fX0_end_b13 (N : Nat) (rE : Nat → Int32 → eH → Option ((Unit ⊕ Nat) × eH)) (rN : Nat → eH → Option ((Int32 ⊕ Nat) × eH)) (s0 : Nat) (h : eH) : Option (Int32 × eH) :=
  some ((1 : Int32), h)
theorem pX0_end_b13 {w : eW} {d : Nat} {dr : Nat} (hd : dr + 28 ≤ d + 1) (hdr : 12 ≤ dr) {N : Nat} {rE : Nat → Int32 → eH → Option ((Unit ⊕ Nat) × eH)} {rN : Nat → eH → Option ((Int32 ⊕ Nat) × eH)} (hrE : ∀ a t0 h q, rE a t0 h = some q → wm w dr YX8_expand [.ref a, .int t0] h (e_is (e_rt c_V q))) (hrN : ∀ a h q, rN a h = some q → wm w dr YX8_number [.ref a] h (e_is (e_rt c_I q))) {s0 : Nat} {h : eH} {q} (hf : fX0_end_b13 N rE rN s0 h = some q) : wp w (d + 1) YX0_end 13 [none, none, none, none, none] [.ref s0] h (e_is (e_rn c_I q)) := by
  unfold fX0_end_b13 at hf
  refine w_astore dX0_end_13 (by decide) (ls' := [none, none, none, none, some (.ref s0)]) rfl ?_
  refine w_iconst dX0_end_15 (v := 1) (by decide) ?_
  cases hf
  exact w_iret dX0_end_16 rfl rfl rfl
def fX0_end (N : Nat) (rE : Nat → Int32 → eH → Option ((Unit ⊕ Nat) × eH)) (rN : Nat → eH → Option ((Int32 ⊕ Nat) × eH)) (p0 : Nat) (p1 : Int32) (p2 : Int32) (p3 : Nat) (h : eH) : Option (Int32 × eH) :=
  (k_ok 0 h p0).bind fun _ =>
  t_C 50 (fX1_end N rE rN p0 p1 p2 h) (kt := fun a4 h5 =>
    fX0_end_b13 N rE rN a4 h5
    ) (k := fun x2 h3 =>
  (q_V 101 h3 p3 (0 : Int32) (.long (x2).toInt64)).bind fun h6 =>
  some ((0 : Int32), h6)
  )
theorem pX0_end {w : eW} {d : Nat} {dr : Nat} (hd : dr + 28 ≤ d) (hdr : 12 ≤ dr) {N : Nat} {rE : Nat → Int32 → eH → Option ((Unit ⊕ Nat) × eH)} {rN : Nat → eH → Option ((Int32 ⊕ Nat) × eH)} (hrE : ∀ a t0 h q, rE a t0 h = some q → wm w dr YX8_expand [.ref a, .int t0] h (e_is (e_rt c_V q))) (hrN : ∀ a h q, rN a h = some q → wm w dr YX8_number [.ref a] h (e_is (e_rt c_I q))) {p0 : Nat} {p1 : Int32} {p2 : Int32} {p3 : Nat} {h : eH} {q} (hf : fX0_end N rE rN p0 p1 p2 p3 h = some q) : wm w d YX0_end [.ref p0, .int p1, .int p2, .ref p3] h (e_is (e_rn c_I q)) := by
  obtain ⟨d, rfl⟩ : ∃ e, d = e + 1 := ⟨d - 1, by omega⟩
  show wp w (d + 1) YX0_end 0 [some (.ref p0), some (.int p1), some (.int p2), some (.ref p3), none] [] h _
  unfold fX0_end at hf
  refine w_aload_n dX0_end_0 rfl rfl ?_
  refine w_iconst dX0_end_1 (v := 0) (by decide) ?_
  refine w_aload_n dX0_end_2 rfl rfl ?_
  refine w_iload_n dX0_end_3 rfl rfl ?_
  refine w_iload_n dX0_end_4 rfl rfl ?_
  obtain ⟨_, b1, hf⟩ := Option.bind_eq_some_iff.mp hf
  refine x_ccI hf (e_stV (Yc := YX1_end) (ci := 0) (av := [.int p1, .int p2]) (st := [.int (0 : Int32), .ref p3]) dX0_end_5 q2191 mX1_end rfl (k_ok_some b1).1 (k_ok_some b1).2) mX1_end.2.2.1 mX1_end.2.2.2.2.1 (Nat.le_of_ble_eq_true rfl) (Nat.le_of_ble_eq_true rfl) rfl (by decide) (by decide) (Nat.le_of_ble_eq_true rfl) (Nat.le_of_ble_eq_true rfl) q2167 (fun q hq => pX1_end (by omega) hdr hrE hrN hq) (fun a4 h5 hf => ?_) (fun x2 h3 hf => ?_)
  · exact (pX0_end_b13 hd hdr hrE hrN hf).to trivial
  refine w_i2l dX0_end_8 ?_
  obtain ⟨h6, b7, hf⟩ := Option.bind_eq_some_iff.mp hf
  refine x_qJ b7 dX0_end_9 ?_
  refine w_goto 17 dX0_end_10 (by decide) ?_
  refine w_iconst dX0_end_17 (v := 0) (by decide) ?_
  cases hf
  exact w_iret dX0_end_18 rfl rfl rfl
abbrev cX0_feed : ByteArray := method_3_code
def yX0_feed : MethodName := ⟨RX0, "feed", "(LTypeHouse;IIIII)I"⟩
def YX0_feed : eY := (yX0_feed, cX0_feed, 7, (Option.some FieldType.int), [(0, 11, 14, 13)])
theorem mX0_feed : e_ms YX0_feed 6 := ⟨q2088, q425, q2089, by decide, by decide +kernel, (e_sig (by decide +kernel))⟩
theorem dX0_feed_0 : decode cX0_feed 0 = .ok (.aload_n 0, 1) := dc_42 (by decide +kernel)
theorem dX0_feed_1 : decode cX0_feed 1 = .ok (.iload_n 1, 1) := dc_27 (by decide +kernel)
theorem dX0_feed_2 : decode cX0_feed 2 = .ok (.iload_n 2, 1) := dc_28 (by decide +kernel)
theorem dX0_feed_3 : decode cX0_feed 3 = .ok (.iload_n 3, 1) := dc_29 (by decide +kernel)
theorem dX0_feed_4 : decode cX0_feed 4 = .ok (.iload 4, 2) := dc_21 (a := 4) (by decide +kernel)
theorem dX0_feed_6 : decode cX0_feed 6 = .ok (.iload 5, 2) := dc_21 (a := 5) (by decide +kernel)
theorem dX0_feed_8 : decode cX0_feed 8 = .ok (.invokevirtual 7, 3) := dc_182 (a := 0) (b := 7) (n := 7) (by decide +kernel)
theorem dX0_feed_11 : decode cX0_feed 11 = .ok (.goto 7, 3) := dc_167 (a := 0) (b := 7) (v := 7) (by decide +kernel)
theorem dX0_feed_14 : decode cX0_feed 14 = .ok (.astore 6, 2) := dc_58 (a := 6) (by decide +kernel)
theorem dX0_feed_16 : decode cX0_feed 16 = .ok (.iconst 1, 1) := dc_4 (by decide +kernel)
theorem dX0_feed_17 : decode cX0_feed 17 = .ok (.ireturn, 1) := dc_172 (by decide +kernel)
theorem dX0_feed_18 : decode cX0_feed 18 = .ok (.iconst 0, 1) := dc_3 (by decide +kernel)
theorem dX0_feed_19 : decode cX0_feed 19 = .ok (.ireturn, 1) := dc_172 (by decide +kernel)
def fX0_feed_b14 (N : Nat) (s0 : Nat) (h : eH) : Option (Int32 × eH) :=
  some ((1 : Int32), h)
theorem pX0_feed_b14 {w : eW} {d : Nat} (hd : 7 ≤ d + 1) {N : Nat} {s0 : Nat} {h : eH} {q} (hf : fX0_feed_b14 N s0 h = some q) : wp w (d + 1) YX0_feed 14 [none, none, none, none, none, none, none] [.ref s0] h (e_is (e_rn c_I q)) := by
  unfold fX0_feed_b14 at hf
  refine w_astore dX0_feed_14 (by decide) (ls' := [none, none, none, none, none, none, some (.ref s0)]) rfl ?_
  refine w_iconst dX0_feed_16 (v := 1) (by decide) ?_
  cases hf
  exact w_iret dX0_feed_17 rfl rfl rfl
def fX0_feed (N : Nat) (p0 : Nat) (p1 : Int32) (p2 : Int32) (p3 : Int32) (p4 : Int32) (p5 : Int32) (h : eH) : Option (Int32 × eH) :=
  (k_ok 0 h p0).bind fun _ =>
  t_C 51 (fX1_feed N p0 p1 p2 p3 p4 p5 h) (kt := fun a4 h5 =>
    fX0_feed_b14 N a4 h5
    ) (k := fun x2 h3 =>
  some ((0 : Int32), h3)
  )
theorem pX0_feed {w : eW} {d : Nat} (hd : 7 ≤ d) {N : Nat} {p0 : Nat} {p1 : Int32} {p2 : Int32} {p3 : Int32} {p4 : Int32} {p5 : Int32} {h : eH} {q} (hf : fX0_feed N p0 p1 p2 p3 p4 p5 h = some q) : wm w d YX0_feed [.ref p0, .int p1, .int p2, .int p3, .int p4, .int p5] h (e_is (e_rn c_I q)) := by
  obtain ⟨d, rfl⟩ : ∃ e, d = e + 1 := ⟨d - 1, by omega⟩
  show wp w (d + 1) YX0_feed 0 [some (.ref p0), some (.int p1), some (.int p2), some (.int p3), some (.int p4), some (.int p5), none] [] h _
  unfold fX0_feed at hf
  refine w_aload_n dX0_feed_0 rfl rfl ?_
  refine w_iload_n dX0_feed_1 rfl rfl ?_
  refine w_iload_n dX0_feed_2 rfl rfl ?_
  refine w_iload_n dX0_feed_3 rfl rfl ?_
  refine w_iload dX0_feed_4 rfl ?_
  refine w_iload dX0_feed_6 rfl ?_
  obtain ⟨_, b1, hf⟩ := Option.bind_eq_some_iff.mp hf
  refine x_ccV hf (e_stV (Yc := YX1_feed) (ci := 0) (av := [.int p1, .int p2, .int p3, .int p4, .int p5]) (st := []) dX0_feed_8 q2091 mX1_feed rfl (k_ok_some b1).1 (k_ok_some b1).2) mX1_feed.2.2.1 mX1_feed.2.2.2.2.1 (Nat.le_of_ble_eq_true rfl) (Nat.le_of_ble_eq_true rfl) rfl (by decide) (by decide) (Nat.le_of_ble_eq_true rfl) (Nat.le_of_ble_eq_true rfl) q2090 (fun q hq => pX1_feed (by omega) hq) (fun a4 h5 hf => ?_) (fun x2 h3 hf => ?_)
  · exact (pX0_feed_b14 hd hf).to trivial
  refine w_goto 18 dX0_feed_11 (by decide) ?_
  refine w_iconst dX0_feed_18 (v := 0) (by decide) ?_
  cases hf
  exact w_iret dX0_feed_19 rfl rfl rfl
abbrev cX0_fuel : ByteArray := method_4_code
def yX0_fuel : MethodName := ⟨RX0, "fuel", "(LTypeHouse;I)I"⟩
def YX0_fuel : eY := (yX0_fuel, cX0_fuel, 3, (Option.some FieldType.int), [(0, 5, 8, 19)])
theorem mX0_fuel : e_ms YX0_fuel 2 := ⟨q2165, q425, q2166, by decide, by decide +kernel, (e_sig (by decide +kernel))⟩
theorem dX0_fuel_0 : decode cX0_fuel 0 = .ok (.aload_n 0, 1) := dc_42 (by decide +kernel)
theorem dX0_fuel_1 : decode cX0_fuel 1 = .ok (.iload_n 1, 1) := dc_27 (by decide +kernel)
theorem dX0_fuel_2 : decode cX0_fuel 2 = .ok (.invokevirtual 15, 3) := dc_182 (a := 0) (b := 15) (n := 15) (by decide +kernel)
theorem dX0_fuel_5 : decode cX0_fuel 5 = .ok (.goto 6, 3) := dc_167 (a := 0) (b := 6) (v := 6) (by decide +kernel)
theorem dX0_fuel_8 : decode cX0_fuel 8 = .ok (.astore_n 2, 1) := dc_77 (by decide +kernel)
theorem dX0_fuel_9 : decode cX0_fuel 9 = .ok (.iconst 1, 1) := dc_4 (by decide +kernel)
theorem dX0_fuel_10 : decode cX0_fuel 10 = .ok (.ireturn, 1) := dc_172 (by decide +kernel)
theorem dX0_fuel_11 : decode cX0_fuel 11 = .ok (.iconst 0, 1) := dc_3 (by decide +kernel)
theorem dX0_fuel_12 : decode cX0_fuel 12 = .ok (.ireturn, 1) := dc_172 (by decide +kernel)
def fX0_fuel_b8 (s0 : Nat) (h : eH) : Option (Int32 × eH) :=
  some ((1 : Int32), h)
theorem pX0_fuel_b8 {w : eW} {d : Nat} (hd : 7 ≤ d + 1) {s0 : Nat} {h : eH} {q} (hf : fX0_fuel_b8 s0 h = some q) : wp w (d + 1) YX0_fuel 8 [none, none, none] [.ref s0] h (e_is (e_rn c_I q)) := by
  unfold fX0_fuel_b8 at hf
  refine w_astore_n dX0_fuel_8 rfl (by decide) (ls' := [none, none, some (.ref s0)]) rfl ?_
  refine w_iconst dX0_fuel_9 (v := 1) (by decide) ?_
  cases hf
  exact w_iret dX0_fuel_10 rfl rfl rfl
def fX0_fuel (p0 : Nat) (p1 : Int32) (h : eH) : Option (Int32 × eH) :=
  (k_ok 0 h p0).bind fun _ =>
  t_C 50 (fX1_fuel p0 p1 h) (kt := fun a4 h5 =>
    fX0_fuel_b8 a4 h5
    ) (k := fun x2 h3 =>
  some ((0 : Int32), h3)
  )
theorem pX0_fuel {w : eW} {d : Nat} (hd : 7 ≤ d) {p0 : Nat} {p1 : Int32} {h : eH} {q} (hf : fX0_fuel p0 p1 h = some q) : wm w d YX0_fuel [.ref p0, .int p1] h (e_is (e_rn c_I q)) := by
  obtain ⟨d, rfl⟩ : ∃ e, d = e + 1 := ⟨d - 1, by omega⟩
  show wp w (d + 1) YX0_fuel 0 [some (.ref p0), some (.int p1), none] [] h _
  unfold fX0_fuel at hf
  refine w_aload_n dX0_fuel_0 rfl rfl ?_
  refine w_iload_n dX0_fuel_1 rfl rfl ?_
  obtain ⟨_, b1, hf⟩ := Option.bind_eq_some_iff.mp hf
  refine x_ccV hf (e_stV (Yc := YX1_fuel) (ci := 0) (av := [.int p1]) (st := []) dX0_fuel_2 q2168 mX1_fuel rfl (k_ok_some b1).1 (k_ok_some b1).2) mX1_fuel.2.2.1 mX1_fuel.2.2.2.2.1 (Nat.le_of_ble_eq_true rfl) (Nat.le_of_ble_eq_true rfl) rfl (by decide) (by decide) (Nat.le_of_ble_eq_true rfl) (Nat.le_of_ble_eq_true rfl) q2167 (fun q hq => pX1_fuel (by omega) hq) (fun a4 h5 hf => ?_) (fun x2 h3 hf => ?_)
  · exact (pX0_fuel_b8 hd hf).to trivial
  refine w_goto 11 dX0_fuel_5 (by decide) ?_
  refine w_iconst dX0_fuel_11 (v := 0) (by decide) ?_
  cases hf
  exact w_iret dX0_fuel_12 rfl rfl rfl
abbrev cX0_out : ByteArray := method_6_code
def yX0_out : MethodName := ⟨RX0, "out", "(LTypeHouse;I[J)I"⟩
def YX0_out : eY := (yX0_out, cX0_out, 4, (Option.some FieldType.int), [(0, 9, 12, 29)])
theorem mX0_out : e_ms YX0_out 3 := ⟨q4073, q425, q4074, by decide, by decide +kernel, (e_sig (by decide +kernel))⟩
theorem dX0_out_0 : decode cX0_out 0 = .ok (.aload_n 2, 1) := dc_44 (by decide +kernel)
theorem dX0_out_1 : decode cX0_out 1 = .ok (.iconst 0, 1) := dc_3 (by decide +kernel)
theorem dX0_out_2 : decode cX0_out 2 = .ok (.aload_n 0, 1) := dc_42 (by decide +kernel)
theorem dX0_out_3 : decode cX0_out 3 = .ok (.iload_n 1, 1) := dc_27 (by decide +kernel)
theorem dX0_out_4 : decode cX0_out 4 = .ok (.invokevirtual 25, 3) := dc_182 (a := 0) (b := 25) (n := 25) (by decide +kernel)
theorem dX0_out_7 : decode cX0_out 7 = .ok (.i2l, 1) := dc_133 (by decide +kernel)
theorem dX0_out_8 : decode cX0_out 8 = .ok (.lastore, 1) := dc_80 (by decide +kernel)
theorem dX0_out_9 : decode cX0_out 9 = .ok (.goto 6, 3) := dc_167 (a := 0) (b := 6) (v := 6) (by decide +kernel)
theorem dX0_out_12 : decode cX0_out 12 = .ok (.astore_n 3, 1) := dc_78 (by decide +kernel)
theorem dX0_out_13 : decode cX0_out 13 = .ok (.iconst 1, 1) := dc_4 (by decide +kernel)
theorem dX0_out_14 : decode cX0_out 14 = .ok (.ireturn, 1) := dc_172 (by decide +kernel)
theorem dX0_out_15 : decode cX0_out 15 = .ok (.iconst 0, 1) := dc_3 (by decide +kernel)
theorem dX0_out_16 : decode cX0_out 16 = .ok (.ireturn, 1) := dc_172 (by decide +kernel)
def fX0_out_b12 (s0 : Nat) (h : eH) : Option (Int32 × eH) :=
  some ((1 : Int32), h)
theorem pX0_out_b12 {w : eW} {d : Nat} (hd : 7 ≤ d + 1) {s0 : Nat} {h : eH} {q} (hf : fX0_out_b12 s0 h = some q) : wp w (d + 1) YX0_out 12 [none, none, none, none] [.ref s0] h (e_is (e_rn c_I q)) := by
  unfold fX0_out_b12 at hf
  refine w_astore_n dX0_out_12 rfl (by decide) (ls' := [none, none, none, some (.ref s0)]) rfl ?_
  refine w_iconst dX0_out_13 (v := 1) (by decide) ?_
  cases hf
  exact w_iret dX0_out_14 rfl rfl rfl
def fX0_out (p0 : Nat) (p1 : Int32) (p2 : Nat) (h : eH) : Option (Int32 × eH) :=
  (k_ok 0 h p0).bind fun _ =>
  t_C 52 (fX1_out p0 p1 h) (kt := fun a4 h5 =>
    fX0_out_b12 a4 h5
    ) (k := fun x2 h3 =>
  (q_V 101 h3 p2 (0 : Int32) (.long (x2).toInt64)).bind fun h6 =>
  some ((0 : Int32), h6)
  )
theorem pX0_out {w : eW} {d : Nat} (hd : 7 ≤ d) {p0 : Nat} {p1 : Int32} {p2 : Nat} {h : eH} {q} (hf : fX0_out p0 p1 p2 h = some q) : wm w d YX0_out [.ref p0, .int p1, .ref p2] h (e_is (e_rn c_I q)) := by
  obtain ⟨d, rfl⟩ : ∃ e, d = e + 1 := ⟨d - 1, by omega⟩
  show wp w (d + 1) YX0_out 0 [some (.ref p0), some (.int p1), some (.ref p2), none] [] h _
  unfold fX0_out at hf
  refine w_aload_n dX0_out_0 rfl rfl ?_
  refine w_iconst dX0_out_1 (v := 0) (by decide) ?_
  refine w_aload_n dX0_out_2 rfl rfl ?_
  refine w_iload_n dX0_out_3 rfl rfl ?_
  obtain ⟨_, b1, hf⟩ := Option.bind_eq_some_iff.mp hf
  refine x_ccI hf (e_stV (Yc := YX1_out) (ci := 0) (av := [.int p1]) (st := [.int (0 : Int32), .ref p2]) dX0_out_4 q4076 mX1_out rfl (k_ok_some b1).1 (k_ok_some b1).2) mX1_out.2.2.1 mX1_out.2.2.2.2.1 (Nat.le_of_ble_eq_true rfl) (Nat.le_of_ble_eq_true rfl) rfl (by decide) (by decide) (Nat.le_of_ble_eq_true rfl) (Nat.le_of_ble_eq_true rfl) q4075 (fun q hq => pX1_out (by omega) hq) (fun a4 h5 hf => ?_) (fun x2 h3 hf => ?_)
  · exact (pX0_out_b12 hd hf).to trivial
  refine w_i2l dX0_out_7 ?_
  obtain ⟨h6, b7, hf⟩ := Option.bind_eq_some_iff.mp hf
  refine x_qJ b7 dX0_out_8 ?_
  refine w_goto 15 dX0_out_9 (by decide) ?_
  refine w_iconst dX0_out_15 (v := 0) (by decide) ?_
  cases hf
  exact w_iret dX0_out_16 rfl rfl rfl
abbrev cL_law : ByteArray := code
def YL_law : eY := (x, cL_law, 7, some .boolean, [])
theorem dL_law_0 : decode cL_law 0 = .ok (.new 8, 3) := dc_187 (a := 0) (b := 8) (n := 8) (by decide +kernel)
theorem dL_law_3 : decode cL_law 3 = .ok (.dup, 1) := dc_89 (by decide +kernel)
theorem dL_law_4 : decode cL_law 4 = .ok (.invokespecial 37, 3) := dc_183 (a := 0) (b := 37) (n := 37) (by decide +kernel)
theorem dL_law_7 : decode cL_law 7 = .ok (.astore_n 1, 1) := dc_76 (by decide +kernel)
theorem dL_law_8 : decode cL_law 8 = .ok (.new 38, 3) := dc_187 (a := 0) (b := 38) (n := 38) (by decide +kernel)
theorem dL_law_11 : decode cL_law 11 = .ok (.dup, 1) := dc_89 (by decide +kernel)
theorem dL_law_12 : decode cL_law 12 = .ok (.invokespecial 40, 3) := dc_183 (a := 0) (b := 40) (n := 40) (by decide +kernel)
theorem dL_law_15 : decode cL_law 15 = .ok (.astore_n 2, 1) := dc_77 (by decide +kernel)
theorem dL_law_16 : decode cL_law 16 = .ok (.iconst 1, 1) := dc_4 (by decide +kernel)
theorem dL_law_17 : decode cL_law 17 = .ok (.newarray .long, 2) := dc_188_11 (by decide +kernel)
theorem dL_law_19 : decode cL_law 19 = .ok (.astore_n 3, 1) := dc_78 (by decide +kernel)
theorem dL_law_20 : decode cL_law 20 = .ok (.iconst 0, 1) := dc_3 (by decide +kernel)
theorem dL_law_21 : decode cL_law 21 = .ok (.istore 4, 2) := dc_54 (a := 4) (by decide +kernel)
theorem dL_law_23 : decode cL_law 23 = .ok (.iload 4, 2) := dc_21 (a := 4) (by decide +kernel)
theorem dL_law_25 : decode cL_law 25 = .ok (.aload_n 0, 1) := dc_42 (by decide +kernel)
theorem dL_law_26 : decode cL_law 26 = .ok (.arraylength, 1) := dc_190 (by decide +kernel)
theorem dL_law_27 : decode cL_law 27 = .ok (.bipush 6, 2) := dc_16 (a := 6) (v := 6) (by decide +kernel)
theorem dL_law_29 : decode cL_law 29 = .ok (.isub, 1) := dc_100 (by decide +kernel)
theorem dL_law_30 : decode cL_law 30 = .ok (.if_icmp .gt 474, 3) := dc_163 (a := 1) (b := 218) (v := 474) (by decide +kernel)
theorem dL_law_33 : decode cL_law 33 = .ok (.aload_n 0, 1) := dc_42 (by decide +kernel)
theorem dL_law_34 : decode cL_law 34 = .ok (.iload 4, 2) := dc_21 (a := 4) (by decide +kernel)
theorem dL_law_36 : decode cL_law 36 = .ok (.iaload, 1) := dc_46 (by decide +kernel)
theorem dL_law_37 : decode cL_law 37 = .ok (.bipush 7, 2) := dc_16 (a := 7) (v := 7) (by decide +kernel)
theorem dL_law_39 : decode cL_law 39 = .ok (.iand, 1) := dc_126 (by decide +kernel)
theorem dL_law_40 : decode cL_law 40 = .ok (.tableswitch 458 0 7 #[48, 132, 168, 236, 277, 290, 346, 402], 48) := by decide +kernel
theorem dL_law_88 : decode cL_law 88 = .ok (.aload_n 1, 1) := dc_43 (by decide +kernel)
theorem dL_law_89 : decode cL_law 89 = .ok (.aload_n 0, 1) := dc_42 (by decide +kernel)
theorem dL_law_90 : decode cL_law 90 = .ok (.iload 4, 2) := dc_21 (a := 4) (by decide +kernel)
theorem dL_law_92 : decode cL_law 92 = .ok (.iconst 1, 1) := dc_4 (by decide +kernel)
theorem dL_law_93 : decode cL_law 93 = .ok (.iadd, 1) := dc_96 (by decide +kernel)
theorem dL_law_94 : decode cL_law 94 = .ok (.iaload, 1) := dc_46 (by decide +kernel)
theorem dL_law_95 : decode cL_law 95 = .ok (.aload_n 0, 1) := dc_42 (by decide +kernel)
theorem dL_law_96 : decode cL_law 96 = .ok (.iload 4, 2) := dc_21 (a := 4) (by decide +kernel)
theorem dL_law_98 : decode cL_law 98 = .ok (.iconst 2, 1) := dc_5 (by decide +kernel)
theorem dL_law_99 : decode cL_law 99 = .ok (.iadd, 1) := dc_96 (by decide +kernel)
theorem dL_law_100 : decode cL_law 100 = .ok (.iaload, 1) := dc_46 (by decide +kernel)
theorem dL_law_101 : decode cL_law 101 = .ok (.aload_n 0, 1) := dc_42 (by decide +kernel)
theorem dL_law_102 : decode cL_law 102 = .ok (.iload 4, 2) := dc_21 (a := 4) (by decide +kernel)
theorem dL_law_104 : decode cL_law 104 = .ok (.iconst 3, 1) := dc_6 (by decide +kernel)
theorem dL_law_105 : decode cL_law 105 = .ok (.iadd, 1) := dc_96 (by decide +kernel)
theorem dL_law_106 : decode cL_law 106 = .ok (.iaload, 1) := dc_46 (by decide +kernel)
theorem dL_law_107 : decode cL_law 107 = .ok (.aload_n 0, 1) := dc_42 (by decide +kernel)
theorem dL_law_108 : decode cL_law 108 = .ok (.iload 4, 2) := dc_21 (a := 4) (by decide +kernel)
theorem dL_law_110 : decode cL_law 110 = .ok (.iconst 4, 1) := dc_7 (by decide +kernel)
theorem dL_law_111 : decode cL_law 111 = .ok (.iadd, 1) := dc_96 (by decide +kernel)
theorem dL_law_112 : decode cL_law 112 = .ok (.iaload, 1) := dc_46 (by decide +kernel)
theorem dL_law_113 : decode cL_law 113 = .ok (.aload_n 0, 1) := dc_42 (by decide +kernel)
theorem dL_law_114 : decode cL_law 114 = .ok (.iload 4, 2) := dc_21 (a := 4) (by decide +kernel)
theorem dL_law_116 : decode cL_law 116 = .ok (.iconst 5, 1) := dc_8 (by decide +kernel)
theorem dL_law_117 : decode cL_law 117 = .ok (.iadd, 1) := dc_96 (by decide +kernel)
theorem dL_law_118 : decode cL_law 118 = .ok (.iaload, 1) := dc_46 (by decide +kernel)
theorem dL_law_119 : decode cL_law 119 = .ok (.invokestatic 41, 3) := dc_184 (a := 0) (b := 41) (n := 41) (by decide +kernel)
theorem dL_law_122 : decode cL_law 122 = .ok (.istore 5, 2) := dc_54 (a := 5) (by decide +kernel)
theorem dL_law_124 : decode cL_law 124 = .ok (.aload_n 2, 1) := dc_44 (by decide +kernel)
theorem dL_law_125 : decode cL_law 125 = .ok (.aload_n 0, 1) := dc_42 (by decide +kernel)
theorem dL_law_126 : decode cL_law 126 = .ok (.iload 4, 2) := dc_21 (a := 4) (by decide +kernel)
theorem dL_law_128 : decode cL_law 128 = .ok (.iconst 1, 1) := dc_4 (by decide +kernel)
theorem dL_law_129 : decode cL_law 129 = .ok (.iadd, 1) := dc_96 (by decide +kernel)
theorem dL_law_130 : decode cL_law 130 = .ok (.iaload, 1) := dc_46 (by decide +kernel)
theorem dL_law_131 : decode cL_law 131 = .ok (.aload_n 0, 1) := dc_42 (by decide +kernel)
theorem dL_law_132 : decode cL_law 132 = .ok (.iload 4, 2) := dc_21 (a := 4) (by decide +kernel)
theorem dL_law_134 : decode cL_law 134 = .ok (.iconst 2, 1) := dc_5 (by decide +kernel)
theorem dL_law_135 : decode cL_law 135 = .ok (.iadd, 1) := dc_96 (by decide +kernel)
theorem dL_law_136 : decode cL_law 136 = .ok (.iaload, 1) := dc_46 (by decide +kernel)
theorem dL_law_137 : decode cL_law 137 = .ok (.aload_n 0, 1) := dc_42 (by decide +kernel)
theorem dL_law_138 : decode cL_law 138 = .ok (.iload 4, 2) := dc_21 (a := 4) (by decide +kernel)
theorem dL_law_140 : decode cL_law 140 = .ok (.iconst 3, 1) := dc_6 (by decide +kernel)
theorem dL_law_141 : decode cL_law 141 = .ok (.iadd, 1) := dc_96 (by decide +kernel)
theorem dL_law_142 : decode cL_law 142 = .ok (.iaload, 1) := dc_46 (by decide +kernel)
theorem dL_law_143 : decode cL_law 143 = .ok (.aload_n 0, 1) := dc_42 (by decide +kernel)
theorem dL_law_144 : decode cL_law 144 = .ok (.iload 4, 2) := dc_21 (a := 4) (by decide +kernel)
theorem dL_law_146 : decode cL_law 146 = .ok (.iconst 4, 1) := dc_7 (by decide +kernel)
theorem dL_law_147 : decode cL_law 147 = .ok (.iadd, 1) := dc_96 (by decide +kernel)
theorem dL_law_148 : decode cL_law 148 = .ok (.iaload, 1) := dc_46 (by decide +kernel)
theorem dL_law_149 : decode cL_law 149 = .ok (.aload_n 0, 1) := dc_42 (by decide +kernel)
theorem dL_law_150 : decode cL_law 150 = .ok (.iload 4, 2) := dc_21 (a := 4) (by decide +kernel)
theorem dL_law_152 : decode cL_law 152 = .ok (.iconst 5, 1) := dc_8 (by decide +kernel)
theorem dL_law_153 : decode cL_law 153 = .ok (.iadd, 1) := dc_96 (by decide +kernel)
theorem dL_law_154 : decode cL_law 154 = .ok (.iaload, 1) := dc_46 (by decide +kernel)
theorem dL_law_155 : decode cL_law 155 = .ok (.invokevirtual 46, 3) := dc_182 (a := 0) (b := 46) (n := 46) (by decide +kernel)
theorem dL_law_158 : decode cL_law 158 = .ok (.aload_n 2, 1) := dc_44 (by decide +kernel)
theorem dL_law_159 : decode cL_law 159 = .ok (.invokevirtual 47, 3) := dc_182 (a := 0) (b := 47) (n := 47) (by decide +kernel)
theorem dL_law_162 : decode cL_law 162 = .ok (.iload 5, 2) := dc_21 (a := 5) (by decide +kernel)
theorem dL_law_164 : decode cL_law 164 = .ok (.if_icmp .eq 5, 3) := dc_159 (a := 0) (b := 5) (v := 5) (by decide +kernel)
theorem dL_law_167 : decode cL_law 167 = .ok (.iconst 0, 1) := dc_3 (by decide +kernel)
theorem dL_law_168 : decode cL_law 168 = .ok (.ireturn, 1) := dc_172 (by decide +kernel)
theorem dL_law_169 : decode cL_law 169 = .ok (.goto 329, 3) := dc_167 (a := 1) (b := 73) (v := 329) (by decide +kernel)
theorem dL_law_172 : decode cL_law 172 = .ok (.aload_n 1, 1) := dc_43 (by decide +kernel)
theorem dL_law_173 : decode cL_law 173 = .ok (.aload_n 0, 1) := dc_42 (by decide +kernel)
theorem dL_law_174 : decode cL_law 174 = .ok (.iload 4, 2) := dc_21 (a := 4) (by decide +kernel)
theorem dL_law_176 : decode cL_law 176 = .ok (.iconst 1, 1) := dc_4 (by decide +kernel)
theorem dL_law_177 : decode cL_law 177 = .ok (.iadd, 1) := dc_96 (by decide +kernel)
theorem dL_law_178 : decode cL_law 178 = .ok (.iaload, 1) := dc_46 (by decide +kernel)
theorem dL_law_179 : decode cL_law 179 = .ok (.invokestatic 51, 3) := dc_184 (a := 0) (b := 51) (n := 51) (by decide +kernel)
theorem dL_law_182 : decode cL_law 182 = .ok (.istore 5, 2) := dc_54 (a := 5) (by decide +kernel)
theorem dL_law_184 : decode cL_law 184 = .ok (.aload_n 2, 1) := dc_44 (by decide +kernel)
theorem dL_law_185 : decode cL_law 185 = .ok (.aload_n 0, 1) := dc_42 (by decide +kernel)
theorem dL_law_186 : decode cL_law 186 = .ok (.iload 4, 2) := dc_21 (a := 4) (by decide +kernel)
theorem dL_law_188 : decode cL_law 188 = .ok (.iconst 1, 1) := dc_4 (by decide +kernel)
theorem dL_law_189 : decode cL_law 189 = .ok (.iadd, 1) := dc_96 (by decide +kernel)
theorem dL_law_190 : decode cL_law 190 = .ok (.iaload, 1) := dc_46 (by decide +kernel)
theorem dL_law_191 : decode cL_law 191 = .ok (.invokevirtual 54, 3) := dc_182 (a := 0) (b := 54) (n := 54) (by decide +kernel)
theorem dL_law_194 : decode cL_law 194 = .ok (.aload_n 2, 1) := dc_44 (by decide +kernel)
theorem dL_law_195 : decode cL_law 195 = .ok (.invokevirtual 47, 3) := dc_182 (a := 0) (b := 47) (n := 47) (by decide +kernel)
theorem dL_law_198 : decode cL_law 198 = .ok (.iload 5, 2) := dc_21 (a := 5) (by decide +kernel)
theorem dL_law_200 : decode cL_law 200 = .ok (.if_icmp .eq 5, 3) := dc_159 (a := 0) (b := 5) (v := 5) (by decide +kernel)
theorem dL_law_203 : decode cL_law 203 = .ok (.iconst 0, 1) := dc_3 (by decide +kernel)
theorem dL_law_204 : decode cL_law 204 = .ok (.ireturn, 1) := dc_172 (by decide +kernel)
theorem dL_law_205 : decode cL_law 205 = .ok (.goto 293, 3) := dc_167 (a := 1) (b := 37) (v := 293) (by decide +kernel)
theorem dL_law_208 : decode cL_law 208 = .ok (.aload_n 1, 1) := dc_43 (by decide +kernel)
theorem dL_law_209 : decode cL_law 209 = .ok (.aload_n 0, 1) := dc_42 (by decide +kernel)
theorem dL_law_210 : decode cL_law 210 = .ok (.iload 4, 2) := dc_21 (a := 4) (by decide +kernel)
theorem dL_law_212 : decode cL_law 212 = .ok (.iconst 1, 1) := dc_4 (by decide +kernel)
theorem dL_law_213 : decode cL_law 213 = .ok (.iadd, 1) := dc_96 (by decide +kernel)
theorem dL_law_214 : decode cL_law 214 = .ok (.iaload, 1) := dc_46 (by decide +kernel)
theorem dL_law_215 : decode cL_law 215 = .ok (.aload_n 0, 1) := dc_42 (by decide +kernel)
theorem dL_law_216 : decode cL_law 216 = .ok (.iload 4, 2) := dc_21 (a := 4) (by decide +kernel)
theorem dL_law_218 : decode cL_law 218 = .ok (.iconst 2, 1) := dc_5 (by decide +kernel)
theorem dL_law_219 : decode cL_law 219 = .ok (.iadd, 1) := dc_96 (by decide +kernel)
theorem dL_law_220 : decode cL_law 220 = .ok (.iaload, 1) := dc_46 (by decide +kernel)
theorem dL_law_221 : decode cL_law 221 = .ok (.aload_n 3, 1) := dc_45 (by decide +kernel)
theorem dL_law_222 : decode cL_law 222 = .ok (.invokestatic 55, 3) := dc_184 (a := 0) (b := 55) (n := 55) (by decide +kernel)
theorem dL_law_225 : decode cL_law 225 = .ok (.istore 5, 2) := dc_54 (a := 5) (by decide +kernel)
theorem dL_law_227 : decode cL_law 227 = .ok (.aload_n 2, 1) := dc_44 (by decide +kernel)
theorem dL_law_228 : decode cL_law 228 = .ok (.aload_n 0, 1) := dc_42 (by decide +kernel)
theorem dL_law_229 : decode cL_law 229 = .ok (.iload 4, 2) := dc_21 (a := 4) (by decide +kernel)
theorem dL_law_231 : decode cL_law 231 = .ok (.iconst 1, 1) := dc_4 (by decide +kernel)
theorem dL_law_232 : decode cL_law 232 = .ok (.iadd, 1) := dc_96 (by decide +kernel)
theorem dL_law_233 : decode cL_law 233 = .ok (.iaload, 1) := dc_46 (by decide +kernel)
theorem dL_law_234 : decode cL_law 234 = .ok (.aload_n 0, 1) := dc_42 (by decide +kernel)
theorem dL_law_235 : decode cL_law 235 = .ok (.iload 4, 2) := dc_21 (a := 4) (by decide +kernel)
theorem dL_law_237 : decode cL_law 237 = .ok (.iconst 2, 1) := dc_5 (by decide +kernel)
theorem dL_law_238 : decode cL_law 238 = .ok (.iadd, 1) := dc_96 (by decide +kernel)
theorem dL_law_239 : decode cL_law 239 = .ok (.iaload, 1) := dc_46 (by decide +kernel)
theorem dL_law_240 : decode cL_law 240 = .ok (.invokevirtual 58, 3) := dc_182 (a := 0) (b := 58) (n := 58) (by decide +kernel)
theorem dL_law_243 : decode cL_law 243 = .ok (.istore 6, 2) := dc_54 (a := 6) (by decide +kernel)
theorem dL_law_245 : decode cL_law 245 = .ok (.aload_n 2, 1) := dc_44 (by decide +kernel)
theorem dL_law_246 : decode cL_law 246 = .ok (.invokevirtual 47, 3) := dc_182 (a := 0) (b := 47) (n := 47) (by decide +kernel)
theorem dL_law_249 : decode cL_law 249 = .ok (.iload 5, 2) := dc_21 (a := 5) (by decide +kernel)
theorem dL_law_251 : decode cL_law 251 = .ok (.if_icmp .eq 5, 3) := dc_159 (a := 0) (b := 5) (v := 5) (by decide +kernel)
theorem dL_law_254 : decode cL_law 254 = .ok (.iconst 0, 1) := dc_3 (by decide +kernel)
theorem dL_law_255 : decode cL_law 255 = .ok (.ireturn, 1) := dc_172 (by decide +kernel)
theorem dL_law_256 : decode cL_law 256 = .ok (.iload 5, 2) := dc_21 (a := 5) (by decide +kernel)
theorem dL_law_258 : decode cL_law 258 = .ok (.ifCond .ne 15, 3) := dc_154 (a := 0) (b := 15) (v := 15) (by decide +kernel)
theorem dL_law_261 : decode cL_law 261 = .ok (.aload_n 3, 1) := dc_45 (by decide +kernel)
theorem dL_law_262 : decode cL_law 262 = .ok (.iconst 0, 1) := dc_3 (by decide +kernel)
theorem dL_law_263 : decode cL_law 263 = .ok (.laload, 1) := dc_47 (by decide +kernel)
theorem dL_law_264 : decode cL_law 264 = .ok (.iload 6, 2) := dc_21 (a := 6) (by decide +kernel)
theorem dL_law_266 : decode cL_law 266 = .ok (.i2l, 1) := dc_133 (by decide +kernel)
theorem dL_law_267 : decode cL_law 267 = .ok (.lcmp, 1) := dc_148 (by decide +kernel)
theorem dL_law_268 : decode cL_law 268 = .ok (.ifCond .eq 5, 3) := dc_153 (a := 0) (b := 5) (v := 5) (by decide +kernel)
theorem dL_law_271 : decode cL_law 271 = .ok (.iconst 0, 1) := dc_3 (by decide +kernel)
theorem dL_law_272 : decode cL_law 272 = .ok (.ireturn, 1) := dc_172 (by decide +kernel)
theorem dL_law_273 : decode cL_law 273 = .ok (.goto 225, 3) := dc_167 (a := 0) (b := 225) (v := 225) (by decide +kernel)
theorem dL_law_276 : decode cL_law 276 = .ok (.aload_n 1, 1) := dc_43 (by decide +kernel)
theorem dL_law_277 : decode cL_law 277 = .ok (.aload_n 0, 1) := dc_42 (by decide +kernel)
theorem dL_law_278 : decode cL_law 278 = .ok (.iload 4, 2) := dc_21 (a := 4) (by decide +kernel)
theorem dL_law_280 : decode cL_law 280 = .ok (.iconst 1, 1) := dc_4 (by decide +kernel)
theorem dL_law_281 : decode cL_law 281 = .ok (.iadd, 1) := dc_96 (by decide +kernel)
theorem dL_law_282 : decode cL_law 282 = .ok (.iaload, 1) := dc_46 (by decide +kernel)
theorem dL_law_283 : decode cL_law 283 = .ok (.ifCond .eq 7, 3) := dc_153 (a := 0) (b := 7) (v := 7) (by decide +kernel)
theorem dL_law_286 : decode cL_law 286 = .ok (.iconst 1, 1) := dc_4 (by decide +kernel)
theorem dL_law_287 : decode cL_law 287 = .ok (.goto 4, 3) := dc_167 (a := 0) (b := 4) (v := 4) (by decide +kernel)
theorem dL_law_290 : decode cL_law 290 = .ok (.iconst 0, 1) := dc_3 (by decide +kernel)
theorem dL_law_291 : decode cL_law 291 = .ok (.invokevirtual 59, 3) := dc_182 (a := 0) (b := 59) (n := 59) (by decide +kernel)
theorem dL_law_294 : decode cL_law 294 = .ok (.aload_n 2, 1) := dc_44 (by decide +kernel)
theorem dL_law_295 : decode cL_law 295 = .ok (.aload_n 0, 1) := dc_42 (by decide +kernel)
theorem dL_law_296 : decode cL_law 296 = .ok (.iload 4, 2) := dc_21 (a := 4) (by decide +kernel)
theorem dL_law_298 : decode cL_law 298 = .ok (.iconst 1, 1) := dc_4 (by decide +kernel)
theorem dL_law_299 : decode cL_law 299 = .ok (.iadd, 1) := dc_96 (by decide +kernel)
theorem dL_law_300 : decode cL_law 300 = .ok (.iaload, 1) := dc_46 (by decide +kernel)
theorem dL_law_301 : decode cL_law 301 = .ok (.ifCond .eq 7, 3) := dc_153 (a := 0) (b := 7) (v := 7) (by decide +kernel)
theorem dL_law_304 : decode cL_law 304 = .ok (.iconst 1, 1) := dc_4 (by decide +kernel)
theorem dL_law_305 : decode cL_law 305 = .ok (.goto 4, 3) := dc_167 (a := 0) (b := 4) (v := 4) (by decide +kernel)
theorem dL_law_308 : decode cL_law 308 = .ok (.iconst 0, 1) := dc_3 (by decide +kernel)
theorem dL_law_309 : decode cL_law 309 = .ok (.invokevirtual 63, 3) := dc_182 (a := 0) (b := 63) (n := 63) (by decide +kernel)
theorem dL_law_312 : decode cL_law 312 = .ok (.if_icmp .eq 186, 3) := dc_159 (a := 0) (b := 186) (v := 186) (by decide +kernel)
theorem dL_law_315 : decode cL_law 315 = .ok (.iconst 0, 1) := dc_3 (by decide +kernel)
theorem dL_law_316 : decode cL_law 316 = .ok (.ireturn, 1) := dc_172 (by decide +kernel)
theorem dL_law_317 : decode cL_law 317 = .ok (.aload_n 1, 1) := dc_43 (by decide +kernel)
theorem dL_law_318 : decode cL_law 318 = .ok (.invokevirtual 64, 3) := dc_182 (a := 0) (b := 64) (n := 64) (by decide +kernel)
theorem dL_law_321 : decode cL_law 321 = .ok (.aload_n 2, 1) := dc_44 (by decide +kernel)
theorem dL_law_322 : decode cL_law 322 = .ok (.invokevirtual 67, 3) := dc_182 (a := 0) (b := 67) (n := 67) (by decide +kernel)
theorem dL_law_325 : decode cL_law 325 = .ok (.if_icmp .eq 173, 3) := dc_159 (a := 0) (b := 173) (v := 173) (by decide +kernel)
theorem dL_law_328 : decode cL_law 328 = .ok (.iconst 0, 1) := dc_3 (by decide +kernel)
theorem dL_law_329 : decode cL_law 329 = .ok (.ireturn, 1) := dc_172 (by decide +kernel)
theorem dL_law_330 : decode cL_law 330 = .ok (.aload_n 1, 1) := dc_43 (by decide +kernel)
theorem dL_law_331 : decode cL_law 331 = .ok (.aload_n 0, 1) := dc_42 (by decide +kernel)
theorem dL_law_332 : decode cL_law 332 = .ok (.iload 4, 2) := dc_21 (a := 4) (by decide +kernel)
theorem dL_law_334 : decode cL_law 334 = .ok (.iconst 1, 1) := dc_4 (by decide +kernel)
theorem dL_law_335 : decode cL_law 335 = .ok (.iadd, 1) := dc_96 (by decide +kernel)
theorem dL_law_336 : decode cL_law 336 = .ok (.iaload, 1) := dc_46 (by decide +kernel)
theorem dL_law_337 : decode cL_law 337 = .ok (.aload_n 3, 1) := dc_45 (by decide +kernel)
theorem dL_law_338 : decode cL_law 338 = .ok (.invokestatic 68, 3) := dc_184 (a := 0) (b := 68) (n := 68) (by decide +kernel)
theorem dL_law_341 : decode cL_law 341 = .ok (.istore 5, 2) := dc_54 (a := 5) (by decide +kernel)
theorem dL_law_343 : decode cL_law 343 = .ok (.aload_n 2, 1) := dc_44 (by decide +kernel)
theorem dL_law_344 : decode cL_law 344 = .ok (.aload_n 0, 1) := dc_42 (by decide +kernel)
theorem dL_law_345 : decode cL_law 345 = .ok (.iload 4, 2) := dc_21 (a := 4) (by decide +kernel)
theorem dL_law_347 : decode cL_law 347 = .ok (.iconst 1, 1) := dc_4 (by decide +kernel)
theorem dL_law_348 : decode cL_law 348 = .ok (.iadd, 1) := dc_96 (by decide +kernel)
theorem dL_law_349 : decode cL_law 349 = .ok (.iaload, 1) := dc_46 (by decide +kernel)
theorem dL_law_350 : decode cL_law 350 = .ok (.invokevirtual 71, 3) := dc_182 (a := 0) (b := 71) (n := 71) (by decide +kernel)
theorem dL_law_353 : decode cL_law 353 = .ok (.istore 6, 2) := dc_54 (a := 6) (by decide +kernel)
theorem dL_law_355 : decode cL_law 355 = .ok (.aload_n 2, 1) := dc_44 (by decide +kernel)
theorem dL_law_356 : decode cL_law 356 = .ok (.invokevirtual 47, 3) := dc_182 (a := 0) (b := 47) (n := 47) (by decide +kernel)
theorem dL_law_359 : decode cL_law 359 = .ok (.iload 5, 2) := dc_21 (a := 5) (by decide +kernel)
theorem dL_law_361 : decode cL_law 361 = .ok (.if_icmp .eq 5, 3) := dc_159 (a := 0) (b := 5) (v := 5) (by decide +kernel)
theorem dL_law_364 : decode cL_law 364 = .ok (.iconst 0, 1) := dc_3 (by decide +kernel)
theorem dL_law_365 : decode cL_law 365 = .ok (.ireturn, 1) := dc_172 (by decide +kernel)
theorem dL_law_366 : decode cL_law 366 = .ok (.iload 5, 2) := dc_21 (a := 5) (by decide +kernel)
theorem dL_law_368 : decode cL_law 368 = .ok (.ifCond .ne 15, 3) := dc_154 (a := 0) (b := 15) (v := 15) (by decide +kernel)
theorem dL_law_371 : decode cL_law 371 = .ok (.aload_n 3, 1) := dc_45 (by decide +kernel)
theorem dL_law_372 : decode cL_law 372 = .ok (.iconst 0, 1) := dc_3 (by decide +kernel)
theorem dL_law_373 : decode cL_law 373 = .ok (.laload, 1) := dc_47 (by decide +kernel)
theorem dL_law_374 : decode cL_law 374 = .ok (.iload 6, 2) := dc_21 (a := 6) (by decide +kernel)
theorem dL_law_376 : decode cL_law 376 = .ok (.i2l, 1) := dc_133 (by decide +kernel)
theorem dL_law_377 : decode cL_law 377 = .ok (.lcmp, 1) := dc_148 (by decide +kernel)
theorem dL_law_378 : decode cL_law 378 = .ok (.ifCond .eq 5, 3) := dc_153 (a := 0) (b := 5) (v := 5) (by decide +kernel)
theorem dL_law_381 : decode cL_law 381 = .ok (.iconst 0, 1) := dc_3 (by decide +kernel)
theorem dL_law_382 : decode cL_law 382 = .ok (.ireturn, 1) := dc_172 (by decide +kernel)
theorem dL_law_383 : decode cL_law 383 = .ok (.goto 115, 3) := dc_167 (a := 0) (b := 115) (v := 115) (by decide +kernel)
theorem dL_law_386 : decode cL_law 386 = .ok (.aload_n 1, 1) := dc_43 (by decide +kernel)
theorem dL_law_387 : decode cL_law 387 = .ok (.aload_n 0, 1) := dc_42 (by decide +kernel)
theorem dL_law_388 : decode cL_law 388 = .ok (.iload 4, 2) := dc_21 (a := 4) (by decide +kernel)
theorem dL_law_390 : decode cL_law 390 = .ok (.iconst 1, 1) := dc_4 (by decide +kernel)
theorem dL_law_391 : decode cL_law 391 = .ok (.iadd, 1) := dc_96 (by decide +kernel)
theorem dL_law_392 : decode cL_law 392 = .ok (.iaload, 1) := dc_46 (by decide +kernel)
theorem dL_law_393 : decode cL_law 393 = .ok (.aload_n 3, 1) := dc_45 (by decide +kernel)
theorem dL_law_394 : decode cL_law 394 = .ok (.invokestatic 72, 3) := dc_184 (a := 0) (b := 72) (n := 72) (by decide +kernel)
theorem dL_law_397 : decode cL_law 397 = .ok (.istore 5, 2) := dc_54 (a := 5) (by decide +kernel)
theorem dL_law_399 : decode cL_law 399 = .ok (.aload_n 2, 1) := dc_44 (by decide +kernel)
theorem dL_law_400 : decode cL_law 400 = .ok (.aload_n 0, 1) := dc_42 (by decide +kernel)
theorem dL_law_401 : decode cL_law 401 = .ok (.iload 4, 2) := dc_21 (a := 4) (by decide +kernel)
theorem dL_law_403 : decode cL_law 403 = .ok (.iconst 1, 1) := dc_4 (by decide +kernel)
theorem dL_law_404 : decode cL_law 404 = .ok (.iadd, 1) := dc_96 (by decide +kernel)
theorem dL_law_405 : decode cL_law 405 = .ok (.iaload, 1) := dc_46 (by decide +kernel)
theorem dL_law_406 : decode cL_law 406 = .ok (.invokevirtual 74, 3) := dc_182 (a := 0) (b := 74) (n := 74) (by decide +kernel)
theorem dL_law_409 : decode cL_law 409 = .ok (.istore 6, 2) := dc_54 (a := 6) (by decide +kernel)
theorem dL_law_411 : decode cL_law 411 = .ok (.aload_n 2, 1) := dc_44 (by decide +kernel)
theorem dL_law_412 : decode cL_law 412 = .ok (.invokevirtual 47, 3) := dc_182 (a := 0) (b := 47) (n := 47) (by decide +kernel)
theorem dL_law_415 : decode cL_law 415 = .ok (.iload 5, 2) := dc_21 (a := 5) (by decide +kernel)
theorem dL_law_417 : decode cL_law 417 = .ok (.if_icmp .eq 5, 3) := dc_159 (a := 0) (b := 5) (v := 5) (by decide +kernel)
theorem dL_law_420 : decode cL_law 420 = .ok (.iconst 0, 1) := dc_3 (by decide +kernel)
theorem dL_law_421 : decode cL_law 421 = .ok (.ireturn, 1) := dc_172 (by decide +kernel)
theorem dL_law_422 : decode cL_law 422 = .ok (.iload 5, 2) := dc_21 (a := 5) (by decide +kernel)
theorem dL_law_424 : decode cL_law 424 = .ok (.ifCond .ne 15, 3) := dc_154 (a := 0) (b := 15) (v := 15) (by decide +kernel)
theorem dL_law_427 : decode cL_law 427 = .ok (.aload_n 3, 1) := dc_45 (by decide +kernel)
theorem dL_law_428 : decode cL_law 428 = .ok (.iconst 0, 1) := dc_3 (by decide +kernel)
theorem dL_law_429 : decode cL_law 429 = .ok (.laload, 1) := dc_47 (by decide +kernel)
theorem dL_law_430 : decode cL_law 430 = .ok (.iload 6, 2) := dc_21 (a := 6) (by decide +kernel)
theorem dL_law_432 : decode cL_law 432 = .ok (.i2l, 1) := dc_133 (by decide +kernel)
theorem dL_law_433 : decode cL_law 433 = .ok (.lcmp, 1) := dc_148 (by decide +kernel)
theorem dL_law_434 : decode cL_law 434 = .ok (.ifCond .eq 5, 3) := dc_153 (a := 0) (b := 5) (v := 5) (by decide +kernel)
theorem dL_law_437 : decode cL_law 437 = .ok (.iconst 0, 1) := dc_3 (by decide +kernel)
theorem dL_law_438 : decode cL_law 438 = .ok (.ireturn, 1) := dc_172 (by decide +kernel)
theorem dL_law_439 : decode cL_law 439 = .ok (.goto 59, 3) := dc_167 (a := 0) (b := 59) (v := 59) (by decide +kernel)
theorem dL_law_442 : decode cL_law 442 = .ok (.aload_n 1, 1) := dc_43 (by decide +kernel)
theorem dL_law_443 : decode cL_law 443 = .ok (.aload_n 0, 1) := dc_42 (by decide +kernel)
theorem dL_law_444 : decode cL_law 444 = .ok (.iload 4, 2) := dc_21 (a := 4) (by decide +kernel)
theorem dL_law_446 : decode cL_law 446 = .ok (.iconst 1, 1) := dc_4 (by decide +kernel)
theorem dL_law_447 : decode cL_law 447 = .ok (.iadd, 1) := dc_96 (by decide +kernel)
theorem dL_law_448 : decode cL_law 448 = .ok (.iaload, 1) := dc_46 (by decide +kernel)
theorem dL_law_449 : decode cL_law 449 = .ok (.aload_n 3, 1) := dc_45 (by decide +kernel)
theorem dL_law_450 : decode cL_law 450 = .ok (.invokestatic 75, 3) := dc_184 (a := 0) (b := 75) (n := 75) (by decide +kernel)
theorem dL_law_453 : decode cL_law 453 = .ok (.istore 5, 2) := dc_54 (a := 5) (by decide +kernel)
theorem dL_law_455 : decode cL_law 455 = .ok (.aload_n 2, 1) := dc_44 (by decide +kernel)
theorem dL_law_456 : decode cL_law 456 = .ok (.aload_n 0, 1) := dc_42 (by decide +kernel)
theorem dL_law_457 : decode cL_law 457 = .ok (.iload 4, 2) := dc_21 (a := 4) (by decide +kernel)
theorem dL_law_459 : decode cL_law 459 = .ok (.iconst 1, 1) := dc_4 (by decide +kernel)
theorem dL_law_460 : decode cL_law 460 = .ok (.iadd, 1) := dc_96 (by decide +kernel)
theorem dL_law_461 : decode cL_law 461 = .ok (.iaload, 1) := dc_46 (by decide +kernel)
theorem dL_law_462 : decode cL_law 462 = .ok (.invokevirtual 77, 3) := dc_182 (a := 0) (b := 77) (n := 77) (by decide +kernel)
theorem dL_law_465 : decode cL_law 465 = .ok (.istore 6, 2) := dc_54 (a := 6) (by decide +kernel)
theorem dL_law_467 : decode cL_law 467 = .ok (.aload_n 2, 1) := dc_44 (by decide +kernel)
theorem dL_law_468 : decode cL_law 468 = .ok (.invokevirtual 47, 3) := dc_182 (a := 0) (b := 47) (n := 47) (by decide +kernel)
theorem dL_law_471 : decode cL_law 471 = .ok (.iload 5, 2) := dc_21 (a := 5) (by decide +kernel)
theorem dL_law_473 : decode cL_law 473 = .ok (.if_icmp .eq 5, 3) := dc_159 (a := 0) (b := 5) (v := 5) (by decide +kernel)
theorem dL_law_476 : decode cL_law 476 = .ok (.iconst 0, 1) := dc_3 (by decide +kernel)
theorem dL_law_477 : decode cL_law 477 = .ok (.ireturn, 1) := dc_172 (by decide +kernel)
theorem dL_law_478 : decode cL_law 478 = .ok (.iload 5, 2) := dc_21 (a := 5) (by decide +kernel)
theorem dL_law_480 : decode cL_law 480 = .ok (.ifCond .ne 15, 3) := dc_154 (a := 0) (b := 15) (v := 15) (by decide +kernel)
theorem dL_law_483 : decode cL_law 483 = .ok (.aload_n 3, 1) := dc_45 (by decide +kernel)
theorem dL_law_484 : decode cL_law 484 = .ok (.iconst 0, 1) := dc_3 (by decide +kernel)
theorem dL_law_485 : decode cL_law 485 = .ok (.laload, 1) := dc_47 (by decide +kernel)
theorem dL_law_486 : decode cL_law 486 = .ok (.iload 6, 2) := dc_21 (a := 6) (by decide +kernel)
theorem dL_law_488 : decode cL_law 488 = .ok (.i2l, 1) := dc_133 (by decide +kernel)
theorem dL_law_489 : decode cL_law 489 = .ok (.lcmp, 1) := dc_148 (by decide +kernel)
theorem dL_law_490 : decode cL_law 490 = .ok (.ifCond .eq 5, 3) := dc_153 (a := 0) (b := 5) (v := 5) (by decide +kernel)
theorem dL_law_493 : decode cL_law 493 = .ok (.iconst 0, 1) := dc_3 (by decide +kernel)
theorem dL_law_494 : decode cL_law 494 = .ok (.ireturn, 1) := dc_172 (by decide +kernel)
theorem dL_law_495 : decode cL_law 495 = .ok (.goto 3, 3) := dc_167 (a := 0) (b := 3) (v := 3) (by decide +kernel)
theorem dL_law_498 : decode cL_law 498 = .ok (.iinc 4 6, 3) := dc_132 (a := 4) (b := 6) (v := 6) (by decide +kernel)
theorem dL_law_501 : decode cL_law 501 = .ok (.goto (-478), 3) := dc_167 (a := 254) (b := 34) (v := -478) (by decide +kernel)
theorem dL_law_504 : decode cL_law 504 = .ok (.iconst 1, 1) := dc_4 (by decide +kernel)
theorem dL_law_505 : decode cL_law 505 = .ok (.ireturn, 1) := dc_172 (by decide +kernel)
def fL_law_b498 (N : Nat) (L : Nat) (xs : Nat → Int32) (rE : Nat → Int32 → eH → Option ((Unit ⊕ Nat) × eH)) (rN : Nat → eH → Option ((Int32 ⊕ Nat) × eH)) (sE : Nat → Int32 → eH → Option (Unit × eH)) (sL : Nat → Int32 → Int64 → Int64 → eH → Option (Int32 × eH)) (sN : Nat → eH → Option (Int32 × eH)) (k23 : Nat → Nat → Nat → Int32 → eH → Option (Int32 × eH)) (l1 : Nat) (l2 : Nat) (l3 : Nat) (l4 : Int32) (h : eH) : Option (Int32 × eH) :=
  k23 l1 l2 l3 (l4 + (6 : Int32)) h
theorem pL_law_b498 {w : eW} {d : Nat} {dr : Nat} (hd : dr + 29 ≤ d + 1) (hdr : 12 ≤ dr) {L : Nat} {xs : Nat → Int32} (hsc : w_oc w 0 = (.int, L, fun j => .int (xs j))) {N : Nat} {rE : Nat → Int32 → eH → Option ((Unit ⊕ Nat) × eH)} {rN : Nat → eH → Option ((Int32 ⊕ Nat) × eH)} {sE : Nat → Int32 → eH → Option (Unit × eH)} {sL : Nat → Int32 → Int64 → Int64 → eH → Option (Int32 × eH)} {sN : Nat → eH → Option (Int32 × eH)} (hrE : ∀ a t0 h q, rE a t0 h = some q → wm w dr YX8_expand [.ref a, .int t0] h (e_is (e_rt c_V q))) (hrN : ∀ a h q, rN a h = some q → wm w dr YX8_number [.ref a] h (e_is (e_rt c_I q))) (hsE : ∀ a t0 h q, sE a t0 h = some q → wm w dr YX35_expand [.ref a, .int t0] h (e_is (e_rn c_V q))) (hsL : ∀ a t0 t1 t2 h q, sL a t0 t1 t2 h = some q → wm w dr YX35_layBox [.ref a, .int t0, .long t1, .long t2] h (e_is (e_rn c_I q))) (hsN : ∀ a h q, sN a h = some q → wm w dr YX35_number [.ref a] h (e_is (e_rn c_I q))) {k23 : Nat → Nat → Nat → Int32 → eH → Option (Int32 × eH)} (hk23 : ∀ l1 l2 l3 l4 h q, k23 l1 l2 l3 l4 h = some q → wp w (d + 1) YL_law 23 [some (.ref 1000000000), some (.ref l1), some (.ref l2), some (.ref l3), some (.int l4), none, none] [] h (e_is (e_rn c_I q))) {l1 : Nat} {l2 : Nat} {l3 : Nat} {l4 : Int32} {h : eH} {q} (hf : fL_law_b498 N L xs rE rN sE sL sN k23 l1 l2 l3 l4 h = some q) : wp w (d + 1) YL_law 498 [some (.ref 1000000000), some (.ref l1), some (.ref l2), some (.ref l3), some (.int l4), none, none] [] h (e_is (e_rn c_I q)) := by
  unfold fL_law_b498 at hf
  refine w_iinc dL_law_498 (v := (l4 + (6 : Int32))) rfl rfl (by decide) (ls' := [some (.ref 1000000000), some (.ref l1), some (.ref l2), some (.ref l3), some (.int (l4 + (6 : Int32))), none, none]) rfl ?_
  refine w_goto 23 dL_law_501 (by decide) ?_
  exact (hk23 _ _ _ _ _ _ hf).to ⟨rfl, rfl, rfl, rfl, rfl, trivial⟩
def fL_law_b273 (N : Nat) (L : Nat) (xs : Nat → Int32) (rE : Nat → Int32 → eH → Option ((Unit ⊕ Nat) × eH)) (rN : Nat → eH → Option ((Int32 ⊕ Nat) × eH)) (sE : Nat → Int32 → eH → Option (Unit × eH)) (sL : Nat → Int32 → Int64 → Int64 → eH → Option (Int32 × eH)) (sN : Nat → eH → Option (Int32 × eH)) (k23 : Nat → Nat → Nat → Int32 → eH → Option (Int32 × eH)) (l1 : Nat) (l2 : Nat) (l3 : Nat) (l4 : Int32) (h : eH) : Option (Int32 × eH) :=
  fL_law_b498 N L xs rE rN sE sL sN k23 l1 l2 l3 l4 h
theorem pL_law_b273 {w : eW} {d : Nat} {dr : Nat} (hd : dr + 29 ≤ d + 1) (hdr : 12 ≤ dr) {L : Nat} {xs : Nat → Int32} (hsc : w_oc w 0 = (.int, L, fun j => .int (xs j))) {N : Nat} {rE : Nat → Int32 → eH → Option ((Unit ⊕ Nat) × eH)} {rN : Nat → eH → Option ((Int32 ⊕ Nat) × eH)} {sE : Nat → Int32 → eH → Option (Unit × eH)} {sL : Nat → Int32 → Int64 → Int64 → eH → Option (Int32 × eH)} {sN : Nat → eH → Option (Int32 × eH)} (hrE : ∀ a t0 h q, rE a t0 h = some q → wm w dr YX8_expand [.ref a, .int t0] h (e_is (e_rt c_V q))) (hrN : ∀ a h q, rN a h = some q → wm w dr YX8_number [.ref a] h (e_is (e_rt c_I q))) (hsE : ∀ a t0 h q, sE a t0 h = some q → wm w dr YX35_expand [.ref a, .int t0] h (e_is (e_rn c_V q))) (hsL : ∀ a t0 t1 t2 h q, sL a t0 t1 t2 h = some q → wm w dr YX35_layBox [.ref a, .int t0, .long t1, .long t2] h (e_is (e_rn c_I q))) (hsN : ∀ a h q, sN a h = some q → wm w dr YX35_number [.ref a] h (e_is (e_rn c_I q))) {k23 : Nat → Nat → Nat → Int32 → eH → Option (Int32 × eH)} (hk23 : ∀ l1 l2 l3 l4 h q, k23 l1 l2 l3 l4 h = some q → wp w (d + 1) YL_law 23 [some (.ref 1000000000), some (.ref l1), some (.ref l2), some (.ref l3), some (.int l4), none, none] [] h (e_is (e_rn c_I q))) {l1 : Nat} {l2 : Nat} {l3 : Nat} {l4 : Int32} {h : eH} {q} (hf : fL_law_b273 N L xs rE rN sE sL sN k23 l1 l2 l3 l4 h = some q) : wp w (d + 1) YL_law 273 [some (.ref 1000000000), some (.ref l1), some (.ref l2), some (.ref l3), some (.int l4), none, none] [] h (e_is (e_rn c_I q)) := by
  unfold fL_law_b273 at hf
  refine w_goto 498 dL_law_273 (by decide) ?_
  exact (pL_law_b498 hd hdr hsc hrE hrN hsE hsL hsN hk23 hf).to ⟨rfl, rfl, rfl, rfl, rfl, trivial⟩
def fL_law_b309 (N : Nat) (L : Nat) (xs : Nat → Int32) (rE : Nat → Int32 → eH → Option ((Unit ⊕ Nat) × eH)) (rN : Nat → eH → Option ((Int32 ⊕ Nat) × eH)) (sE : Nat → Int32 → eH → Option (Unit × eH)) (sL : Nat → Int32 → Int64 → Int64 → eH → Option (Int32 × eH)) (sN : Nat → eH → Option (Int32 × eH)) (k23 : Nat → Nat → Nat → Int32 → eH → Option (Int32 × eH)) (l1 : Nat) (l2 : Nat) (l3 : Nat) (l4 : Int32) (s0 : Int32) (s1 : Nat) (s2 : Int32) (h : eH) : Option (Int32 × eH) :=
  (k_ok 34 h s1).bind fun _ =>
  (fX35_clear_2 s1 s2 h).bind fun q2 =>
  if s0 = q2.1 then
    fL_law_b498 N L xs rE rN sE sL sN k23 l1 l2 l3 l4 q2.2
  else
    some ((0 : Int32), q2.2)
theorem pL_law_b309 {w : eW} {d : Nat} {dr : Nat} (hd : dr + 29 ≤ d + 1) (hdr : 12 ≤ dr) {L : Nat} {xs : Nat → Int32} (hsc : w_oc w 0 = (.int, L, fun j => .int (xs j))) {N : Nat} {rE : Nat → Int32 → eH → Option ((Unit ⊕ Nat) × eH)} {rN : Nat → eH → Option ((Int32 ⊕ Nat) × eH)} {sE : Nat → Int32 → eH → Option (Unit × eH)} {sL : Nat → Int32 → Int64 → Int64 → eH → Option (Int32 × eH)} {sN : Nat → eH → Option (Int32 × eH)} (hrE : ∀ a t0 h q, rE a t0 h = some q → wm w dr YX8_expand [.ref a, .int t0] h (e_is (e_rt c_V q))) (hrN : ∀ a h q, rN a h = some q → wm w dr YX8_number [.ref a] h (e_is (e_rt c_I q))) (hsE : ∀ a t0 h q, sE a t0 h = some q → wm w dr YX35_expand [.ref a, .int t0] h (e_is (e_rn c_V q))) (hsL : ∀ a t0 t1 t2 h q, sL a t0 t1 t2 h = some q → wm w dr YX35_layBox [.ref a, .int t0, .long t1, .long t2] h (e_is (e_rn c_I q))) (hsN : ∀ a h q, sN a h = some q → wm w dr YX35_number [.ref a] h (e_is (e_rn c_I q))) {k23 : Nat → Nat → Nat → Int32 → eH → Option (Int32 × eH)} (hk23 : ∀ l1 l2 l3 l4 h q, k23 l1 l2 l3 l4 h = some q → wp w (d + 1) YL_law 23 [some (.ref 1000000000), some (.ref l1), some (.ref l2), some (.ref l3), some (.int l4), none, none] [] h (e_is (e_rn c_I q))) {l1 : Nat} {l2 : Nat} {l3 : Nat} {l4 : Int32} {s0 : Int32} {s1 : Nat} {s2 : Int32} {h : eH} {q} (hf : fL_law_b309 N L xs rE rN sE sL sN k23 l1 l2 l3 l4 s0 s1 s2 h = some q) : wp w (d + 1) YL_law 309 [some (.ref 1000000000), some (.ref l1), some (.ref l2), some (.ref l3), some (.int l4), none, none] [.int s2, .ref s1, .int s0] h (e_is (e_rn c_I q)) := by
  unfold fL_law_b309 at hf
  obtain ⟨_, b1, hf⟩ := Option.bind_eq_some_iff.mp hf
  refine x_cnI hf (e_stV (Yc := YX35_clear_2) (ci := 34) (av := [.int s2]) (st := [.int s0]) dL_law_309 q6052 mX35_clear_2 rfl (k_ok_some b1).1 (k_ok_some b1).2) mX35_clear_2.2.2.1 mX35_clear_2.2.2.2.2.1 (Nat.le_of_ble_eq_true rfl) (Nat.le_of_ble_eq_true rfl) (fun q hq => pX35_clear_2 (by omega) hq) (fun q2 hf => ?_)
  refine w_icmp_eq 498 dL_law_312 (by decide) (fun c3 => ?_) (fun c3 => ?_)
  · replace hf := (if_pos (show s0 = q2.1 from c3)).symm.trans hf
    exact (pL_law_b498 hd hdr hsc hrE hrN hsE hsL hsN hk23 hf).to ⟨rfl, rfl, rfl, rfl, rfl, trivial⟩
  · replace hf := (if_neg (show ¬ (s0 = q2.1) from c3)).symm.trans hf
    refine w_iconst dL_law_315 (v := 0) (by decide) ?_
    cases hf
    exact w_iret dL_law_316 rfl rfl rfl
def fL_law_b291 (N : Nat) (L : Nat) (xs : Nat → Int32) (rE : Nat → Int32 → eH → Option ((Unit ⊕ Nat) × eH)) (rN : Nat → eH → Option ((Int32 ⊕ Nat) × eH)) (sE : Nat → Int32 → eH → Option (Unit × eH)) (sL : Nat → Int32 → Int64 → Int64 → eH → Option (Int32 × eH)) (sN : Nat → eH → Option (Int32 × eH)) (k23 : Nat → Nat → Nat → Int32 → eH → Option (Int32 × eH)) (l1 : Nat) (l2 : Nat) (l3 : Nat) (l4 : Int32) (s0 : Nat) (s1 : Int32) (h : eH) : Option (Int32 × eH) :=
  (k_ok 0 h s0).bind fun _ =>
  (fX1_clear N s0 s1 h).bind fun q2 =>
  (s_get L xs (l4 + (1 : Int32))).bind fun x3 =>
  if x3 = 0 then
    fL_law_b309 N L xs rE rN sE sL sN k23 l1 l2 l3 l4 q2.1 l2 (0 : Int32) q2.2
  else
    fL_law_b309 N L xs rE rN sE sL sN k23 l1 l2 l3 l4 q2.1 l2 (1 : Int32) q2.2
theorem pL_law_b291 {w : eW} {d : Nat} {dr : Nat} (hd : dr + 29 ≤ d + 1) (hdr : 12 ≤ dr) {L : Nat} {xs : Nat → Int32} (hsc : w_oc w 0 = (.int, L, fun j => .int (xs j))) {N : Nat} {rE : Nat → Int32 → eH → Option ((Unit ⊕ Nat) × eH)} {rN : Nat → eH → Option ((Int32 ⊕ Nat) × eH)} {sE : Nat → Int32 → eH → Option (Unit × eH)} {sL : Nat → Int32 → Int64 → Int64 → eH → Option (Int32 × eH)} {sN : Nat → eH → Option (Int32 × eH)} (hrE : ∀ a t0 h q, rE a t0 h = some q → wm w dr YX8_expand [.ref a, .int t0] h (e_is (e_rt c_V q))) (hrN : ∀ a h q, rN a h = some q → wm w dr YX8_number [.ref a] h (e_is (e_rt c_I q))) (hsE : ∀ a t0 h q, sE a t0 h = some q → wm w dr YX35_expand [.ref a, .int t0] h (e_is (e_rn c_V q))) (hsL : ∀ a t0 t1 t2 h q, sL a t0 t1 t2 h = some q → wm w dr YX35_layBox [.ref a, .int t0, .long t1, .long t2] h (e_is (e_rn c_I q))) (hsN : ∀ a h q, sN a h = some q → wm w dr YX35_number [.ref a] h (e_is (e_rn c_I q))) {k23 : Nat → Nat → Nat → Int32 → eH → Option (Int32 × eH)} (hk23 : ∀ l1 l2 l3 l4 h q, k23 l1 l2 l3 l4 h = some q → wp w (d + 1) YL_law 23 [some (.ref 1000000000), some (.ref l1), some (.ref l2), some (.ref l3), some (.int l4), none, none] [] h (e_is (e_rn c_I q))) {l1 : Nat} {l2 : Nat} {l3 : Nat} {l4 : Int32} {s0 : Nat} {s1 : Int32} {h : eH} {q} (hf : fL_law_b291 N L xs rE rN sE sL sN k23 l1 l2 l3 l4 s0 s1 h = some q) : wp w (d + 1) YL_law 291 [some (.ref 1000000000), some (.ref l1), some (.ref l2), some (.ref l3), some (.int l4), none, none] [.int s1, .ref s0] h (e_is (e_rn c_I q)) := by
  unfold fL_law_b291 at hf
  obtain ⟨_, b1, hf⟩ := Option.bind_eq_some_iff.mp hf
  refine x_cnI hf (e_stV (Yc := YX1_clear) (ci := 0) (av := [.int s1]) (st := []) dL_law_291 q2070 mX1_clear rfl (k_ok_some b1).1 (k_ok_some b1).2) mX1_clear.2.2.1 mX1_clear.2.2.2.2.1 (Nat.le_of_ble_eq_true rfl) (Nat.le_of_ble_eq_true rfl) (fun q hq => pX1_clear (by omega) hq) (fun q2 hf => ?_)
  refine w_aload_n dL_law_294 rfl rfl ?_
  refine w_aload_n dL_law_295 rfl rfl ?_
  refine w_iload dL_law_296 rfl ?_
  refine w_iconst dL_law_298 (v := 1) (by decide) ?_
  refine w_iadd dL_law_299 ?_
  obtain ⟨x3, b4, hf⟩ := Option.bind_eq_some_iff.mp hf
  refine x_sI hsc b4 dL_law_300 ?_
  refine w_if_eq 308 dL_law_301 (by decide) (fun c5 => ?_) (fun c5 => ?_)
  · replace hf := (if_pos (show x3 = 0 from c5)).symm.trans hf
    refine w_iconst dL_law_308 (v := 0) (by decide) ?_
    exact (pL_law_b309 hd hdr hsc hrE hrN hsE hsL hsN hk23 hf).to ⟨rfl, rfl, rfl, rfl, rfl, trivial⟩
  · replace hf := (if_neg (show ¬ (x3 = 0) from c5)).symm.trans hf
    refine w_iconst dL_law_304 (v := 1) (by decide) ?_
    refine w_goto 309 dL_law_305 (by decide) ?_
    exact (pL_law_b309 hd hdr hsc hrE hrN hsE hsL hsN hk23 hf).to ⟨rfl, rfl, rfl, rfl, rfl, trivial⟩
def fL_law_b383 (N : Nat) (L : Nat) (xs : Nat → Int32) (rE : Nat → Int32 → eH → Option ((Unit ⊕ Nat) × eH)) (rN : Nat → eH → Option ((Int32 ⊕ Nat) × eH)) (sE : Nat → Int32 → eH → Option (Unit × eH)) (sL : Nat → Int32 → Int64 → Int64 → eH → Option (Int32 × eH)) (sN : Nat → eH → Option (Int32 × eH)) (k23 : Nat → Nat → Nat → Int32 → eH → Option (Int32 × eH)) (l1 : Nat) (l2 : Nat) (l3 : Nat) (l4 : Int32) (h : eH) : Option (Int32 × eH) :=
  fL_law_b498 N L xs rE rN sE sL sN k23 l1 l2 l3 l4 h
theorem pL_law_b383 {w : eW} {d : Nat} {dr : Nat} (hd : dr + 29 ≤ d + 1) (hdr : 12 ≤ dr) {L : Nat} {xs : Nat → Int32} (hsc : w_oc w 0 = (.int, L, fun j => .int (xs j))) {N : Nat} {rE : Nat → Int32 → eH → Option ((Unit ⊕ Nat) × eH)} {rN : Nat → eH → Option ((Int32 ⊕ Nat) × eH)} {sE : Nat → Int32 → eH → Option (Unit × eH)} {sL : Nat → Int32 → Int64 → Int64 → eH → Option (Int32 × eH)} {sN : Nat → eH → Option (Int32 × eH)} (hrE : ∀ a t0 h q, rE a t0 h = some q → wm w dr YX8_expand [.ref a, .int t0] h (e_is (e_rt c_V q))) (hrN : ∀ a h q, rN a h = some q → wm w dr YX8_number [.ref a] h (e_is (e_rt c_I q))) (hsE : ∀ a t0 h q, sE a t0 h = some q → wm w dr YX35_expand [.ref a, .int t0] h (e_is (e_rn c_V q))) (hsL : ∀ a t0 t1 t2 h q, sL a t0 t1 t2 h = some q → wm w dr YX35_layBox [.ref a, .int t0, .long t1, .long t2] h (e_is (e_rn c_I q))) (hsN : ∀ a h q, sN a h = some q → wm w dr YX35_number [.ref a] h (e_is (e_rn c_I q))) {k23 : Nat → Nat → Nat → Int32 → eH → Option (Int32 × eH)} (hk23 : ∀ l1 l2 l3 l4 h q, k23 l1 l2 l3 l4 h = some q → wp w (d + 1) YL_law 23 [some (.ref 1000000000), some (.ref l1), some (.ref l2), some (.ref l3), some (.int l4), none, none] [] h (e_is (e_rn c_I q))) {l1 : Nat} {l2 : Nat} {l3 : Nat} {l4 : Int32} {h : eH} {q} (hf : fL_law_b383 N L xs rE rN sE sL sN k23 l1 l2 l3 l4 h = some q) : wp w (d + 1) YL_law 383 [some (.ref 1000000000), some (.ref l1), some (.ref l2), some (.ref l3), some (.int l4), none, none] [] h (e_is (e_rn c_I q)) := by
  unfold fL_law_b383 at hf
  refine w_goto 498 dL_law_383 (by decide) ?_
  exact (pL_law_b498 hd hdr hsc hrE hrN hsE hsL hsN hk23 hf).to ⟨rfl, rfl, rfl, rfl, rfl, trivial⟩
def fL_law_b439 (N : Nat) (L : Nat) (xs : Nat → Int32) (rE : Nat → Int32 → eH → Option ((Unit ⊕ Nat) × eH)) (rN : Nat → eH → Option ((Int32 ⊕ Nat) × eH)) (sE : Nat → Int32 → eH → Option (Unit × eH)) (sL : Nat → Int32 → Int64 → Int64 → eH → Option (Int32 × eH)) (sN : Nat → eH → Option (Int32 × eH)) (k23 : Nat → Nat → Nat → Int32 → eH → Option (Int32 × eH)) (l1 : Nat) (l2 : Nat) (l3 : Nat) (l4 : Int32) (h : eH) : Option (Int32 × eH) :=
  fL_law_b498 N L xs rE rN sE sL sN k23 l1 l2 l3 l4 h
theorem pL_law_b439 {w : eW} {d : Nat} {dr : Nat} (hd : dr + 29 ≤ d + 1) (hdr : 12 ≤ dr) {L : Nat} {xs : Nat → Int32} (hsc : w_oc w 0 = (.int, L, fun j => .int (xs j))) {N : Nat} {rE : Nat → Int32 → eH → Option ((Unit ⊕ Nat) × eH)} {rN : Nat → eH → Option ((Int32 ⊕ Nat) × eH)} {sE : Nat → Int32 → eH → Option (Unit × eH)} {sL : Nat → Int32 → Int64 → Int64 → eH → Option (Int32 × eH)} {sN : Nat → eH → Option (Int32 × eH)} (hrE : ∀ a t0 h q, rE a t0 h = some q → wm w dr YX8_expand [.ref a, .int t0] h (e_is (e_rt c_V q))) (hrN : ∀ a h q, rN a h = some q → wm w dr YX8_number [.ref a] h (e_is (e_rt c_I q))) (hsE : ∀ a t0 h q, sE a t0 h = some q → wm w dr YX35_expand [.ref a, .int t0] h (e_is (e_rn c_V q))) (hsL : ∀ a t0 t1 t2 h q, sL a t0 t1 t2 h = some q → wm w dr YX35_layBox [.ref a, .int t0, .long t1, .long t2] h (e_is (e_rn c_I q))) (hsN : ∀ a h q, sN a h = some q → wm w dr YX35_number [.ref a] h (e_is (e_rn c_I q))) {k23 : Nat → Nat → Nat → Int32 → eH → Option (Int32 × eH)} (hk23 : ∀ l1 l2 l3 l4 h q, k23 l1 l2 l3 l4 h = some q → wp w (d + 1) YL_law 23 [some (.ref 1000000000), some (.ref l1), some (.ref l2), some (.ref l3), some (.int l4), none, none] [] h (e_is (e_rn c_I q))) {l1 : Nat} {l2 : Nat} {l3 : Nat} {l4 : Int32} {h : eH} {q} (hf : fL_law_b439 N L xs rE rN sE sL sN k23 l1 l2 l3 l4 h = some q) : wp w (d + 1) YL_law 439 [some (.ref 1000000000), some (.ref l1), some (.ref l2), some (.ref l3), some (.int l4), none, none] [] h (e_is (e_rn c_I q)) := by
  unfold fL_law_b439 at hf
  refine w_goto 498 dL_law_439 (by decide) ?_
  exact (pL_law_b498 hd hdr hsc hrE hrN hsE hsL hsN hk23 hf).to ⟨rfl, rfl, rfl, rfl, rfl, trivial⟩
def fL_law_b495 (N : Nat) (L : Nat) (xs : Nat → Int32) (rE : Nat → Int32 → eH → Option ((Unit ⊕ Nat) × eH)) (rN : Nat → eH → Option ((Int32 ⊕ Nat) × eH)) (sE : Nat → Int32 → eH → Option (Unit × eH)) (sL : Nat → Int32 → Int64 → Int64 → eH → Option (Int32 × eH)) (sN : Nat → eH → Option (Int32 × eH)) (k23 : Nat → Nat → Nat → Int32 → eH → Option (Int32 × eH)) (l1 : Nat) (l2 : Nat) (l3 : Nat) (l4 : Int32) (h : eH) : Option (Int32 × eH) :=
  fL_law_b498 N L xs rE rN sE sL sN k23 l1 l2 l3 l4 h
theorem pL_law_b495 {w : eW} {d : Nat} {dr : Nat} (hd : dr + 29 ≤ d + 1) (hdr : 12 ≤ dr) {L : Nat} {xs : Nat → Int32} (hsc : w_oc w 0 = (.int, L, fun j => .int (xs j))) {N : Nat} {rE : Nat → Int32 → eH → Option ((Unit ⊕ Nat) × eH)} {rN : Nat → eH → Option ((Int32 ⊕ Nat) × eH)} {sE : Nat → Int32 → eH → Option (Unit × eH)} {sL : Nat → Int32 → Int64 → Int64 → eH → Option (Int32 × eH)} {sN : Nat → eH → Option (Int32 × eH)} (hrE : ∀ a t0 h q, rE a t0 h = some q → wm w dr YX8_expand [.ref a, .int t0] h (e_is (e_rt c_V q))) (hrN : ∀ a h q, rN a h = some q → wm w dr YX8_number [.ref a] h (e_is (e_rt c_I q))) (hsE : ∀ a t0 h q, sE a t0 h = some q → wm w dr YX35_expand [.ref a, .int t0] h (e_is (e_rn c_V q))) (hsL : ∀ a t0 t1 t2 h q, sL a t0 t1 t2 h = some q → wm w dr YX35_layBox [.ref a, .int t0, .long t1, .long t2] h (e_is (e_rn c_I q))) (hsN : ∀ a h q, sN a h = some q → wm w dr YX35_number [.ref a] h (e_is (e_rn c_I q))) {k23 : Nat → Nat → Nat → Int32 → eH → Option (Int32 × eH)} (hk23 : ∀ l1 l2 l3 l4 h q, k23 l1 l2 l3 l4 h = some q → wp w (d + 1) YL_law 23 [some (.ref 1000000000), some (.ref l1), some (.ref l2), some (.ref l3), some (.int l4), none, none] [] h (e_is (e_rn c_I q))) {l1 : Nat} {l2 : Nat} {l3 : Nat} {l4 : Int32} {h : eH} {q} (hf : fL_law_b495 N L xs rE rN sE sL sN k23 l1 l2 l3 l4 h = some q) : wp w (d + 1) YL_law 495 [some (.ref 1000000000), some (.ref l1), some (.ref l2), some (.ref l3), some (.int l4), none, none] [] h (e_is (e_rn c_I q)) := by
  unfold fL_law_b495 at hf
  refine w_goto 498 dL_law_495 (by decide) ?_
  exact (pL_law_b498 hd hdr hsc hrE hrN hsE hsL hsN hk23 hf).to ⟨rfl, rfl, rfl, rfl, rfl, trivial⟩
def fL_law_b23 (N : Nat) (L : Nat) (xs : Nat → Int32) (rE : Nat → Int32 → eH → Option ((Unit ⊕ Nat) × eH)) (rN : Nat → eH → Option ((Int32 ⊕ Nat) × eH)) (sE : Nat → Int32 → eH → Option (Unit × eH)) (sL : Nat → Int32 → Int64 → Int64 → eH → Option (Int32 × eH)) (sN : Nat → eH → Option (Int32 × eH)) : Nat → Nat → Nat → Nat → Int32 → eH → Option (Int32 × eH)
  | 0, _, _, _, _, _ => none
  | n + 1, l1, l2, l3, l4, h =>
    if ((nI L) - (6 : Int32)) < l4 then
      some ((1 : Int32), h)
    else
      (s_get L xs l4).bind fun x2 =>
      if (x2 &&& (7 : Int32)) = (0 : Int32) then
        (s_get L xs (l4 + (1 : Int32))).bind fun x5 =>
        (s_get L xs (l4 + (2 : Int32))).bind fun x7 =>
        (s_get L xs (l4 + (3 : Int32))).bind fun x9 =>
        (s_get L xs (l4 + (4 : Int32))).bind fun x11 =>
        (s_get L xs (l4 + (5 : Int32))).bind fun x13 =>
        (fX0_feed N l1 x5 x7 x9 x11 x13 h).bind fun q15 =>
        (s_get L xs (l4 + (1 : Int32))).bind fun x16 =>
        (s_get L xs (l4 + (2 : Int32))).bind fun x18 =>
        (s_get L xs (l4 + (3 : Int32))).bind fun x20 =>
        (s_get L xs (l4 + (4 : Int32))).bind fun x22 =>
        (s_get L xs (l4 + (5 : Int32))).bind fun x24 =>
        (k_ok 34 q15.2 l2).bind fun _ =>
        (fX35_feed N l2 x16 x18 x20 x22 x24 q15.2).bind fun q27 =>
        (k_ok 34 q27.2 l2).bind fun _ =>
        (fX35_thrown l2 q27.2).bind fun q29 =>
        if q29.1 = q15.1 then
          fL_law_b498 N L xs rE rN sE sL sN (fL_law_b23 N L xs rE rN sE sL sN n) l1 l2 l3 l4 q29.2
        else
          some ((0 : Int32), q29.2)
      else
      if (x2 &&& (7 : Int32)) = (1 : Int32) then
        (s_get L xs (l4 + (1 : Int32))).bind fun x32 =>
        (fX0_fuel l1 x32 h).bind fun q34 =>
        (s_get L xs (l4 + (1 : Int32))).bind fun x35 =>
        (k_ok 34 q34.2 l2).bind fun _ =>
        (fX35_fuel l2 x35 q34.2).bind fun q38 =>
        (k_ok 34 q38.2 l2).bind fun _ =>
        (fX35_thrown l2 q38.2).bind fun q40 =>
        if q40.1 = q34.1 then
          fL_law_b498 N L xs rE rN sE sL sN (fL_law_b23 N L xs rE rN sE sL sN n) l1 l2 l3 l4 q40.2
        else
          some ((0 : Int32), q40.2)
      else
      if (x2 &&& (7 : Int32)) = (2 : Int32) then
        (s_get L xs (l4 + (1 : Int32))).bind fun x43 =>
        (s_get L xs (l4 + (2 : Int32))).bind fun x45 =>
        (fX0_end N rE rN l1 x43 x45 l3 h).bind fun q47 =>
        (s_get L xs (l4 + (1 : Int32))).bind fun x48 =>
        (s_get L xs (l4 + (2 : Int32))).bind fun x50 =>
        (k_ok 34 q47.2 l2).bind fun _ =>
        (fX35_end N sE sL sN l2 x48 x50 q47.2).bind fun q53 =>
        (k_ok 34 q53.2 l2).bind fun _ =>
        (fX35_thrown l2 q53.2).bind fun q55 =>
        if q55.1 = q47.1 then
          if ¬ q47.1 = 0 then
            fL_law_b273 N L xs rE rN sE sL sN (fL_law_b23 N L xs rE rN sE sL sN n) l1 l2 l3 l4 q55.2
          else
            (r_J q55.2 l3 (0 : Int32)).bind fun x58 =>
            if (lg_cmp x58 (q53.1).toInt64) = 0 then
              fL_law_b273 N L xs rE rN sE sL sN (fL_law_b23 N L xs rE rN sE sL sN n) l1 l2 l3 l4 q55.2
            else
              some ((0 : Int32), q55.2)
        else
          some ((0 : Int32), q55.2)
      else
      if (x2 &&& (7 : Int32)) = (3 : Int32) then
        (s_get L xs (l4 + (1 : Int32))).bind fun x62 =>
        if x62 = 0 then
          fL_law_b291 N L xs rE rN sE sL sN (fL_law_b23 N L xs rE rN sE sL sN n) l1 l2 l3 l4 l1 (0 : Int32) h
        else
          fL_law_b291 N L xs rE rN sE sL sN (fL_law_b23 N L xs rE rN sE sL sN n) l1 l2 l3 l4 l1 (1 : Int32) h
      else
      if (x2 &&& (7 : Int32)) = (4 : Int32) then
        (k_ok 0 h l1).bind fun _ =>
        (fX1_size l1 h).bind fun q67 =>
        (k_ok 34 q67.2 l2).bind fun _ =>
        (fX35_size l2 q67.2).bind fun q69 =>
        if q67.1 = q69.1 then
          fL_law_b498 N L xs rE rN sE sL sN (fL_law_b23 N L xs rE rN sE sL sN n) l1 l2 l3 l4 q69.2
        else
          some ((0 : Int32), q69.2)
      else
      if (x2 &&& (7 : Int32)) = (5 : Int32) then
        (s_get L xs (l4 + (1 : Int32))).bind fun x72 =>
        (fX0_out l1 x72 l3 h).bind fun q74 =>
        (s_get L xs (l4 + (1 : Int32))).bind fun x75 =>
        (k_ok 34 q74.2 l2).bind fun _ =>
        (fX35_out l2 x75 q74.2).bind fun q78 =>
        (k_ok 34 q78.2 l2).bind fun _ =>
        (fX35_thrown l2 q78.2).bind fun q80 =>
        if q80.1 = q74.1 then
          if ¬ q74.1 = 0 then
            fL_law_b383 N L xs rE rN sE sL sN (fL_law_b23 N L xs rE rN sE sL sN n) l1 l2 l3 l4 q80.2
          else
            (r_J q80.2 l3 (0 : Int32)).bind fun x83 =>
            if (lg_cmp x83 (q78.1).toInt64) = 0 then
              fL_law_b383 N L xs rE rN sE sL sN (fL_law_b23 N L xs rE rN sE sL sN n) l1 l2 l3 l4 q80.2
            else
              some ((0 : Int32), q80.2)
        else
          some ((0 : Int32), q80.2)
      else
      if (x2 &&& (7 : Int32)) = (6 : Int32) then
        (s_get L xs (l4 + (1 : Int32))).bind fun x87 =>
        (fX0_about l1 x87 l3 h).bind fun q89 =>
        (s_get L xs (l4 + (1 : Int32))).bind fun x90 =>
        (k_ok 34 q89.2 l2).bind fun _ =>
        (fX35_about l2 x90 q89.2).bind fun q93 =>
        (k_ok 34 q93.2 l2).bind fun _ =>
        (fX35_thrown l2 q93.2).bind fun q95 =>
        if q95.1 = q89.1 then
          if ¬ q89.1 = 0 then
            fL_law_b439 N L xs rE rN sE sL sN (fL_law_b23 N L xs rE rN sE sL sN n) l1 l2 l3 l4 q95.2
          else
            (r_J q95.2 l3 (0 : Int32)).bind fun x98 =>
            if (lg_cmp x98 (q93.1).toInt64) = 0 then
              fL_law_b439 N L xs rE rN sE sL sN (fL_law_b23 N L xs rE rN sE sL sN n) l1 l2 l3 l4 q95.2
            else
              some ((0 : Int32), q95.2)
        else
          some ((0 : Int32), q95.2)
      else
      if (x2 &&& (7 : Int32)) = (7 : Int32) then
        (s_get L xs (l4 + (1 : Int32))).bind fun x102 =>
        (fX0_count l1 x102 l3 h).bind fun q104 =>
        (s_get L xs (l4 + (1 : Int32))).bind fun x105 =>
        (k_ok 34 q104.2 l2).bind fun _ =>
        (fX35_count l2 x105 q104.2).bind fun q108 =>
        (k_ok 34 q108.2 l2).bind fun _ =>
        (fX35_thrown l2 q108.2).bind fun q110 =>
        if q110.1 = q104.1 then
          if ¬ q104.1 = 0 then
            fL_law_b495 N L xs rE rN sE sL sN (fL_law_b23 N L xs rE rN sE sL sN n) l1 l2 l3 l4 q110.2
          else
            (r_J q110.2 l3 (0 : Int32)).bind fun x113 =>
            if (lg_cmp x113 (q108.1).toInt64) = 0 then
              fL_law_b495 N L xs rE rN sE sL sN (fL_law_b23 N L xs rE rN sE sL sN n) l1 l2 l3 l4 q110.2
            else
              some ((0 : Int32), q110.2)
        else
          some ((0 : Int32), q110.2)
      else
      fL_law_b498 N L xs rE rN sE sL sN (fL_law_b23 N L xs rE rN sE sL sN n) l1 l2 l3 l4 h
theorem pL_law_b23 {w : eW} {d : Nat} {dr : Nat} (hd : dr + 29 ≤ d + 1) (hdr : 12 ≤ dr) {L : Nat} {xs : Nat → Int32} (hsc : w_oc w 0 = (.int, L, fun j => .int (xs j))) {N : Nat} {rE : Nat → Int32 → eH → Option ((Unit ⊕ Nat) × eH)} {rN : Nat → eH → Option ((Int32 ⊕ Nat) × eH)} {sE : Nat → Int32 → eH → Option (Unit × eH)} {sL : Nat → Int32 → Int64 → Int64 → eH → Option (Int32 × eH)} {sN : Nat → eH → Option (Int32 × eH)} (hrE : ∀ a t0 h q, rE a t0 h = some q → wm w dr YX8_expand [.ref a, .int t0] h (e_is (e_rt c_V q))) (hrN : ∀ a h q, rN a h = some q → wm w dr YX8_number [.ref a] h (e_is (e_rt c_I q))) (hsE : ∀ a t0 h q, sE a t0 h = some q → wm w dr YX35_expand [.ref a, .int t0] h (e_is (e_rn c_V q))) (hsL : ∀ a t0 t1 t2 h q, sL a t0 t1 t2 h = some q → wm w dr YX35_layBox [.ref a, .int t0, .long t1, .long t2] h (e_is (e_rn c_I q))) (hsN : ∀ a h q, sN a h = some q → wm w dr YX35_number [.ref a] h (e_is (e_rn c_I q))) : ∀ (n : Nat) l1 l2 l3 l4 h q, fL_law_b23 N L xs rE rN sE sL sN n l1 l2 l3 l4 h = some q → wp w (d + 1) YL_law 23 [some (.ref 1000000000), some (.ref l1), some (.ref l2), some (.ref l3), some (.int l4), none, none] [] h (e_is (e_rn c_I q)) := by
  intro n
  induction n with
  | zero => intro l1 l2 l3 l4 h q hf; simp [fL_law_b23] at hf
  | succ n ih =>
    intro l1 l2 l3 l4 h q hf
    rw [fL_law_b23] at hf
    refine w_iload dL_law_23 rfl ?_
    refine w_aload_n dL_law_25 rfl rfl ?_
    refine x_sL hsc dL_law_26 ?_
    refine w_bipush dL_law_27 (v := 6) (by decide) ?_
    refine w_isub dL_law_29 ?_
    refine w_icmp_gt 504 dL_law_30 (by decide) (fun c1 => ?_) (fun c1 => ?_)
    · replace hf := (if_pos (show ((nI L) - (6 : Int32)) < l4 from c1)).symm.trans hf
      refine w_iconst dL_law_504 (v := 1) (by decide) ?_
      cases hf
      exact w_iret dL_law_505 rfl rfl rfl
    · replace hf := (if_neg (show ¬ (((nI L) - (6 : Int32)) < l4) from c1)).symm.trans hf
      refine w_aload_n dL_law_33 rfl rfl ?_
      refine w_iload dL_law_34 rfl ?_
      obtain ⟨x2, b3, hf⟩ := Option.bind_eq_some_iff.mp hf
      refine x_sI hsc b3 dL_law_36 ?_
      refine w_bipush dL_law_37 (v := 7) (by decide) ?_
      refine w_iand dL_law_39 ?_
      by_cases c4 : (x2 &&& (7 : Int32)) = (0 : Int32)
      · replace hf := (if_pos c4).symm.trans hf
        refine w_tableIn 88 dL_law_40 (by rw [c4]; decide) (by rw [c4]; decide) (by rw [c4]; rfl) (by decide) ?_
        refine w_aload_n dL_law_88 rfl rfl ?_
        refine w_aload_n dL_law_89 rfl rfl ?_
        refine w_iload dL_law_90 rfl ?_
        refine w_iconst dL_law_92 (v := 1) (by decide) ?_
        refine w_iadd dL_law_93 ?_
        obtain ⟨x5, b6, hf⟩ := Option.bind_eq_some_iff.mp hf
        refine x_sI hsc b6 dL_law_94 ?_
        refine w_aload_n dL_law_95 rfl rfl ?_
        refine w_iload dL_law_96 rfl ?_
        refine w_iconst dL_law_98 (v := 2) (by decide) ?_
        refine w_iadd dL_law_99 ?_
        obtain ⟨x7, b8, hf⟩ := Option.bind_eq_some_iff.mp hf
        refine x_sI hsc b8 dL_law_100 ?_
        refine w_aload_n dL_law_101 rfl rfl ?_
        refine w_iload dL_law_102 rfl ?_
        refine w_iconst dL_law_104 (v := 3) (by decide) ?_
        refine w_iadd dL_law_105 ?_
        obtain ⟨x9, b10, hf⟩ := Option.bind_eq_some_iff.mp hf
        refine x_sI hsc b10 dL_law_106 ?_
        refine w_aload_n dL_law_107 rfl rfl ?_
        refine w_iload dL_law_108 rfl ?_
        refine w_iconst dL_law_110 (v := 4) (by decide) ?_
        refine w_iadd dL_law_111 ?_
        obtain ⟨x11, b12, hf⟩ := Option.bind_eq_some_iff.mp hf
        refine x_sI hsc b12 dL_law_112 ?_
        refine w_aload_n dL_law_113 rfl rfl ?_
        refine w_iload dL_law_114 rfl ?_
        refine w_iconst dL_law_116 (v := 5) (by decide) ?_
        refine w_iadd dL_law_117 ?_
        obtain ⟨x13, b14, hf⟩ := Option.bind_eq_some_iff.mp hf
        refine x_sI hsc b14 dL_law_118 ?_
        refine x_cnI hf (e_stS (Yc := YX0_feed) (av := [.ref l1, .int x5, .int x7, .int x9, .int x11, .int x13]) (st := []) dL_law_119 q2087 mX0_feed) mX0_feed.2.2.1 mX0_feed.2.2.2.2.1 (Nat.le_of_ble_eq_true rfl) (Nat.le_of_ble_eq_true rfl) (fun q hq => pX0_feed (by omega) hq) (fun q15 hf => ?_)
        refine w_istore dL_law_122 (by decide) (ls' := [some (.ref 1000000000), some (.ref l1), some (.ref l2), some (.ref l3), some (.int l4), some (.int q15.1), none]) rfl ?_
        refine w_aload_n dL_law_124 rfl rfl ?_
        refine w_aload_n dL_law_125 rfl rfl ?_
        refine w_iload dL_law_126 rfl ?_
        refine w_iconst dL_law_128 (v := 1) (by decide) ?_
        refine w_iadd dL_law_129 ?_
        obtain ⟨x16, b17, hf⟩ := Option.bind_eq_some_iff.mp hf
        refine x_sI hsc b17 dL_law_130 ?_
        refine w_aload_n dL_law_131 rfl rfl ?_
        refine w_iload dL_law_132 rfl ?_
        refine w_iconst dL_law_134 (v := 2) (by decide) ?_
        refine w_iadd dL_law_135 ?_
        obtain ⟨x18, b19, hf⟩ := Option.bind_eq_some_iff.mp hf
        refine x_sI hsc b19 dL_law_136 ?_
        refine w_aload_n dL_law_137 rfl rfl ?_
        refine w_iload dL_law_138 rfl ?_
        refine w_iconst dL_law_140 (v := 3) (by decide) ?_
        refine w_iadd dL_law_141 ?_
        obtain ⟨x20, b21, hf⟩ := Option.bind_eq_some_iff.mp hf
        refine x_sI hsc b21 dL_law_142 ?_
        refine w_aload_n dL_law_143 rfl rfl ?_
        refine w_iload dL_law_144 rfl ?_
        refine w_iconst dL_law_146 (v := 4) (by decide) ?_
        refine w_iadd dL_law_147 ?_
        obtain ⟨x22, b23, hf⟩ := Option.bind_eq_some_iff.mp hf
        refine x_sI hsc b23 dL_law_148 ?_
        refine w_aload_n dL_law_149 rfl rfl ?_
        refine w_iload dL_law_150 rfl ?_
        refine w_iconst dL_law_152 (v := 5) (by decide) ?_
        refine w_iadd dL_law_153 ?_
        obtain ⟨x24, b25, hf⟩ := Option.bind_eq_some_iff.mp hf
        refine x_sI hsc b25 dL_law_154 ?_
        obtain ⟨_, b26, hf⟩ := Option.bind_eq_some_iff.mp hf
        refine x_cnV hf (e_stV (Yc := YX35_feed) (ci := 34) (av := [.int x16, .int x18, .int x20, .int x22, .int x24]) (st := []) dL_law_155 q4893 mX35_feed rfl (k_ok_some b26).1 (k_ok_some b26).2) mX35_feed.2.2.1 mX35_feed.2.2.2.2.1 (Nat.le_of_ble_eq_true rfl) (Nat.le_of_ble_eq_true rfl) (fun q hq => pX35_feed (by omega) hq) (fun q27 hf => ?_)
        refine w_aload_n dL_law_158 rfl rfl ?_
        obtain ⟨_, b28, hf⟩ := Option.bind_eq_some_iff.mp hf
        refine x_cnI hf (e_stV (Yc := YX35_thrown) (ci := 34) (av := []) (st := []) dL_law_159 q4889 mX35_thrown rfl (k_ok_some b28).1 (k_ok_some b28).2) mX35_thrown.2.2.1 mX35_thrown.2.2.2.2.1 (Nat.le_of_ble_eq_true rfl) (Nat.le_of_ble_eq_true rfl) (fun q hq => pX35_thrown (by omega) hq) (fun q29 hf => ?_)
        refine w_iload dL_law_162 rfl ?_
        refine w_icmp_eq 169 dL_law_164 (by decide) (fun c30 => ?_) (fun c30 => ?_)
        · replace hf := (if_pos (show q29.1 = q15.1 from c30)).symm.trans hf
          refine w_goto 498 dL_law_169 (by decide) ?_
          exact (pL_law_b498 hd hdr hsc hrE hrN hsE hsL hsN ih hf).to ⟨rfl, rfl, rfl, rfl, rfl, trivial⟩
        · replace hf := (if_neg (show ¬ (q29.1 = q15.1) from c30)).symm.trans hf
          refine w_iconst dL_law_167 (v := 0) (by decide) ?_
          cases hf
          exact w_iret dL_law_168 rfl rfl rfl
      replace hf := (if_neg c4).symm.trans hf
      by_cases c31 : (x2 &&& (7 : Int32)) = (1 : Int32)
      · replace hf := (if_pos c31).symm.trans hf
        refine w_tableIn 172 dL_law_40 (by rw [c31]; decide) (by rw [c31]; decide) (by rw [c31]; rfl) (by decide) ?_
        refine w_aload_n dL_law_172 rfl rfl ?_
        refine w_aload_n dL_law_173 rfl rfl ?_
        refine w_iload dL_law_174 rfl ?_
        refine w_iconst dL_law_176 (v := 1) (by decide) ?_
        refine w_iadd dL_law_177 ?_
        obtain ⟨x32, b33, hf⟩ := Option.bind_eq_some_iff.mp hf
        refine x_sI hsc b33 dL_law_178 ?_
        refine x_cnI hf (e_stS (Yc := YX0_fuel) (av := [.ref l1, .int x32]) (st := []) dL_law_179 q2164 mX0_fuel) mX0_fuel.2.2.1 mX0_fuel.2.2.2.2.1 (Nat.le_of_ble_eq_true rfl) (Nat.le_of_ble_eq_true rfl) (fun q hq => pX0_fuel (by omega) hq) (fun q34 hf => ?_)
        refine w_istore dL_law_182 (by decide) (ls' := [some (.ref 1000000000), some (.ref l1), some (.ref l2), some (.ref l3), some (.int l4), some (.int q34.1), none]) rfl ?_
        refine w_aload_n dL_law_184 rfl rfl ?_
        refine w_aload_n dL_law_185 rfl rfl ?_
        refine w_iload dL_law_186 rfl ?_
        refine w_iconst dL_law_188 (v := 1) (by decide) ?_
        refine w_iadd dL_law_189 ?_
        obtain ⟨x35, b36, hf⟩ := Option.bind_eq_some_iff.mp hf
        refine x_sI hsc b36 dL_law_190 ?_
        obtain ⟨_, b37, hf⟩ := Option.bind_eq_some_iff.mp hf
        refine x_cnV hf (e_stV (Yc := YX35_fuel) (ci := 34) (av := [.int x35]) (st := []) dL_law_191 q4901 mX35_fuel rfl (k_ok_some b37).1 (k_ok_some b37).2) mX35_fuel.2.2.1 mX35_fuel.2.2.2.2.1 (Nat.le_of_ble_eq_true rfl) (Nat.le_of_ble_eq_true rfl) (fun q hq => pX35_fuel (by omega) hq) (fun q38 hf => ?_)
        refine w_aload_n dL_law_194 rfl rfl ?_
        obtain ⟨_, b39, hf⟩ := Option.bind_eq_some_iff.mp hf
        refine x_cnI hf (e_stV (Yc := YX35_thrown) (ci := 34) (av := []) (st := []) dL_law_195 q4889 mX35_thrown rfl (k_ok_some b39).1 (k_ok_some b39).2) mX35_thrown.2.2.1 mX35_thrown.2.2.2.2.1 (Nat.le_of_ble_eq_true rfl) (Nat.le_of_ble_eq_true rfl) (fun q hq => pX35_thrown (by omega) hq) (fun q40 hf => ?_)
        refine w_iload dL_law_198 rfl ?_
        refine w_icmp_eq 205 dL_law_200 (by decide) (fun c41 => ?_) (fun c41 => ?_)
        · replace hf := (if_pos (show q40.1 = q34.1 from c41)).symm.trans hf
          refine w_goto 498 dL_law_205 (by decide) ?_
          exact (pL_law_b498 hd hdr hsc hrE hrN hsE hsL hsN ih hf).to ⟨rfl, rfl, rfl, rfl, rfl, trivial⟩
        · replace hf := (if_neg (show ¬ (q40.1 = q34.1) from c41)).symm.trans hf
          refine w_iconst dL_law_203 (v := 0) (by decide) ?_
          cases hf
          exact w_iret dL_law_204 rfl rfl rfl
      replace hf := (if_neg c31).symm.trans hf
      by_cases c42 : (x2 &&& (7 : Int32)) = (2 : Int32)
      · replace hf := (if_pos c42).symm.trans hf
        refine w_tableIn 208 dL_law_40 (by rw [c42]; decide) (by rw [c42]; decide) (by rw [c42]; rfl) (by decide) ?_
        refine w_aload_n dL_law_208 rfl rfl ?_
        refine w_aload_n dL_law_209 rfl rfl ?_
        refine w_iload dL_law_210 rfl ?_
        refine w_iconst dL_law_212 (v := 1) (by decide) ?_
        refine w_iadd dL_law_213 ?_
        obtain ⟨x43, b44, hf⟩ := Option.bind_eq_some_iff.mp hf
        refine x_sI hsc b44 dL_law_214 ?_
        refine w_aload_n dL_law_215 rfl rfl ?_
        refine w_iload dL_law_216 rfl ?_
        refine w_iconst dL_law_218 (v := 2) (by decide) ?_
        refine w_iadd dL_law_219 ?_
        obtain ⟨x45, b46, hf⟩ := Option.bind_eq_some_iff.mp hf
        refine x_sI hsc b46 dL_law_220 ?_
        refine w_aload_n dL_law_221 rfl rfl ?_
        refine x_cnI hf (e_stS (Yc := YX0_end) (av := [.ref l1, .int x43, .int x45, .ref l3]) (st := []) dL_law_222 q2188 mX0_end) mX0_end.2.2.1 mX0_end.2.2.2.2.1 (Nat.le_of_ble_eq_true rfl) (Nat.le_of_ble_eq_true rfl) (fun q hq => pX0_end (by omega) hdr hrE hrN hq) (fun q47 hf => ?_)
        refine w_istore dL_law_225 (by decide) (ls' := [some (.ref 1000000000), some (.ref l1), some (.ref l2), some (.ref l3), some (.int l4), some (.int q47.1), none]) rfl ?_
        refine w_aload_n dL_law_227 rfl rfl ?_
        refine w_aload_n dL_law_228 rfl rfl ?_
        refine w_iload dL_law_229 rfl ?_
        refine w_iconst dL_law_231 (v := 1) (by decide) ?_
        refine w_iadd dL_law_232 ?_
        obtain ⟨x48, b49, hf⟩ := Option.bind_eq_some_iff.mp hf
        refine x_sI hsc b49 dL_law_233 ?_
        refine w_aload_n dL_law_234 rfl rfl ?_
        refine w_iload dL_law_235 rfl ?_
        refine w_iconst dL_law_237 (v := 2) (by decide) ?_
        refine w_iadd dL_law_238 ?_
        obtain ⟨x50, b51, hf⟩ := Option.bind_eq_some_iff.mp hf
        refine x_sI hsc b51 dL_law_239 ?_
        obtain ⟨_, b52, hf⟩ := Option.bind_eq_some_iff.mp hf
        refine x_cnI hf (e_stV (Yc := YX35_end) (ci := 34) (av := [.int x48, .int x50]) (st := []) dL_law_240 q4906 mX35_end rfl (k_ok_some b52).1 (k_ok_some b52).2) mX35_end.2.2.1 mX35_end.2.2.2.2.1 (Nat.le_of_ble_eq_true rfl) (Nat.le_of_ble_eq_true rfl) (fun q hq => pX35_end (by omega) hdr hsE hsL hsN hq) (fun q53 hf => ?_)
        refine w_istore dL_law_243 (by decide) (ls' := [some (.ref 1000000000), some (.ref l1), some (.ref l2), some (.ref l3), some (.int l4), some (.int q47.1), some (.int q53.1)]) rfl ?_
        refine w_aload_n dL_law_245 rfl rfl ?_
        obtain ⟨_, b54, hf⟩ := Option.bind_eq_some_iff.mp hf
        refine x_cnI hf (e_stV (Yc := YX35_thrown) (ci := 34) (av := []) (st := []) dL_law_246 q4889 mX35_thrown rfl (k_ok_some b54).1 (k_ok_some b54).2) mX35_thrown.2.2.1 mX35_thrown.2.2.2.2.1 (Nat.le_of_ble_eq_true rfl) (Nat.le_of_ble_eq_true rfl) (fun q hq => pX35_thrown (by omega) hq) (fun q55 hf => ?_)
        refine w_iload dL_law_249 rfl ?_
        refine w_icmp_eq 256 dL_law_251 (by decide) (fun c56 => ?_) (fun c56 => ?_)
        · replace hf := (if_pos (show q55.1 = q47.1 from c56)).symm.trans hf
          refine w_iload dL_law_256 rfl ?_
          refine w_if_ne 273 dL_law_258 (by decide) (fun c57 => ?_) (fun c57 => ?_)
          · replace hf := (if_pos (show ¬ q47.1 = 0 from c57)).symm.trans hf
            exact (pL_law_b273 hd hdr hsc hrE hrN hsE hsL hsN ih hf).to ⟨rfl, rfl, rfl, rfl, rfl, trivial⟩
          · replace hf := (if_neg (show ¬ (¬ q47.1 = 0) from (fun z => z c57))).symm.trans hf
            refine w_aload_n dL_law_261 rfl rfl ?_
            refine w_iconst dL_law_262 (v := 0) (by decide) ?_
            obtain ⟨x58, b59, hf⟩ := Option.bind_eq_some_iff.mp hf
            refine x_rJ b59 dL_law_263 ?_
            refine w_iload dL_law_264 rfl ?_
            refine w_i2l dL_law_266 ?_
            refine w_lcmp dL_law_267 ?_
            refine w_if_eq 273 dL_law_268 (by decide) (fun c60 => ?_) (fun c60 => ?_)
            · replace hf := (if_pos (show (lg_cmp x58 (q53.1).toInt64) = 0 from c60)).symm.trans hf
              exact (pL_law_b273 hd hdr hsc hrE hrN hsE hsL hsN ih hf).to ⟨rfl, rfl, rfl, rfl, rfl, trivial⟩
            · replace hf := (if_neg (show ¬ ((lg_cmp x58 (q53.1).toInt64) = 0) from c60)).symm.trans hf
              refine w_iconst dL_law_271 (v := 0) (by decide) ?_
              cases hf
              exact w_iret dL_law_272 rfl rfl rfl
        · replace hf := (if_neg (show ¬ (q55.1 = q47.1) from c56)).symm.trans hf
          refine w_iconst dL_law_254 (v := 0) (by decide) ?_
          cases hf
          exact w_iret dL_law_255 rfl rfl rfl
      replace hf := (if_neg c42).symm.trans hf
      by_cases c61 : (x2 &&& (7 : Int32)) = (3 : Int32)
      · replace hf := (if_pos c61).symm.trans hf
        refine w_tableIn 276 dL_law_40 (by rw [c61]; decide) (by rw [c61]; decide) (by rw [c61]; rfl) (by decide) ?_
        refine w_aload_n dL_law_276 rfl rfl ?_
        refine w_aload_n dL_law_277 rfl rfl ?_
        refine w_iload dL_law_278 rfl ?_
        refine w_iconst dL_law_280 (v := 1) (by decide) ?_
        refine w_iadd dL_law_281 ?_
        obtain ⟨x62, b63, hf⟩ := Option.bind_eq_some_iff.mp hf
        refine x_sI hsc b63 dL_law_282 ?_
        refine w_if_eq 290 dL_law_283 (by decide) (fun c64 => ?_) (fun c64 => ?_)
        · replace hf := (if_pos (show x62 = 0 from c64)).symm.trans hf
          refine w_iconst dL_law_290 (v := 0) (by decide) ?_
          exact (pL_law_b291 hd hdr hsc hrE hrN hsE hsL hsN ih hf).to ⟨rfl, rfl, rfl, rfl, rfl, trivial⟩
        · replace hf := (if_neg (show ¬ (x62 = 0) from c64)).symm.trans hf
          refine w_iconst dL_law_286 (v := 1) (by decide) ?_
          refine w_goto 291 dL_law_287 (by decide) ?_
          exact (pL_law_b291 hd hdr hsc hrE hrN hsE hsL hsN ih hf).to ⟨rfl, rfl, rfl, rfl, rfl, trivial⟩
      replace hf := (if_neg c61).symm.trans hf
      by_cases c65 : (x2 &&& (7 : Int32)) = (4 : Int32)
      · replace hf := (if_pos c65).symm.trans hf
        refine w_tableIn 317 dL_law_40 (by rw [c65]; decide) (by rw [c65]; decide) (by rw [c65]; rfl) (by decide) ?_
        refine w_aload_n dL_law_317 rfl rfl ?_
        obtain ⟨_, b66, hf⟩ := Option.bind_eq_some_iff.mp hf
        refine x_cnI hf (e_stV (Yc := YX1_size) (ci := 0) (av := []) (st := []) dL_law_318 q2083 mX1_size rfl (k_ok_some b66).1 (k_ok_some b66).2) mX1_size.2.2.1 mX1_size.2.2.2.2.1 (Nat.le_of_ble_eq_true rfl) (Nat.le_of_ble_eq_true rfl) (fun q hq => pX1_size (by omega) hq) (fun q67 hf => ?_)
        refine w_aload_n dL_law_321 rfl rfl ?_
        obtain ⟨_, b68, hf⟩ := Option.bind_eq_some_iff.mp hf
        refine x_cnI hf (e_stV (Yc := YX35_size) (ci := 34) (av := []) (st := [.int q67.1]) dL_law_322 q6060 mX35_size rfl (k_ok_some b68).1 (k_ok_some b68).2) mX35_size.2.2.1 mX35_size.2.2.2.2.1 (Nat.le_of_ble_eq_true rfl) (Nat.le_of_ble_eq_true rfl) (fun q hq => pX35_size (by omega) hq) (fun q69 hf => ?_)
        refine w_icmp_eq 498 dL_law_325 (by decide) (fun c70 => ?_) (fun c70 => ?_)
        · replace hf := (if_pos (show q67.1 = q69.1 from c70)).symm.trans hf
          exact (pL_law_b498 hd hdr hsc hrE hrN hsE hsL hsN ih hf).to ⟨rfl, rfl, rfl, rfl, rfl, trivial⟩
        · replace hf := (if_neg (show ¬ (q67.1 = q69.1) from c70)).symm.trans hf
          refine w_iconst dL_law_328 (v := 0) (by decide) ?_
          cases hf
          exact w_iret dL_law_329 rfl rfl rfl
      replace hf := (if_neg c65).symm.trans hf
      by_cases c71 : (x2 &&& (7 : Int32)) = (5 : Int32)
      · replace hf := (if_pos c71).symm.trans hf
        refine w_tableIn 330 dL_law_40 (by rw [c71]; decide) (by rw [c71]; decide) (by rw [c71]; rfl) (by decide) ?_
        refine w_aload_n dL_law_330 rfl rfl ?_
        refine w_aload_n dL_law_331 rfl rfl ?_
        refine w_iload dL_law_332 rfl ?_
        refine w_iconst dL_law_334 (v := 1) (by decide) ?_
        refine w_iadd dL_law_335 ?_
        obtain ⟨x72, b73, hf⟩ := Option.bind_eq_some_iff.mp hf
        refine x_sI hsc b73 dL_law_336 ?_
        refine w_aload_n dL_law_337 rfl rfl ?_
        refine x_cnI hf (e_stS (Yc := YX0_out) (av := [.ref l1, .int x72, .ref l3]) (st := []) dL_law_338 q4072 mX0_out) mX0_out.2.2.1 mX0_out.2.2.2.2.1 (Nat.le_of_ble_eq_true rfl) (Nat.le_of_ble_eq_true rfl) (fun q hq => pX0_out (by omega) hq) (fun q74 hf => ?_)
        refine w_istore dL_law_341 (by decide) (ls' := [some (.ref 1000000000), some (.ref l1), some (.ref l2), some (.ref l3), some (.int l4), some (.int q74.1), none]) rfl ?_
        refine w_aload_n dL_law_343 rfl rfl ?_
        refine w_aload_n dL_law_344 rfl rfl ?_
        refine w_iload dL_law_345 rfl ?_
        refine w_iconst dL_law_347 (v := 1) (by decide) ?_
        refine w_iadd dL_law_348 ?_
        obtain ⟨x75, b76, hf⟩ := Option.bind_eq_some_iff.mp hf
        refine x_sI hsc b76 dL_law_349 ?_
        obtain ⟨_, b77, hf⟩ := Option.bind_eq_some_iff.mp hf
        refine x_cnI hf (e_stV (Yc := YX35_out) (ci := 34) (av := [.int x75]) (st := []) dL_law_350 q6064 mX35_out rfl (k_ok_some b77).1 (k_ok_some b77).2) mX35_out.2.2.1 mX35_out.2.2.2.2.1 (Nat.le_of_ble_eq_true rfl) (Nat.le_of_ble_eq_true rfl) (fun q hq => pX35_out (by omega) hq) (fun q78 hf => ?_)
        refine w_istore dL_law_353 (by decide) (ls' := [some (.ref 1000000000), some (.ref l1), some (.ref l2), some (.ref l3), some (.int l4), some (.int q74.1), some (.int q78.1)]) rfl ?_
        refine w_aload_n dL_law_355 rfl rfl ?_
        obtain ⟨_, b79, hf⟩ := Option.bind_eq_some_iff.mp hf
        refine x_cnI hf (e_stV (Yc := YX35_thrown) (ci := 34) (av := []) (st := []) dL_law_356 q4889 mX35_thrown rfl (k_ok_some b79).1 (k_ok_some b79).2) mX35_thrown.2.2.1 mX35_thrown.2.2.2.2.1 (Nat.le_of_ble_eq_true rfl) (Nat.le_of_ble_eq_true rfl) (fun q hq => pX35_thrown (by omega) hq) (fun q80 hf => ?_)
        refine w_iload dL_law_359 rfl ?_
        refine w_icmp_eq 366 dL_law_361 (by decide) (fun c81 => ?_) (fun c81 => ?_)
        · replace hf := (if_pos (show q80.1 = q74.1 from c81)).symm.trans hf
          refine w_iload dL_law_366 rfl ?_
          refine w_if_ne 383 dL_law_368 (by decide) (fun c82 => ?_) (fun c82 => ?_)
          · replace hf := (if_pos (show ¬ q74.1 = 0 from c82)).symm.trans hf
            exact (pL_law_b383 hd hdr hsc hrE hrN hsE hsL hsN ih hf).to ⟨rfl, rfl, rfl, rfl, rfl, trivial⟩
          · replace hf := (if_neg (show ¬ (¬ q74.1 = 0) from (fun z => z c82))).symm.trans hf
            refine w_aload_n dL_law_371 rfl rfl ?_
            refine w_iconst dL_law_372 (v := 0) (by decide) ?_
            obtain ⟨x83, b84, hf⟩ := Option.bind_eq_some_iff.mp hf
            refine x_rJ b84 dL_law_373 ?_
            refine w_iload dL_law_374 rfl ?_
            refine w_i2l dL_law_376 ?_
            refine w_lcmp dL_law_377 ?_
            refine w_if_eq 383 dL_law_378 (by decide) (fun c85 => ?_) (fun c85 => ?_)
            · replace hf := (if_pos (show (lg_cmp x83 (q78.1).toInt64) = 0 from c85)).symm.trans hf
              exact (pL_law_b383 hd hdr hsc hrE hrN hsE hsL hsN ih hf).to ⟨rfl, rfl, rfl, rfl, rfl, trivial⟩
            · replace hf := (if_neg (show ¬ ((lg_cmp x83 (q78.1).toInt64) = 0) from c85)).symm.trans hf
              refine w_iconst dL_law_381 (v := 0) (by decide) ?_
              cases hf
              exact w_iret dL_law_382 rfl rfl rfl
        · replace hf := (if_neg (show ¬ (q80.1 = q74.1) from c81)).symm.trans hf
          refine w_iconst dL_law_364 (v := 0) (by decide) ?_
          cases hf
          exact w_iret dL_law_365 rfl rfl rfl
      replace hf := (if_neg c71).symm.trans hf
      by_cases c86 : (x2 &&& (7 : Int32)) = (6 : Int32)
      · replace hf := (if_pos c86).symm.trans hf
        refine w_tableIn 386 dL_law_40 (by rw [c86]; decide) (by rw [c86]; decide) (by rw [c86]; rfl) (by decide) ?_
        refine w_aload_n dL_law_386 rfl rfl ?_
        refine w_aload_n dL_law_387 rfl rfl ?_
        refine w_iload dL_law_388 rfl ?_
        refine w_iconst dL_law_390 (v := 1) (by decide) ?_
        refine w_iadd dL_law_391 ?_
        obtain ⟨x87, b88, hf⟩ := Option.bind_eq_some_iff.mp hf
        refine x_sI hsc b88 dL_law_392 ?_
        refine w_aload_n dL_law_393 rfl rfl ?_
        refine x_cnI hf (e_stS (Yc := YX0_about) (av := [.ref l1, .int x87, .ref l3]) (st := []) dL_law_394 q4099 mX0_about) mX0_about.2.2.1 mX0_about.2.2.2.2.1 (Nat.le_of_ble_eq_true rfl) (Nat.le_of_ble_eq_true rfl) (fun q hq => pX0_about (by omega) hq) (fun q89 hf => ?_)
        refine w_istore dL_law_397 (by decide) (ls' := [some (.ref 1000000000), some (.ref l1), some (.ref l2), some (.ref l3), some (.int l4), some (.int q89.1), none]) rfl ?_
        refine w_aload_n dL_law_399 rfl rfl ?_
        refine w_aload_n dL_law_400 rfl rfl ?_
        refine w_iload dL_law_401 rfl ?_
        refine w_iconst dL_law_403 (v := 1) (by decide) ?_
        refine w_iadd dL_law_404 ?_
        obtain ⟨x90, b91, hf⟩ := Option.bind_eq_some_iff.mp hf
        refine x_sI hsc b91 dL_law_405 ?_
        obtain ⟨_, b92, hf⟩ := Option.bind_eq_some_iff.mp hf
        refine x_cnI hf (e_stV (Yc := YX35_about) (ci := 34) (av := [.int x90]) (st := []) dL_law_406 q6068 mX35_about rfl (k_ok_some b92).1 (k_ok_some b92).2) mX35_about.2.2.1 mX35_about.2.2.2.2.1 (Nat.le_of_ble_eq_true rfl) (Nat.le_of_ble_eq_true rfl) (fun q hq => pX35_about (by omega) hq) (fun q93 hf => ?_)
        refine w_istore dL_law_409 (by decide) (ls' := [some (.ref 1000000000), some (.ref l1), some (.ref l2), some (.ref l3), some (.int l4), some (.int q89.1), some (.int q93.1)]) rfl ?_
        refine w_aload_n dL_law_411 rfl rfl ?_
        obtain ⟨_, b94, hf⟩ := Option.bind_eq_some_iff.mp hf
        refine x_cnI hf (e_stV (Yc := YX35_thrown) (ci := 34) (av := []) (st := []) dL_law_412 q4889 mX35_thrown rfl (k_ok_some b94).1 (k_ok_some b94).2) mX35_thrown.2.2.1 mX35_thrown.2.2.2.2.1 (Nat.le_of_ble_eq_true rfl) (Nat.le_of_ble_eq_true rfl) (fun q hq => pX35_thrown (by omega) hq) (fun q95 hf => ?_)
        refine w_iload dL_law_415 rfl ?_
        refine w_icmp_eq 422 dL_law_417 (by decide) (fun c96 => ?_) (fun c96 => ?_)
        · replace hf := (if_pos (show q95.1 = q89.1 from c96)).symm.trans hf
          refine w_iload dL_law_422 rfl ?_
          refine w_if_ne 439 dL_law_424 (by decide) (fun c97 => ?_) (fun c97 => ?_)
          · replace hf := (if_pos (show ¬ q89.1 = 0 from c97)).symm.trans hf
            exact (pL_law_b439 hd hdr hsc hrE hrN hsE hsL hsN ih hf).to ⟨rfl, rfl, rfl, rfl, rfl, trivial⟩
          · replace hf := (if_neg (show ¬ (¬ q89.1 = 0) from (fun z => z c97))).symm.trans hf
            refine w_aload_n dL_law_427 rfl rfl ?_
            refine w_iconst dL_law_428 (v := 0) (by decide) ?_
            obtain ⟨x98, b99, hf⟩ := Option.bind_eq_some_iff.mp hf
            refine x_rJ b99 dL_law_429 ?_
            refine w_iload dL_law_430 rfl ?_
            refine w_i2l dL_law_432 ?_
            refine w_lcmp dL_law_433 ?_
            refine w_if_eq 439 dL_law_434 (by decide) (fun c100 => ?_) (fun c100 => ?_)
            · replace hf := (if_pos (show (lg_cmp x98 (q93.1).toInt64) = 0 from c100)).symm.trans hf
              exact (pL_law_b439 hd hdr hsc hrE hrN hsE hsL hsN ih hf).to ⟨rfl, rfl, rfl, rfl, rfl, trivial⟩
            · replace hf := (if_neg (show ¬ ((lg_cmp x98 (q93.1).toInt64) = 0) from c100)).symm.trans hf
              refine w_iconst dL_law_437 (v := 0) (by decide) ?_
              cases hf
              exact w_iret dL_law_438 rfl rfl rfl
        · replace hf := (if_neg (show ¬ (q95.1 = q89.1) from c96)).symm.trans hf
          refine w_iconst dL_law_420 (v := 0) (by decide) ?_
          cases hf
          exact w_iret dL_law_421 rfl rfl rfl
      replace hf := (if_neg c86).symm.trans hf
      by_cases c101 : (x2 &&& (7 : Int32)) = (7 : Int32)
      · replace hf := (if_pos c101).symm.trans hf
        refine w_tableIn 442 dL_law_40 (by rw [c101]; decide) (by rw [c101]; decide) (by rw [c101]; rfl) (by decide) ?_
        refine w_aload_n dL_law_442 rfl rfl ?_
        refine w_aload_n dL_law_443 rfl rfl ?_
        refine w_iload dL_law_444 rfl ?_
        refine w_iconst dL_law_446 (v := 1) (by decide) ?_
        refine w_iadd dL_law_447 ?_
        obtain ⟨x102, b103, hf⟩ := Option.bind_eq_some_iff.mp hf
        refine x_sI hsc b103 dL_law_448 ?_
        refine w_aload_n dL_law_449 rfl rfl ?_
        refine x_cnI hf (e_stS (Yc := YX0_count) (av := [.ref l1, .int x102, .ref l3]) (st := []) dL_law_450 q4106 mX0_count) mX0_count.2.2.1 mX0_count.2.2.2.2.1 (Nat.le_of_ble_eq_true rfl) (Nat.le_of_ble_eq_true rfl) (fun q hq => pX0_count (by omega) hq) (fun q104 hf => ?_)
        refine w_istore dL_law_453 (by decide) (ls' := [some (.ref 1000000000), some (.ref l1), some (.ref l2), some (.ref l3), some (.int l4), some (.int q104.1), none]) rfl ?_
        refine w_aload_n dL_law_455 rfl rfl ?_
        refine w_aload_n dL_law_456 rfl rfl ?_
        refine w_iload dL_law_457 rfl ?_
        refine w_iconst dL_law_459 (v := 1) (by decide) ?_
        refine w_iadd dL_law_460 ?_
        obtain ⟨x105, b106, hf⟩ := Option.bind_eq_some_iff.mp hf
        refine x_sI hsc b106 dL_law_461 ?_
        obtain ⟨_, b107, hf⟩ := Option.bind_eq_some_iff.mp hf
        refine x_cnI hf (e_stV (Yc := YX35_count) (ci := 34) (av := [.int x105]) (st := []) dL_law_462 q6072 mX35_count rfl (k_ok_some b107).1 (k_ok_some b107).2) mX35_count.2.2.1 mX35_count.2.2.2.2.1 (Nat.le_of_ble_eq_true rfl) (Nat.le_of_ble_eq_true rfl) (fun q hq => pX35_count (by omega) hq) (fun q108 hf => ?_)
        refine w_istore dL_law_465 (by decide) (ls' := [some (.ref 1000000000), some (.ref l1), some (.ref l2), some (.ref l3), some (.int l4), some (.int q104.1), some (.int q108.1)]) rfl ?_
        refine w_aload_n dL_law_467 rfl rfl ?_
        obtain ⟨_, b109, hf⟩ := Option.bind_eq_some_iff.mp hf
        refine x_cnI hf (e_stV (Yc := YX35_thrown) (ci := 34) (av := []) (st := []) dL_law_468 q4889 mX35_thrown rfl (k_ok_some b109).1 (k_ok_some b109).2) mX35_thrown.2.2.1 mX35_thrown.2.2.2.2.1 (Nat.le_of_ble_eq_true rfl) (Nat.le_of_ble_eq_true rfl) (fun q hq => pX35_thrown (by omega) hq) (fun q110 hf => ?_)
        refine w_iload dL_law_471 rfl ?_
        refine w_icmp_eq 478 dL_law_473 (by decide) (fun c111 => ?_) (fun c111 => ?_)
        · replace hf := (if_pos (show q110.1 = q104.1 from c111)).symm.trans hf
          refine w_iload dL_law_478 rfl ?_
          refine w_if_ne 495 dL_law_480 (by decide) (fun c112 => ?_) (fun c112 => ?_)
          · replace hf := (if_pos (show ¬ q104.1 = 0 from c112)).symm.trans hf
            exact (pL_law_b495 hd hdr hsc hrE hrN hsE hsL hsN ih hf).to ⟨rfl, rfl, rfl, rfl, rfl, trivial⟩
          · replace hf := (if_neg (show ¬ (¬ q104.1 = 0) from (fun z => z c112))).symm.trans hf
            refine w_aload_n dL_law_483 rfl rfl ?_
            refine w_iconst dL_law_484 (v := 0) (by decide) ?_
            obtain ⟨x113, b114, hf⟩ := Option.bind_eq_some_iff.mp hf
            refine x_rJ b114 dL_law_485 ?_
            refine w_iload dL_law_486 rfl ?_
            refine w_i2l dL_law_488 ?_
            refine w_lcmp dL_law_489 ?_
            refine w_if_eq 495 dL_law_490 (by decide) (fun c115 => ?_) (fun c115 => ?_)
            · replace hf := (if_pos (show (lg_cmp x113 (q108.1).toInt64) = 0 from c115)).symm.trans hf
              exact (pL_law_b495 hd hdr hsc hrE hrN hsE hsL hsN ih hf).to ⟨rfl, rfl, rfl, rfl, rfl, trivial⟩
            · replace hf := (if_neg (show ¬ ((lg_cmp x113 (q108.1).toInt64) = 0) from c115)).symm.trans hf
              refine w_iconst dL_law_493 (v := 0) (by decide) ?_
              cases hf
              exact w_iret dL_law_494 rfl rfl rfl
        · replace hf := (if_neg (show ¬ (q110.1 = q104.1) from c111)).symm.trans hf
          refine w_iconst dL_law_476 (v := 0) (by decide) ?_
          cases hf
          exact w_iret dL_law_477 rfl rfl rfl
      replace hf := (if_neg c101).symm.trans hf
      refine w_tableOut 498 dL_law_40 (by have n0 := sw_ne c4 (by decide : (0 : Int32).toInt = 0); have n1 := sw_ne c31 (by decide : (1 : Int32).toInt = 1); have n2 := sw_ne c42 (by decide : (2 : Int32).toInt = 2); have n3 := sw_ne c61 (by decide : (3 : Int32).toInt = 3); have n4 := sw_ne c65 (by decide : (4 : Int32).toInt = 4); have n5 := sw_ne c71 (by decide : (5 : Int32).toInt = 5); have n6 := sw_ne c86 (by decide : (6 : Int32).toInt = 6); have n7 := sw_ne c101 (by decide : (7 : Int32).toInt = 7); omega) (by decide) ?_
      exact (pL_law_b498 hd hdr hsc hrE hrN hsE hsL hsN ih hf).to ⟨rfl, rfl, rfl, rfl, rfl, trivial⟩
def fL_law (N : Nat) (L : Nat) (xs : Nat → Int32) (rE : Nat → Int32 → eH → Option ((Unit ⊕ Nat) × eH)) (rN : Nat → eH → Option ((Int32 ⊕ Nat) × eH)) (sE : Nat → Int32 → eH → Option (Unit × eH)) (sL : Nat → Int32 → Int64 → Int64 → eH → Option (Int32 × eH)) (sN : Nat → eH → Option (Int32 × eH))  (h : eH) : Option (Int32 × eH) :=
  (n_obj 0 326 5 tyX1 h).bind fun q1 =>
  (fX1_init N q1.1 q1.2).bind fun q3 =>
  (n_obj 34 327 129 tyX35 q3.2).bind fun q4 =>
  (fX35_init N q4.1 q4.2).bind fun q6 =>
  (n_arr 101 328 (.long 0) q6.2 (1 : Int32)).bind fun q7 =>
  fL_law_b23 N L xs rE rN sE sL sN N q1.1 q4.1 q7.1 (0 : Int32) q7.2
theorem pL_law {w : eW} {d : Nat} {dr : Nat} (hd : dr + 29 ≤ d) (hdr : 12 ≤ dr) {L : Nat} {xs : Nat → Int32} (hsc : w_oc w 0 = (.int, L, fun j => .int (xs j))) {N : Nat} {rE : Nat → Int32 → eH → Option ((Unit ⊕ Nat) × eH)} {rN : Nat → eH → Option ((Int32 ⊕ Nat) × eH)} {sE : Nat → Int32 → eH → Option (Unit × eH)} {sL : Nat → Int32 → Int64 → Int64 → eH → Option (Int32 × eH)} {sN : Nat → eH → Option (Int32 × eH)} (hrE : ∀ a t0 h q, rE a t0 h = some q → wm w dr YX8_expand [.ref a, .int t0] h (e_is (e_rt c_V q))) (hrN : ∀ a h q, rN a h = some q → wm w dr YX8_number [.ref a] h (e_is (e_rt c_I q))) (hsE : ∀ a t0 h q, sE a t0 h = some q → wm w dr YX35_expand [.ref a, .int t0] h (e_is (e_rn c_V q))) (hsL : ∀ a t0 t1 t2 h q, sL a t0 t1 t2 h = some q → wm w dr YX35_layBox [.ref a, .int t0, .long t1, .long t2] h (e_is (e_rn c_I q))) (hsN : ∀ a h q, sN a h = some q → wm w dr YX35_number [.ref a] h (e_is (e_rn c_I q)))  {h : eH} {q} (hf : fL_law N L xs rE rN sE sL sN h = some q) : wm w d YL_law [.ref 1000000000] h (e_is (e_rn c_I q)) := by
  obtain ⟨d, rfl⟩ : ∃ e, d = e + 1 := ⟨d - 1, by omega⟩
  show wp w (d + 1) YL_law 0 [some (.ref 1000000000), none, none, none, none, none, none] [] h _
  unfold fL_law at hf
  obtain ⟨q1, b2, hf⟩ := Option.bind_eq_some_iff.mp hf
  refine x_new (ci := 0) (g := 326) b2 dL_law_0 rfl tyX1_ok q484 q485 q426 ?_
  refine w_dup dL_law_3 rfl ?_
  refine x_cnV hf (e_stI (Yc := YX1_init) (b := q1.1) (av := []) (st := [.ref q1.1]) dL_law_4 q486 mX1_init) (e_mi.cd mX1_init) mX1_init.2.2.2.2.2.1 (Nat.le_of_ble_eq_true rfl) (Nat.le_of_ble_eq_true rfl) (fun q hq => pX1_init (by omega) hq) (fun q3 hf => ?_)
  refine w_astore_n dL_law_7 rfl (by decide) (ls' := [some (.ref 1000000000), some (.ref q1.1), none, none, none, none, none]) rfl ?_
  obtain ⟨q4, b5, hf⟩ := Option.bind_eq_some_iff.mp hf
  refine x_new (ci := 34) (g := 327) b5 dL_law_8 rfl tyX35_ok q4113 q4114 q466 ?_
  refine w_dup dL_law_11 rfl ?_
  refine x_cnV hf (e_stI (Yc := YX35_init) (b := q4.1) (av := []) (st := [.ref q4.1]) dL_law_12 q4115 mX35_init) (e_mi.cd mX35_init) mX35_init.2.2.2.2.2.1 (Nat.le_of_ble_eq_true rfl) (Nat.le_of_ble_eq_true rfl) (fun q hq => pX35_init (by omega) hq) (fun q6 hf => ?_)
  refine w_astore_n dL_law_15 rfl (by decide) (ls' := [some (.ref 1000000000), some (.ref q1.1), some (.ref q4.1), none, none, none, none]) rfl ?_
  refine w_iconst dL_law_16 (v := 1) (by decide) ?_
  obtain ⟨q7, b8, hf⟩ := Option.bind_eq_some_iff.mp hf
  refine x_newL (g := 328) b8 dL_law_17 q1081 ?_
  refine w_astore_n dL_law_19 rfl (by decide) (ls' := [some (.ref 1000000000), some (.ref q1.1), some (.ref q4.1), some (.ref q7.1), none, none, none]) rfl ?_
  refine w_iconst dL_law_20 (v := 0) (by decide) ?_
  refine w_istore dL_law_21 (by decide) (ls' := [some (.ref 1000000000), some (.ref q1.1), some (.ref q4.1), some (.ref q7.1), some (.int (0 : Int32)), none, none]) rfl ?_
  exact (pL_law_b23 hd hdr hsc hrE hrN hsE hsL hsN N _ _ _ _ _ _ hf).to ⟨rfl, rfl, rfl, rfl, rfl, trivial⟩
