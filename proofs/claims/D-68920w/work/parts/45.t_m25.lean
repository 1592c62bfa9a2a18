set_option maxRecDepth 100000
set_option maxHeartbeats 4000000
theorem q4396 : (Jvm.Cond.fieldLinkNest "TypeHouseModel" (294 : Nat) "TypeHouseModel$Device" "written" "I" "TypeHouseModel") ∈ lw_tbl := lw_at lw_m17 131 rfl
theorem q4398 : (Jvm.Cond.fieldLinkNest "TypeHouseModel" (297 : Nat) "TypeHouseModel$Device" "out" "[B" "TypeHouseModel") ∈ lw_tbl := lw_at lw_m17 133 rfl
theorem q4890 : (Jvm.Cond.instanceMethod ({ cls := "TypeHouseModel", name := "thrown", desc := "()I" } : Jvm.MethodName)) ∈ lw_all := lw_g (lw_at lw_m19 145 rfl) rfl
theorem q4891 : (Jvm.Cond.selects "TypeHouseModel" ({ cls := "TypeHouseModel", name := "thrown", desc := "()I" } : Jvm.MethodName) ({ cls := "TypeHouseModel", name := "thrown", desc := "()I" } : Jvm.MethodName)) ∈ lw_all := lw_g (lw_at lw_m19 146 rfl) rfl
theorem q4892 : (Jvm.Cond.code ({ cls := "TypeHouseModel", name := "thrown", desc := "()I" } : Jvm.MethodName) prog_37_method_2_code (1 : Nat) (Option.some Jvm.ClassFile.FieldType.int)) ∈ lw_all := lw_g (lw_at lw_m19 147 rfl) rfl
theorem q5221 : (Jvm.Cond.methodLink "TypeHouseModel" (657 : Nat) ({ cls := "TypeHouseModel", name := "primary", desc := "()I" } : Jvm.MethodName)) ∈ lw_all := lw_g (lw_at lw_m20 236 rfl) rfl
theorem q5223 : (Jvm.Cond.instanceMethod ({ cls := "TypeHouseModel", name := "primary", desc := "()I" } : Jvm.MethodName)) ∈ lw_all := lw_g (lw_at lw_m20 238 rfl) rfl
theorem q5224 : (Jvm.Cond.code ({ cls := "TypeHouseModel", name := "primary", desc := "()I" } : Jvm.MethodName) prog_37_method_84_code (4 : Nat) (Option.some Jvm.ClassFile.FieldType.int)) ∈ lw_all := lw_g (lw_at lw_m20 239 rfl) rfl
theorem q5235 : (Jvm.Cond.methodLink "TypeHouseModel" (663 : Nat) ({ cls := "TypeHouseModel", name := "digits", desc := "(I)I" } : Jvm.MethodName)) ∈ lw_all := lw_g (lw_at lw_m21 10 rfl) rfl
theorem q6061 : (Jvm.Cond.instanceMethod ({ cls := "TypeHouseModel", name := "size", desc := "()I" } : Jvm.MethodName)) ∈ lw_all := lw_g (lw_at lw_m24 116 rfl) rfl
theorem q6062 : (Jvm.Cond.selects "TypeHouseModel" ({ cls := "TypeHouseModel", name := "size", desc := "()I" } : Jvm.MethodName) ({ cls := "TypeHouseModel", name := "size", desc := "()I" } : Jvm.MethodName)) ∈ lw_all := lw_g (lw_at lw_m24 117 rfl) rfl
theorem q6063 : (Jvm.Cond.code ({ cls := "TypeHouseModel", name := "size", desc := "()I" } : Jvm.MethodName) prog_37_method_8_code (1 : Nat) (Option.some Jvm.ClassFile.FieldType.int)) ∈ lw_all := lw_g (lw_at lw_m24 118 rfl) rfl
theorem q6065 : (Jvm.Cond.instanceMethod ({ cls := "TypeHouseModel", name := "out", desc := "(I)I" } : Jvm.MethodName)) ∈ lw_all := lw_g (lw_at lw_m24 120 rfl) rfl
theorem q6066 : (Jvm.Cond.selects "TypeHouseModel" ({ cls := "TypeHouseModel", name := "out", desc := "(I)I" } : Jvm.MethodName) ({ cls := "TypeHouseModel", name := "out", desc := "(I)I" } : Jvm.MethodName)) ∈ lw_all := lw_g (lw_at lw_m24 121 rfl) rfl
theorem q6067 : (Jvm.Cond.code ({ cls := "TypeHouseModel", name := "out", desc := "(I)I" } : Jvm.MethodName) prog_37_method_9_code (2 : Nat) (Option.some Jvm.ClassFile.FieldType.int)) ∈ lw_all := lw_g (lw_at lw_m24 122 rfl) rfl
abbrev cX35_primary : ByteArray := prog_37_method_84_code
def yX35_primary : MethodName := ⟨RX35, "primary", "()I"⟩
def YX35_primary : eY := (yX35_primary, cX35_primary, 4, (Option.some FieldType.int), [])
theorem mX35_primary : e_mv YX35_primary RX35 0 := ⟨q5223, qs268, q5224, by decide, by decide +kernel, (e_sig (by decide +kernel))⟩
theorem dX35_primary_0 : decode cX35_primary 0 = .ok (.aload_n 0, 1) := dc_42 (by decide +kernel)
theorem dX35_primary_1 : decode cX35_primary 1 = .ok (.invokevirtual 660, 3) := dc_182 (a := 2) (b := 148) (n := 660) (by decide +kernel)
theorem dX35_primary_4 : decode cX35_primary 4 = .ok (.aload_n 0, 1) := dc_42 (by decide +kernel)
theorem dX35_primary_5 : decode cX35_primary 5 = .ok (.getfield 651, 3) := dc_180 (a := 2) (b := 139) (n := 651) (by decide +kernel)
theorem dX35_primary_8 : decode cX35_primary 8 = .ok (.istore_n 1, 1) := dc_60 (by decide +kernel)
theorem dX35_primary_9 : decode cX35_primary 9 = .ok (.aload_n 0, 1) := dc_42 (by decide +kernel)
theorem dX35_primary_10 : decode cX35_primary 10 = .ok (.getfield 654, 3) := dc_180 (a := 2) (b := 142) (n := 654) (by decide +kernel)
theorem dX35_primary_13 : decode cX35_primary 13 = .ok (.istore_n 2, 1) := dc_61 (by decide +kernel)
theorem dX35_primary_14 : decode cX35_primary 14 = .ok (.aload_n 0, 1) := dc_42 (by decide +kernel)
theorem dX35_primary_15 : decode cX35_primary 15 = .ok (.getfield 321, 3) := dc_180 (a := 1) (b := 65) (n := 321) (by decide +kernel)
theorem dX35_primary_18 : decode cX35_primary 18 = .ok (.ifCond .le 5, 3) := dc_158 (a := 0) (b := 5) (v := 5) (by decide +kernel)
theorem dX35_primary_21 : decode cX35_primary 21 = .ok (.iconst 0, 1) := dc_3 (by decide +kernel)
theorem dX35_primary_22 : decode cX35_primary 22 = .ok (.ireturn, 1) := dc_172 (by decide +kernel)
theorem dX35_primary_23 : decode cX35_primary 23 = .ok (.iconst 0, 1) := dc_3 (by decide +kernel)
theorem dX35_primary_24 : decode cX35_primary 24 = .ok (.istore_n 3, 1) := dc_62 (by decide +kernel)
theorem dX35_primary_25 : decode cX35_primary 25 = .ok (.iload_n 1, 1) := dc_27 (by decide +kernel)
theorem dX35_primary_26 : decode cX35_primary 26 = .ok (.invokestatic 643, 3) := dc_184 (a := 2) (b := 131) (n := 643) (by decide +kernel)
theorem dX35_primary_29 : decode cX35_primary 29 = .ok (.ifCond .eq 12, 3) := dc_153 (a := 0) (b := 12) (v := 12) (by decide +kernel)
theorem dX35_primary_32 : decode cX35_primary 32 = .ok (.aload_n 0, 1) := dc_42 (by decide +kernel)
theorem dX35_primary_33 : decode cX35_primary 33 = .ok (.iload_n 1, 1) := dc_27 (by decide +kernel)
theorem dX35_primary_34 : decode cX35_primary 34 = .ok (.invokevirtual 663, 3) := dc_182 (a := 2) (b := 151) (n := 663) (by decide +kernel)
theorem dX35_primary_37 : decode cX35_primary 37 = .ok (.istore_n 3, 1) := dc_62 (by decide +kernel)
theorem dX35_primary_38 : decode cX35_primary 38 = .ok (.goto 70, 3) := dc_167 (a := 0) (b := 70) (v := 70) (by decide +kernel)
theorem dX35_primary_41 : decode cX35_primary 41 = .ok (.iload_n 1, 1) := dc_27 (by decide +kernel)
theorem dX35_primary_42 : decode cX35_primary 42 = .ok (.bipush 12, 2) := dc_16 (a := 12) (v := 12) (by decide +kernel)
theorem dX35_primary_44 : decode cX35_primary 44 = .ok (.bipush 96, 2) := dc_16 (a := 96) (v := 96) (by decide +kernel)
theorem dX35_primary_46 : decode cX35_primary 46 = .ok (.invokestatic 610, 3) := dc_184 (a := 2) (b := 98) (n := 610) (by decide +kernel)
theorem dX35_primary_49 : decode cX35_primary 49 = .ok (.ifCond .eq 11, 3) := dc_153 (a := 0) (b := 11) (v := 11) (by decide +kernel)
theorem dX35_primary_52 : decode cX35_primary 52 = .ok (.aload_n 0, 1) := dc_42 (by decide +kernel)
theorem dX35_primary_53 : decode cX35_primary 53 = .ok (.invokevirtual 666, 3) := dc_182 (a := 2) (b := 154) (n := 666) (by decide +kernel)
theorem dX35_primary_56 : decode cX35_primary 56 = .ok (.istore_n 3, 1) := dc_62 (by decide +kernel)
theorem dX35_primary_57 : decode cX35_primary 57 = .ok (.goto 51, 3) := dc_167 (a := 0) (b := 51) (v := 51) (by decide +kernel)
theorem dX35_primary_60 : decode cX35_primary 60 = .ok (.aload_n 0, 1) := dc_42 (by decide +kernel)
theorem dX35_primary_61 : decode cX35_primary 61 = .ok (.iload_n 1, 1) := dc_27 (by decide +kernel)
theorem dX35_primary_62 : decode cX35_primary 62 = .ok (.invokevirtual 536, 3) := dc_182 (a := 2) (b := 24) (n := 536) (by decide +kernel)
theorem dX35_primary_65 : decode cX35_primary 65 = .ok (.ifCond .eq 12, 3) := dc_153 (a := 0) (b := 12) (v := 12) (by decide +kernel)
theorem dX35_primary_68 : decode cX35_primary 68 = .ok (.aload_n 0, 1) := dc_42 (by decide +kernel)
theorem dX35_primary_69 : decode cX35_primary 69 = .ok (.iload_n 1, 1) := dc_27 (by decide +kernel)
theorem dX35_primary_70 : decode cX35_primary 70 = .ok (.invokevirtual 539, 3) := dc_182 (a := 2) (b := 27) (n := 539) (by decide +kernel)
theorem dX35_primary_73 : decode cX35_primary 73 = .ok (.istore_n 3, 1) := dc_62 (by decide +kernel)
theorem dX35_primary_74 : decode cX35_primary 74 = .ok (.goto 34, 3) := dc_167 (a := 0) (b := 34) (v := 34) (by decide +kernel)
theorem dX35_primary_77 : decode cX35_primary 77 = .ok (.aload_n 0, 1) := dc_42 (by decide +kernel)
theorem dX35_primary_78 : decode cX35_primary 78 = .ok (.iload_n 1, 1) := dc_27 (by decide +kernel)
theorem dX35_primary_79 : decode cX35_primary 79 = .ok (.invokevirtual 542, 3) := dc_182 (a := 2) (b := 30) (n := 542) (by decide +kernel)
theorem dX35_primary_82 : decode cX35_primary 82 = .ok (.ifCond .ne 11, 3) := dc_154 (a := 0) (b := 11) (v := 11) (by decide +kernel)
theorem dX35_primary_85 : decode cX35_primary 85 = .ok (.aload_n 0, 1) := dc_42 (by decide +kernel)
theorem dX35_primary_86 : decode cX35_primary 86 = .ok (.iload_n 1, 1) := dc_27 (by decide +kernel)
theorem dX35_primary_87 : decode cX35_primary 87 = .ok (.invokevirtual 545, 3) := dc_182 (a := 2) (b := 33) (n := 545) (by decide +kernel)
theorem dX35_primary_90 : decode cX35_primary 90 = .ok (.ifCond .eq 12, 3) := dc_153 (a := 0) (b := 12) (v := 12) (by decide +kernel)
theorem dX35_primary_93 : decode cX35_primary 93 = .ok (.aload_n 0, 1) := dc_42 (by decide +kernel)
theorem dX35_primary_94 : decode cX35_primary 94 = .ok (.iload_n 1, 1) := dc_27 (by decide +kernel)
theorem dX35_primary_95 : decode cX35_primary 95 = .ok (.invokevirtual 548, 3) := dc_182 (a := 2) (b := 36) (n := 548) (by decide +kernel)
theorem dX35_primary_98 : decode cX35_primary 98 = .ok (.istore_n 3, 1) := dc_62 (by decide +kernel)
theorem dX35_primary_99 : decode cX35_primary 99 = .ok (.goto 9, 3) := dc_167 (a := 0) (b := 9) (v := 9) (by decide +kernel)
theorem dX35_primary_102 : decode cX35_primary 102 = .ok (.aload_n 0, 1) := dc_42 (by decide +kernel)
theorem dX35_primary_103 : decode cX35_primary 103 = .ok (.bipush 6, 2) := dc_16 (a := 6) (v := 6) (by decide +kernel)
theorem dX35_primary_105 : decode cX35_primary 105 = .ok (.invokevirtual 428, 3) := dc_182 (a := 1) (b := 172) (n := 428) (by decide +kernel)
theorem dX35_primary_108 : decode cX35_primary 108 = .ok (.aload_n 0, 1) := dc_42 (by decide +kernel)
theorem dX35_primary_109 : decode cX35_primary 109 = .ok (.getfield 321, 3) := dc_180 (a := 1) (b := 65) (n := 321) (by decide +kernel)
theorem dX35_primary_112 : decode cX35_primary 112 = .ok (.ifCond .le 7, 3) := dc_158 (a := 0) (b := 7) (v := 7) (by decide +kernel)
theorem dX35_primary_115 : decode cX35_primary 115 = .ok (.iconst 0, 1) := dc_3 (by decide +kernel)
theorem dX35_primary_116 : decode cX35_primary 116 = .ok (.goto 13, 3) := dc_167 (a := 0) (b := 13) (v := 13) (by decide +kernel)
theorem dX35_primary_119 : decode cX35_primary 119 = .ok (.iload_n 2, 1) := dc_28 (by decide +kernel)
theorem dX35_primary_120 : decode cX35_primary 120 = .ok (.ifCond .eq 8, 3) := dc_153 (a := 0) (b := 8) (v := 8) (by decide +kernel)
theorem dX35_primary_123 : decode cX35_primary 123 = .ok (.iload_n 3, 1) := dc_29 (by decide +kernel)
theorem dX35_primary_124 : decode cX35_primary 124 = .ok (.ineg, 1) := dc_116 (by decide +kernel)
theorem dX35_primary_125 : decode cX35_primary 125 = .ok (.goto 4, 3) := dc_167 (a := 0) (b := 4) (v := 4) (by decide +kernel)
theorem dX35_primary_128 : decode cX35_primary 128 = .ok (.iload_n 3, 1) := dc_29 (by decide +kernel)
theorem dX35_primary_129 : decode cX35_primary 129 = .ok (.ireturn, 1) := dc_172 (by decide +kernel)
def fX35_primary_b129 (N : Nat) (sE : Nat → Int32 → eH → Option (Unit × eH)) (sN : Nat → eH → Option (Int32 × eH)) (s0 : Int32) (h : eH) : Option (Int32 × eH) :=
  some (s0, h)
theorem pX35_primary_b129 {w : eW} {d : Nat} {dr : Nat} (hd : dr + 8 ≤ d + 1) (hdr : 12 ≤ dr) {N : Nat} {sE : Nat → Int32 → eH → Option (Unit × eH)} {sN : Nat → eH → Option (Int32 × eH)} (hsE : ∀ a t0 h q, sE a t0 h = some q → wm w dr YX35_expand [.ref a, .int t0] h (e_is (e_rn c_V q))) (hsN : ∀ a h q, sN a h = some q → wm w dr YX35_number [.ref a] h (e_is (e_rn c_I q))) {s0 : Int32} {h : eH} {q} (hf : fX35_primary_b129 N sE sN s0 h = some q) : wp w (d + 1) YX35_primary 129 [none, none, none, none] [.int s0] h (e_is (e_rn c_I q)) := by
  unfold fX35_primary_b129 at hf
  cases hf
  exact w_iret dX35_primary_129 rfl rfl rfl
def fX35_primary_b108 (N : Nat) (sE : Nat → Int32 → eH → Option (Unit × eH)) (sN : Nat → eH → Option (Int32 × eH)) (l0 : Nat) (l2 : Int32) (l3 : Int32) (h : eH) : Option (Int32 × eH) :=
  (g_I 34 h l0 46).bind fun x1 =>
  if x1 ≤ 0 then
    if l2 = 0 then
      fX35_primary_b129 N sE sN l3 h
    else
      fX35_primary_b129 N sE sN (-l3) h
  else
    fX35_primary_b129 N sE sN (0 : Int32) h
theorem pX35_primary_b108 {w : eW} {d : Nat} {dr : Nat} (hd : dr + 8 ≤ d + 1) (hdr : 12 ≤ dr) {N : Nat} {sE : Nat → Int32 → eH → Option (Unit × eH)} {sN : Nat → eH → Option (Int32 × eH)} (hsE : ∀ a t0 h q, sE a t0 h = some q → wm w dr YX35_expand [.ref a, .int t0] h (e_is (e_rn c_V q))) (hsN : ∀ a h q, sN a h = some q → wm w dr YX35_number [.ref a] h (e_is (e_rn c_I q))) {l0 : Nat} {l2 : Int32} {l3 : Int32} {h : eH} {q} (hf : fX35_primary_b108 N sE sN l0 l2 l3 h = some q) : wp w (d + 1) YX35_primary 108 [some (.ref l0), none, some (.int l2), some (.int l3)] [] h (e_is (e_rn c_I q)) := by
  unfold fX35_primary_b108 at hf
  refine w_aload_n dX35_primary_108 rfl rfl ?_
  obtain ⟨x1, b2, hf⟩ := Option.bind_eq_some_iff.mp hf
  refine GX35_321 b2 dX35_primary_109 rfl ?_
  refine w_if_le 119 dX35_primary_112 (by decide) (fun c3 => ?_) (fun c3 => ?_)
  · replace hf := (if_pos (show x1 ≤ 0 from c3)).symm.trans hf
    refine w_iload_n dX35_primary_119 rfl rfl ?_
    refine w_if_eq 128 dX35_primary_120 (by decide) (fun c4 => ?_) (fun c4 => ?_)
    · replace hf := (if_pos (show l2 = 0 from c4)).symm.trans hf
      refine w_iload_n dX35_primary_128 rfl rfl ?_
      exact (pX35_primary_b129 hd hdr hsE hsN hf).to trivial
    · replace hf := (if_neg (show ¬ (l2 = 0) from c4)).symm.trans hf
      refine w_iload_n dX35_primary_123 rfl rfl ?_
      refine w_ineg dX35_primary_124 ?_
      refine w_goto 129 dX35_primary_125 (by decide) ?_
      exact (pX35_primary_b129 hd hdr hsE hsN hf).to trivial
  · replace hf := (if_neg (show ¬ (x1 ≤ 0) from c3)).symm.trans hf
    refine w_iconst dX35_primary_115 (v := 0) (by decide) ?_
    refine w_goto 129 dX35_primary_116 (by decide) ?_
    exact (pX35_primary_b129 hd hdr hsE hsN hf).to trivial
def fX35_primary_b93 (N : Nat) (sE : Nat → Int32 → eH → Option (Unit × eH)) (sN : Nat → eH → Option (Int32 × eH)) (l0 : Nat) (l1 : Int32) (l2 : Int32) (h : eH) : Option (Int32 × eH) :=
  (k_ok 34 h l0).bind fun _ =>
  (fX35_lengthOf sN l0 l1 h).bind fun q2 =>
  fX35_primary_b108 N sE sN l0 l2 q2.1 q2.2
theorem pX35_primary_b93 {w : eW} {d : Nat} {dr : Nat} (hd : dr + 8 ≤ d + 1) (hdr : 12 ≤ dr) {N : Nat} {sE : Nat → Int32 → eH → Option (Unit × eH)} {sN : Nat → eH → Option (Int32 × eH)} (hsE : ∀ a t0 h q, sE a t0 h = some q → wm w dr YX35_expand [.ref a, .int t0] h (e_is (e_rn c_V q))) (hsN : ∀ a h q, sN a h = some q → wm w dr YX35_number [.ref a] h (e_is (e_rn c_I q))) {l0 : Nat} {l1 : Int32} {l2 : Int32} {h : eH} {q} (hf : fX35_primary_b93 N sE sN l0 l1 l2 h = some q) : wp w (d + 1) YX35_primary 93 [some (.ref l0), some (.int l1), some (.int l2), none] [] h (e_is (e_rn c_I q)) := by
  unfold fX35_primary_b93 at hf
  refine w_aload_n dX35_primary_93 rfl rfl ?_
  refine w_iload_n dX35_primary_94 rfl rfl ?_
  obtain ⟨_, b1, hf⟩ := Option.bind_eq_some_iff.mp hf
  refine x_cnI hf (e_stV (Yc := YX35_lengthOf) (ci := 34) (av := [.int l1]) (st := []) dX35_primary_95 q5296 mX35_lengthOf rfl (k_ok_some b1).1 (k_ok_some b1).2) mX35_lengthOf.2.2.1 mX35_lengthOf.2.2.2.2.1 (Nat.le_of_ble_eq_true rfl) (Nat.le_of_ble_eq_true rfl) (fun q hq => pX35_lengthOf (by omega) hdr hsN hq) (fun q2 hf => ?_)
  refine w_istore_n dX35_primary_98 rfl (by decide) (ls' := [some (.ref l0), some (.int l1), some (.int l2), some (.int q2.1)]) rfl ?_
  refine w_goto 108 dX35_primary_99 (by decide) ?_
  exact (pX35_primary_b108 hd hdr hsE hsN hf).to ⟨rfl, rfl, rfl, trivial⟩
def fX35_primary (N : Nat) (sE : Nat → Int32 → eH → Option (Unit × eH)) (sN : Nat → eH → Option (Int32 × eH)) (this : Nat) (h : eH) : Option (Int32 × eH) :=
  (k_ok 34 h this).bind fun _ =>
  (fX35_signs N sE this h).bind fun q2 =>
  (g_I 34 q2.2 this 121).bind fun x3 =>
  (g_I 34 q2.2 this 122).bind fun x5 =>
  (g_I 34 q2.2 this 46).bind fun x7 =>
  if x7 ≤ 0 then
    (fX35_isDigit x3 q2.2).bind fun q10 =>
    if q10.1 = 0 then
      (fX35_is x3 (12 : Int32) (96 : Int32) q10.2).bind fun q12 =>
      if q12.1 = 0 then
        (k_ok 34 q12.2 this).bind fun _ =>
        (fX35_hasValue this x3 q12.2).bind fun q15 =>
        if q15.1 = 0 then
          (k_ok 34 q15.2 this).bind fun _ =>
          (fX35_hasLength this x3 q15.2).bind fun q18 =>
          if ¬ q18.1 = 0 then
            fX35_primary_b93 N sE sN this x3 x5 q18.2
          else
            (k_ok 34 q18.2 this).bind fun _ =>
            (fX35_hasGlue this x3 q18.2).bind fun q21 =>
            if q21.1 = 0 then
              (k_ok 34 q21.2 this).bind fun _ =>
              (fX35_fail this (6 : Int32) q21.2).bind fun q24 =>
              fX35_primary_b108 N sE sN this x5 (0 : Int32) q24.2
            else
              fX35_primary_b93 N sE sN this x3 x5 q21.2
        else
          (k_ok 34 q15.2 this).bind fun _ =>
          (fX35_value sN this x3 q15.2).bind fun q26 =>
          fX35_primary_b108 N sE sN this x5 q26.1 q26.2
      else
        (k_ok 34 q12.2 this).bind fun _ =>
        (fX35_quoted N sE this q12.2).bind fun q28 =>
        fX35_primary_b108 N sE sN this x5 q28.1 q28.2
    else
      (k_ok 34 q10.2 this).bind fun _ =>
      (fX35_digits N sE this x3 q10.2).bind fun q30 =>
      fX35_primary_b108 N sE sN this x5 q30.1 q30.2
  else
    some ((0 : Int32), q2.2)
theorem pX35_primary {w : eW} {d : Nat} {dr : Nat} (hd : dr + 8 ≤ d) (hdr : 12 ≤ dr) {N : Nat} {sE : Nat → Int32 → eH → Option (Unit × eH)} {sN : Nat → eH → Option (Int32 × eH)} (hsE : ∀ a t0 h q, sE a t0 h = some q → wm w dr YX35_expand [.ref a, .int t0] h (e_is (e_rn c_V q))) (hsN : ∀ a h q, sN a h = some q → wm w dr YX35_number [.ref a] h (e_is (e_rn c_I q))) {this : Nat} {h : eH} {q} (hf : fX35_primary N sE sN this h = some q) : wm w d YX35_primary [.ref this] h (e_is (e_rn c_I q)) := by
  obtain ⟨d, rfl⟩ : ∃ e, d = e + 1 := ⟨d - 1, by omega⟩
  show wp w (d + 1) YX35_primary 0 [some (.ref this), none, none, none] [] h _
  unfold fX35_primary at hf
  refine w_aload_n dX35_primary_0 rfl rfl ?_
  obtain ⟨_, b1, hf⟩ := Option.bind_eq_some_iff.mp hf
  refine x_cnV hf (e_stV (Yc := YX35_signs) (ci := 34) (av := []) (st := []) dX35_primary_1 q5225 mX35_signs rfl (k_ok_some b1).1 (k_ok_some b1).2) mX35_signs.2.2.1 mX35_signs.2.2.2.2.1 (Nat.le_of_ble_eq_true rfl) (Nat.le_of_ble_eq_true rfl) (fun q hq => pX35_signs (by omega) hdr hsE hq) (fun q2 hf => ?_)
  refine w_aload_n dX35_primary_4 rfl rfl ?_
  obtain ⟨x3, b4, hf⟩ := Option.bind_eq_some_iff.mp hf
  refine GX35_651 b4 dX35_primary_5 rfl ?_
  refine w_istore_n dX35_primary_8 rfl (by decide) (ls' := [some (.ref this), some (.int x3), none, none]) rfl ?_
  refine w_aload_n dX35_primary_9 rfl rfl ?_
  obtain ⟨x5, b6, hf⟩ := Option.bind_eq_some_iff.mp hf
  refine GX35_654 b6 dX35_primary_10 rfl ?_
  refine w_istore_n dX35_primary_13 rfl (by decide) (ls' := [some (.ref this), some (.int x3), some (.int x5), none]) rfl ?_
  refine w_aload_n dX35_primary_14 rfl rfl ?_
  obtain ⟨x7, b8, hf⟩ := Option.bind_eq_some_iff.mp hf
  refine GX35_321 b8 dX35_primary_15 rfl ?_
  refine w_if_le 23 dX35_primary_18 (by decide) (fun c9 => ?_) (fun c9 => ?_)
  · replace hf := (if_pos (show x7 ≤ 0 from c9)).symm.trans hf
    refine w_iconst dX35_primary_23 (v := 0) (by decide) ?_
    refine w_istore_n dX35_primary_24 rfl (by decide) (ls' := [some (.ref this), some (.int x3), some (.int x5), some (.int (0 : Int32))]) rfl ?_
    refine w_iload_n dX35_primary_25 rfl rfl ?_
    refine x_cnI hf (e_stS (Yc := YX35_isDigit) (av := [.int x3]) (st := []) dX35_primary_26 q5232 mX35_isDigit) mX35_isDigit.2.2.1 mX35_isDigit.2.2.2.2.1 (Nat.le_of_ble_eq_true rfl) (Nat.le_of_ble_eq_true rfl) (fun q hq => pX35_isDigit (by omega) hq) (fun q10 hf => ?_)
    refine w_if_eq 41 dX35_primary_29 (by decide) (fun c11 => ?_) (fun c11 => ?_)
    · replace hf := (if_pos (show q10.1 = 0 from c11)).symm.trans hf
      refine w_iload_n dX35_primary_41 rfl rfl ?_
      refine w_bipush dX35_primary_42 (v := 12) (by decide) ?_
      refine w_bipush dX35_primary_44 (v := 96) (by decide) ?_
      refine x_cnI hf (e_stS (Yc := YX35_is) (av := [.int x3, .int (12 : Int32), .int (96 : Int32)]) (st := []) dX35_primary_46 q5229 mX35_is) mX35_is.2.2.1 mX35_is.2.2.2.2.1 (Nat.le_of_ble_eq_true rfl) (Nat.le_of_ble_eq_true rfl) (fun q hq => pX35_is (by omega) hq) (fun q12 hf => ?_)
      refine w_if_eq 60 dX35_primary_49 (by decide) (fun c13 => ?_) (fun c13 => ?_)
      · replace hf := (if_pos (show q12.1 = 0 from c13)).symm.trans hf
        refine w_aload_n dX35_primary_60 rfl rfl ?_
        refine w_iload_n dX35_primary_61 rfl rfl ?_
        obtain ⟨_, b14, hf⟩ := Option.bind_eq_some_iff.mp hf
        refine x_cnI hf (e_stV (Yc := YX35_hasValue) (ci := 34) (av := [.int x3]) (st := []) dX35_primary_62 q5250 mX35_hasValue rfl (k_ok_some b14).1 (k_ok_some b14).2) mX35_hasValue.2.2.1 mX35_hasValue.2.2.2.2.1 (Nat.le_of_ble_eq_true rfl) (Nat.le_of_ble_eq_true rfl) (fun q hq => pX35_hasValue (by omega) hq) (fun q15 hf => ?_)
        refine w_if_eq 77 dX35_primary_65 (by decide) (fun c16 => ?_) (fun c16 => ?_)
        · replace hf := (if_pos (show q15.1 = 0 from c16)).symm.trans hf
          refine w_aload_n dX35_primary_77 rfl rfl ?_
          refine w_iload_n dX35_primary_78 rfl rfl ?_
          obtain ⟨_, b17, hf⟩ := Option.bind_eq_some_iff.mp hf
          refine x_cnI hf (e_stV (Yc := YX35_hasLength) (ci := 34) (av := [.int x3]) (st := []) dX35_primary_79 q5279 mX35_hasLength rfl (k_ok_some b17).1 (k_ok_some b17).2) mX35_hasLength.2.2.1 mX35_hasLength.2.2.2.2.1 (Nat.le_of_ble_eq_true rfl) (Nat.le_of_ble_eq_true rfl) (fun q hq => pX35_hasLength (by omega) hq) (fun q18 hf => ?_)
          refine w_if_ne 93 dX35_primary_82 (by decide) (fun c19 => ?_) (fun c19 => ?_)
          · replace hf := (if_pos (show ¬ q18.1 = 0 from c19)).symm.trans hf
            exact (pX35_primary_b93 hd hdr hsE hsN hf).to ⟨rfl, rfl, rfl, trivial⟩
          · replace hf := (if_neg (show ¬ (¬ q18.1 = 0) from (fun z => z c19))).symm.trans hf
            refine w_aload_n dX35_primary_85 rfl rfl ?_
            refine w_iload_n dX35_primary_86 rfl rfl ?_
            obtain ⟨_, b20, hf⟩ := Option.bind_eq_some_iff.mp hf
            refine x_cnI hf (e_stV (Yc := YX35_hasGlue) (ci := 34) (av := [.int x3]) (st := []) dX35_primary_87 q5289 mX35_hasGlue rfl (k_ok_some b20).1 (k_ok_some b20).2) mX35_hasGlue.2.2.1 mX35_hasGlue.2.2.2.2.1 (Nat.le_of_ble_eq_true rfl) (Nat.le_of_ble_eq_true rfl) (fun q hq => pX35_hasGlue (by omega) hq) (fun q21 hf => ?_)
            refine w_if_eq 102 dX35_primary_90 (by decide) (fun c22 => ?_) (fun c22 => ?_)
            · replace hf := (if_pos (show q21.1 = 0 from c22)).symm.trans hf
              refine w_aload_n dX35_primary_102 rfl rfl ?_
              refine w_bipush dX35_primary_103 (v := 6) (by decide) ?_
              obtain ⟨_, b23, hf⟩ := Option.bind_eq_some_iff.mp hf
              refine x_cnV hf (e_stV (Yc := YX35_fail) (ci := 34) (av := [.int (6 : Int32)]) (st := []) dX35_primary_105 q5109 mX35_fail rfl (k_ok_some b23).1 (k_ok_some b23).2) mX35_fail.2.2.1 mX35_fail.2.2.2.2.1 (Nat.le_of_ble_eq_true rfl) (Nat.le_of_ble_eq_true rfl) (fun q hq => pX35_fail (by omega) hq) (fun q24 hf => ?_)
              exact (pX35_primary_b108 hd hdr hsE hsN hf).to ⟨rfl, rfl, rfl, trivial⟩
            · replace hf := (if_neg (show ¬ (q21.1 = 0) from c22)).symm.trans hf
              exact (pX35_primary_b93 hd hdr hsE hsN hf).to ⟨rfl, rfl, rfl, trivial⟩
        · replace hf := (if_neg (show ¬ (q15.1 = 0) from c16)).symm.trans hf
          refine w_aload_n dX35_primary_68 rfl rfl ?_
          refine w_iload_n dX35_primary_69 rfl rfl ?_
          obtain ⟨_, b25, hf⟩ := Option.bind_eq_some_iff.mp hf
          refine x_cnI hf (e_stV (Yc := YX35_value) (ci := 34) (av := [.int x3]) (st := []) dX35_primary_70 q5267 mX35_value rfl (k_ok_some b25).1 (k_ok_some b25).2) mX35_value.2.2.1 mX35_value.2.2.2.2.1 (Nat.le_of_ble_eq_true rfl) (Nat.le_of_ble_eq_true rfl) (fun q hq => pX35_value (by omega) hdr hsN hq) (fun q26 hf => ?_)
          refine w_istore_n dX35_primary_73 rfl (by decide) (ls' := [some (.ref this), some (.int x3), some (.int x5), some (.int q26.1)]) rfl ?_
          refine w_goto 108 dX35_primary_74 (by decide) ?_
          exact (pX35_primary_b108 hd hdr hsE hsN hf).to ⟨rfl, rfl, rfl, trivial⟩
      · replace hf := (if_neg (show ¬ (q12.1 = 0) from c13)).symm.trans hf
        refine w_aload_n dX35_primary_52 rfl rfl ?_
        obtain ⟨_, b27, hf⟩ := Option.bind_eq_some_iff.mp hf
        refine x_cnI hf (e_stV (Yc := YX35_quoted) (ci := 34) (av := []) (st := []) dX35_primary_53 q5242 mX35_quoted rfl (k_ok_some b27).1 (k_ok_some b27).2) mX35_quoted.2.2.1 mX35_quoted.2.2.2.2.1 (Nat.le_of_ble_eq_true rfl) (Nat.le_of_ble_eq_true rfl) (fun q hq => pX35_quoted (by omega) hdr hsE hq) (fun q28 hf => ?_)
        refine w_istore_n dX35_primary_56 rfl (by decide) (ls' := [some (.ref this), some (.int x3), some (.int x5), some (.int q28.1)]) rfl ?_
        refine w_goto 108 dX35_primary_57 (by decide) ?_
        exact (pX35_primary_b108 hd hdr hsE hsN hf).to ⟨rfl, rfl, rfl, trivial⟩
    · replace hf := (if_neg (show ¬ (q10.1 = 0) from c11)).symm.trans hf
      refine w_aload_n dX35_primary_32 rfl rfl ?_
      refine w_iload_n dX35_primary_33 rfl rfl ?_
      obtain ⟨_, b29, hf⟩ := Option.bind_eq_some_iff.mp hf
      refine x_cnI hf (e_stV (Yc := YX35_digits) (ci := 34) (av := [.int x3]) (st := []) dX35_primary_34 q5235 mX35_digits rfl (k_ok_some b29).1 (k_ok_some b29).2) mX35_digits.2.2.1 mX35_digits.2.2.2.2.1 (Nat.le_of_ble_eq_true rfl) (Nat.le_of_ble_eq_true rfl) (fun q hq => pX35_digits (by omega) hdr hsE hq) (fun q30 hf => ?_)
      refine w_istore_n dX35_primary_37 rfl (by decide) (ls' := [some (.ref this), some (.int x3), some (.int x5), some (.int q30.1)]) rfl ?_
      refine w_goto 108 dX35_primary_38 (by decide) ?_
      exact (pX35_primary_b108 hd hdr hsE hsN hf).to ⟨rfl, rfl, rfl, trivial⟩
  · replace hf := (if_neg (show ¬ (x7 ≤ 0) from c9)).symm.trans hf
    refine w_iconst dX35_primary_21 (v := 0) (by decide) ?_
    cases hf
    exact w_iret dX35_primary_22 rfl rfl rfl
def fX35_number_b14 (N : Nat) (sE : Nat → Int32 → eH → Option (Unit × eH)) (sN : Nat → eH → Option (Int32 × eH)) (l0 : Nat) (h : eH) : Option (Int32 × eH) :=
  (g_I 34 h l0 46).bind fun x1 =>
  if x1 ≤ 0 then
    (g_I 34 h l0 45).bind fun x4 =>
    (p_V 34 h l0 45 (.int (x4 + (1 : Int32)))).bind fun h6 =>
    (k_ok 34 h6 l0).bind fun _ =>
    (fX35_primary N sE sN l0 h6).bind fun q9 =>
    (g_I 34 q9.2 l0 45).bind fun x10 =>
    (p_V 34 q9.2 l0 45 (.int (x10 - (1 : Int32)))).bind fun h12 =>
    some (q9.1, h12)
  else
    some ((0 : Int32), h)
theorem pX35_number_b14 {w : eW} {d : Nat} {dr : Nat} (hd : dr + 9 ≤ d + 1) (hdr : 12 ≤ dr) {N : Nat} {sE : Nat → Int32 → eH → Option (Unit × eH)} {sN : Nat → eH → Option (Int32 × eH)} (hsE : ∀ a t0 h q, sE a t0 h = some q → wm w dr YX35_expand [.ref a, .int t0] h (e_is (e_rn c_V q))) (hsN : ∀ a h q, sN a h = some q → wm w dr YX35_number [.ref a] h (e_is (e_rn c_I q))) {l0 : Nat} {h : eH} {q} (hf : fX35_number_b14 N sE sN l0 h = some q) : wp w (d + 1) YX35_number 14 [some (.ref l0), none] [] h (e_is (e_rn c_I q)) := by
  unfold fX35_number_b14 at hf
  refine w_aload_n dX35_number_14 rfl rfl ?_
  obtain ⟨x1, b2, hf⟩ := Option.bind_eq_some_iff.mp hf
  refine GX35_321 b2 dX35_number_15 rfl ?_
  refine w_if_le 23 dX35_number_18 (by decide) (fun c3 => ?_) (fun c3 => ?_)
  · replace hf := (if_pos (show x1 ≤ 0 from c3)).symm.trans hf
    refine w_aload_n dX35_number_23 rfl rfl ?_
    refine w_dup dX35_number_24 rfl ?_
    obtain ⟨x4, b5, hf⟩ := Option.bind_eq_some_iff.mp hf
    refine GX35_353 b5 dX35_number_25 rfl ?_
    refine w_iconst dX35_number_28 (v := 1) (by decide) ?_
    refine w_iadd dX35_number_29 ?_
    obtain ⟨h6, b7, hf⟩ := Option.bind_eq_some_iff.mp hf
    refine SX35_353 b7 dX35_number_30 rfl ?_
    refine w_aload_n dX35_number_33 rfl rfl ?_
    obtain ⟨_, b8, hf⟩ := Option.bind_eq_some_iff.mp hf
    refine x_cnI hf (e_stV (Yc := YX35_primary) (ci := 34) (av := []) (st := []) dX35_number_34 q5221 mX35_primary rfl (k_ok_some b8).1 (k_ok_some b8).2) mX35_primary.2.2.1 mX35_primary.2.2.2.2.1 (Nat.le_of_ble_eq_true rfl) (Nat.le_of_ble_eq_true rfl) (fun q hq => pX35_primary (by omega) hdr hsE hsN hq) (fun q9 hf => ?_)
    refine w_istore_n dX35_number_37 rfl (by decide) (ls' := [some (.ref l0), some (.int q9.1)]) rfl ?_
    refine w_aload_n dX35_number_38 rfl rfl ?_
    refine w_dup dX35_number_39 rfl ?_
    obtain ⟨x10, b11, hf⟩ := Option.bind_eq_some_iff.mp hf
    refine GX35_353 b11 dX35_number_40 rfl ?_
    refine w_iconst dX35_number_43 (v := 1) (by decide) ?_
    refine w_isub dX35_number_44 ?_
    obtain ⟨h12, b13, hf⟩ := Option.bind_eq_some_iff.mp hf
    refine SX35_353 b13 dX35_number_45 rfl ?_
    refine w_iload_n dX35_number_48 rfl rfl ?_
    cases hf
    exact w_iret dX35_number_49 rfl rfl rfl
  · replace hf := (if_neg (show ¬ (x1 ≤ 0) from c3)).symm.trans hf
    refine w_iconst dX35_number_21 (v := 0) (by decide) ?_
    cases hf
    exact w_iret dX35_number_22 rfl rfl rfl
def fX35_number (N : Nat) (sE : Nat → Int32 → eH → Option (Unit × eH)) (sN : Nat → eH → Option (Int32 × eH)) (this : Nat) (h : eH) : Option (Int32 × eH) :=
  (g_I 34 h this 45).bind fun x1 =>
  if ¬ x1 = (40 : Int32) then
    fX35_number_b14 N sE sN this h
  else
    (k_ok 34 h this).bind fun _ =>
    (fX35_fail this (3 : Int32) h).bind fun q5 =>
    fX35_number_b14 N sE sN this q5.2
theorem pX35_number {w : eW} {d : Nat} {dr : Nat} (hd : dr + 9 ≤ d) (hdr : 12 ≤ dr) {N : Nat} {sE : Nat → Int32 → eH → Option (Unit × eH)} {sN : Nat → eH → Option (Int32 × eH)} (hsE : ∀ a t0 h q, sE a t0 h = some q → wm w dr YX35_expand [.ref a, .int t0] h (e_is (e_rn c_V q))) (hsN : ∀ a h q, sN a h = some q → wm w dr YX35_number [.ref a] h (e_is (e_rn c_I q))) {this : Nat} {h : eH} {q} (hf : fX35_number N sE sN this h = some q) : wm w d YX35_number [.ref this] h (e_is (e_rn c_I q)) := by
  obtain ⟨d, rfl⟩ : ∃ e, d = e + 1 := ⟨d - 1, by omega⟩
  show wp w (d + 1) YX35_number 0 [some (.ref this), none] [] h _
  unfold fX35_number at hf
  refine w_aload_n dX35_number_0 rfl rfl ?_
  obtain ⟨x1, b2, hf⟩ := Option.bind_eq_some_iff.mp hf
  refine GX35_353 b2 dX35_number_1 rfl ?_
  refine w_bipush dX35_number_4 (v := 40) (by decide) ?_
  refine w_icmp_ne 14 dX35_number_6 (by decide) (fun c3 => ?_) (fun c3 => ?_)
  · replace hf := (if_pos (show ¬ x1 = (40 : Int32) from c3)).symm.trans hf
    exact (pX35_number_b14 hd hdr hsE hsN hf).to ⟨rfl, trivial⟩
  · replace hf := (if_neg (show ¬ (¬ x1 = (40 : Int32)) from (fun z => z c3))).symm.trans hf
    refine w_aload_n dX35_number_9 rfl rfl ?_
    refine w_iconst dX35_number_10 (v := 3) (by decide) ?_
    obtain ⟨_, b4, hf⟩ := Option.bind_eq_some_iff.mp hf
    refine x_cnV hf (e_stV (Yc := YX35_fail) (ci := 34) (av := [.int (3 : Int32)]) (st := []) dX35_number_11 q5109 mX35_fail rfl (k_ok_some b4).1 (k_ok_some b4).2) mX35_fail.2.2.1 mX35_fail.2.2.2.2.1 (Nat.le_of_ble_eq_true rfl) (Nat.le_of_ble_eq_true rfl) (fun q hq => pX35_fail (by omega) hq) (fun q5 hf => ?_)
    exact (pX35_number_b14 hd hdr hsE hsN hf).to ⟨rfl, trivial⟩
abbrev cX35_out : ByteArray := prog_37_method_9_code
def yX35_out : MethodName := ⟨RX35, "out", "(I)I"⟩
def YX35_out : eY := (yX35_out, cX35_out, 2, (Option.some FieldType.int), [])
theorem mX35_out : e_mv YX35_out RX35 1 := ⟨q6065, q6066, q6067, by decide, by decide +kernel, (e_sig (by decide +kernel))⟩
theorem dX35_out_0 : decode cX35_out 0 = .ok (.aload_n 0, 1) := dc_42 (by decide +kernel)
theorem dX35_out_1 : decode cX35_out 1 = .ok (.iload_n 1, 1) := dc_27 (by decide +kernel)
theorem dX35_out_2 : decode cX35_out 2 = .ok (.ifCond .lt 14, 3) := dc_155 (a := 0) (b := 14) (v := 14) (by decide +kernel)
theorem dX35_out_5 : decode cX35_out 5 = .ok (.iload_n 1, 1) := dc_27 (by decide +kernel)
theorem dX35_out_6 : decode cX35_out 6 = .ok (.aload_n 0, 1) := dc_42 (by decide +kernel)
theorem dX35_out_7 : decode cX35_out 7 = .ok (.getfield 42, 3) := dc_180 (a := 0) (b := 42) (n := 42) (by decide +kernel)
theorem dX35_out_10 : decode cX35_out 10 = .ok (.getfield 294, 3) := dc_180 (a := 1) (b := 38) (n := 294) (by decide +kernel)
theorem dX35_out_13 : decode cX35_out 13 = .ok (.if_icmp .lt 7, 3) := dc_161 (a := 0) (b := 7) (v := 7) (by decide +kernel)
theorem dX35_out_16 : decode cX35_out 16 = .ok (.iconst 1, 1) := dc_4 (by decide +kernel)
theorem dX35_out_17 : decode cX35_out 17 = .ok (.goto 4, 3) := dc_167 (a := 0) (b := 4) (v := 4) (by decide +kernel)
theorem dX35_out_20 : decode cX35_out 20 = .ok (.iconst 0, 1) := dc_3 (by decide +kernel)
theorem dX35_out_21 : decode cX35_out 21 = .ok (.putfield 252, 3) := dc_181 (a := 0) (b := 252) (n := 252) (by decide +kernel)
theorem dX35_out_24 : decode cX35_out 24 = .ok (.aload_n 0, 1) := dc_42 (by decide +kernel)
theorem dX35_out_25 : decode cX35_out 25 = .ok (.getfield 252, 3) := dc_180 (a := 0) (b := 252) (n := 252) (by decide +kernel)
theorem dX35_out_28 : decode cX35_out 28 = .ok (.ifCond .le 7, 3) := dc_158 (a := 0) (b := 7) (v := 7) (by decide +kernel)
theorem dX35_out_31 : decode cX35_out 31 = .ok (.iconst 0, 1) := dc_3 (by decide +kernel)
theorem dX35_out_32 : decode cX35_out 32 = .ok (.goto 16, 3) := dc_167 (a := 0) (b := 16) (v := 16) (by decide +kernel)
theorem dX35_out_35 : decode cX35_out 35 = .ok (.aload_n 0, 1) := dc_42 (by decide +kernel)
theorem dX35_out_36 : decode cX35_out 36 = .ok (.getfield 42, 3) := dc_180 (a := 0) (b := 42) (n := 42) (by decide +kernel)
theorem dX35_out_39 : decode cX35_out 39 = .ok (.getfield 297, 3) := dc_180 (a := 1) (b := 41) (n := 297) (by decide +kernel)
theorem dX35_out_42 : decode cX35_out 42 = .ok (.iload_n 1, 1) := dc_27 (by decide +kernel)
theorem dX35_out_43 : decode cX35_out 43 = .ok (.baload, 1) := dc_51 (by decide +kernel)
theorem dX35_out_44 : decode cX35_out 44 = .ok (.sipush 255, 3) := dc_17 (a := 0) (b := 255) (v := 255) (by decide +kernel)
theorem dX35_out_47 : decode cX35_out 47 = .ok (.iand, 1) := dc_126 (by decide +kernel)
theorem dX35_out_48 : decode cX35_out 48 = .ok (.ireturn, 1) := dc_172 (by decide +kernel)
theorem GX35_294 {w : eW} {d : Nat} {Y : eY} {pc : Nat} {ls : eL} {st : List Value} {h : eH} {Q : eO → eH → Prop} {a : Nat} {x : Int32} (hf : g_I 37 h a 5 = some x) (hd : decode Y.2.1 pc = .ok (.getfield 294, 3)) (hY : Y.1.cls = RX35) (kk : wp w d Y (pc + 3) ls (.int x :: st) h Q) : wp w d Y pc ls (.ref a :: st) h Q := x_gIN (ci := 37) (k := 5) hf hd rfl (by decide) (by rw [hY]; exact q4396) kk
theorem GX35_297 {w : eW} {d : Nat} {Y : eY} {pc : Nat} {ls : eL} {st : List Value} {h : eH} {Q : eO → eH → Prop} {a : Nat} {x : Nat} (hf : g_A 37 h a 6 = some x) (hd : decode Y.2.1 pc = .ok (.getfield 297, 3)) (hY : Y.1.cls = RX35) (kk : wp w d Y (pc + 3) ls (.ref x :: st) h Q) : wp w d Y pc ls (.ref a :: st) h Q := x_gAN (ci := 37) (k := 6) hf hd rfl (by decide) (by rw [hY]; exact q4398) kk
def fX35_out_b48 (s0 : Int32) (h : eH) : Option (Int32 × eH) :=
  some (s0, h)
theorem pX35_out_b48 {w : eW} {d : Nat} (hd : 0 ≤ d) {s0 : Int32} {h : eH} {q} (hf : fX35_out_b48 s0 h = some q) : wp w d YX35_out 48 [none, none] [.int s0] h (e_is (e_rn c_I q)) := by
  unfold fX35_out_b48 at hf
  cases hf
  exact w_iret dX35_out_48 rfl rfl rfl
def fX35_out_b21 (l0 : Nat) (l1 : Int32) (s0 : Nat) (s1 : Int32) (h : eH) : Option (Int32 × eH) :=
  (p_V 34 h s0 0 (.int s1)).bind fun h1 =>
  (g_I 34 h1 l0 0).bind fun x3 =>
  if x3 ≤ 0 then
    (g_A 34 h1 l0 7).bind fun a6 =>
    (g_A 37 h1 a6 6).bind fun a8 =>
    (r_I 102 h1 a8 l1).bind fun x10 =>
    fX35_out_b48 (x10 &&& (255 : Int32)) h1
  else
    fX35_out_b48 (0 : Int32) h1
theorem pX35_out_b21 {w : eW} {d : Nat} (hd : 0 ≤ d) {l0 : Nat} {l1 : Int32} {s0 : Nat} {s1 : Int32} {h : eH} {q} (hf : fX35_out_b21 l0 l1 s0 s1 h = some q) : wp w d YX35_out 21 [some (.ref l0), some (.int l1)] [.int s1, .ref s0] h (e_is (e_rn c_I q)) := by
  unfold fX35_out_b21 at hf
  obtain ⟨h1, b2, hf⟩ := Option.bind_eq_some_iff.mp hf
  refine SX35_252 b2 dX35_out_21 rfl ?_
  refine w_aload_n dX35_out_24 rfl rfl ?_
  obtain ⟨x3, b4, hf⟩ := Option.bind_eq_some_iff.mp hf
  refine GX35_252 b4 dX35_out_25 rfl ?_
  refine w_if_le 35 dX35_out_28 (by decide) (fun c5 => ?_) (fun c5 => ?_)
  · replace hf := (if_pos (show x3 ≤ 0 from c5)).symm.trans hf
    refine w_aload_n dX35_out_35 rfl rfl ?_
    obtain ⟨a6, b7, hf⟩ := Option.bind_eq_some_iff.mp hf
    refine GX35_42 b7 dX35_out_36 rfl ?_
    obtain ⟨a8, b9, hf⟩ := Option.bind_eq_some_iff.mp hf
    refine GX35_297 b9 dX35_out_39 rfl ?_
    refine w_iload_n dX35_out_42 rfl rfl ?_
    obtain ⟨x10, b11, hf⟩ := Option.bind_eq_some_iff.mp hf
    refine x_rB b11 dX35_out_43 ?_
    refine w_sipush dX35_out_44 (v := 255) (by decide) ?_
    refine w_iand dX35_out_47 ?_
    exact (pX35_out_b48 hd hf).to trivial
  · replace hf := (if_neg (show ¬ (x3 ≤ 0) from c5)).symm.trans hf
    refine w_iconst dX35_out_31 (v := 0) (by decide) ?_
    refine w_goto 48 dX35_out_32 (by decide) ?_
    exact (pX35_out_b48 hd hf).to trivial
def fX35_out_b16 (l0 : Nat) (l1 : Int32) (s0 : Nat) (h : eH) : Option (Int32 × eH) :=
  fX35_out_b21 l0 l1 s0 (1 : Int32) h
theorem pX35_out_b16 {w : eW} {d : Nat} (hd : 0 ≤ d) {l0 : Nat} {l1 : Int32} {s0 : Nat} {h : eH} {q} (hf : fX35_out_b16 l0 l1 s0 h = some q) : wp w d YX35_out 16 [some (.ref l0), some (.int l1)] [.ref s0] h (e_is (e_rn c_I q)) := by
  unfold fX35_out_b16 at hf
  refine w_iconst dX35_out_16 (v := 1) (by decide) ?_
  refine w_goto 21 dX35_out_17 (by decide) ?_
  exact (pX35_out_b21 hd hf).to ⟨rfl, rfl, trivial⟩
def fX35_out (this : Nat) (p0 : Int32) (h : eH) : Option (Int32 × eH) :=
  if p0 < 0 then
    fX35_out_b16 this p0 this h
  else
    (g_A 34 h this 7).bind fun a2 =>
    (g_I 37 h a2 5).bind fun x4 =>
    if p0 < x4 then
      fX35_out_b21 this p0 this (0 : Int32) h
    else
      fX35_out_b16 this p0 this h
theorem pX35_out {w : eW} {d : Nat} (hd : 0 ≤ d) {this : Nat} {p0 : Int32} {h : eH} {q} (hf : fX35_out this p0 h = some q) : wm w d YX35_out [.ref this, .int p0] h (e_is (e_rn c_I q)) := by
  show wp w d YX35_out 0 [some (.ref this), some (.int p0)] [] h _
  unfold fX35_out at hf
  refine w_aload_n dX35_out_0 rfl rfl ?_
  refine w_iload_n dX35_out_1 rfl rfl ?_
  refine w_if_lt 16 dX35_out_2 (by decide) (fun c1 => ?_) (fun c1 => ?_)
  · replace hf := (if_pos (show p0 < 0 from c1)).symm.trans hf
    exact (pX35_out_b16 hd hf).to ⟨rfl, rfl, trivial⟩
  · replace hf := (if_neg (show ¬ (p0 < 0) from c1)).symm.trans hf
    refine w_iload_n dX35_out_5 rfl rfl ?_
    refine w_aload_n dX35_out_6 rfl rfl ?_
    obtain ⟨a2, b3, hf⟩ := Option.bind_eq_some_iff.mp hf
    refine GX35_42 b3 dX35_out_7 rfl ?_
    obtain ⟨x4, b5, hf⟩ := Option.bind_eq_some_iff.mp hf
    refine GX35_294 b5 dX35_out_10 rfl ?_
    refine w_icmp_lt 20 dX35_out_13 (by decide) (fun c6 => ?_) (fun c6 => ?_)
    · replace hf := (if_pos (show p0 < x4 from c6)).symm.trans hf
      refine w_iconst dX35_out_20 (v := 0) (by decide) ?_
      exact (pX35_out_b21 hd hf).to ⟨rfl, rfl, trivial⟩
    · replace hf := (if_neg (show ¬ (p0 < x4) from c6)).symm.trans hf
      exact (pX35_out_b16 hd hf).to ⟨rfl, rfl, trivial⟩
abbrev cX35_size : ByteArray := prog_37_method_8_code
def yX35_size : MethodName := ⟨RX35, "size", "()I"⟩
def YX35_size : eY := (yX35_size, cX35_size, 1, (Option.some FieldType.int), [])
theorem mX35_size : e_mv YX35_size RX35 0 := ⟨q6061, q6062, q6063, by decide, by decide +kernel, (e_sig (by decide +kernel))⟩
theorem dX35_size_0 : decode cX35_size 0 = .ok (.aload_n 0, 1) := dc_42 (by decide +kernel)
theorem dX35_size_1 : decode cX35_size 1 = .ok (.iconst 0, 1) := dc_3 (by decide +kernel)
theorem dX35_size_2 : decode cX35_size 2 = .ok (.putfield 252, 3) := dc_181 (a := 0) (b := 252) (n := 252) (by decide +kernel)
theorem dX35_size_5 : decode cX35_size 5 = .ok (.aload_n 0, 1) := dc_42 (by decide +kernel)
theorem dX35_size_6 : decode cX35_size 6 = .ok (.getfield 42, 3) := dc_180 (a := 0) (b := 42) (n := 42) (by decide +kernel)
theorem dX35_size_9 : decode cX35_size 9 = .ok (.getfield 294, 3) := dc_180 (a := 1) (b := 38) (n := 294) (by decide +kernel)
theorem dX35_size_12 : decode cX35_size 12 = .ok (.ireturn, 1) := dc_172 (by decide +kernel)
def fX35_size (this : Nat) (h : eH) : Option (Int32 × eH) :=
  (p_V 34 h this 0 (.int (0 : Int32))).bind fun h1 =>
  (g_A 34 h1 this 7).bind fun a3 =>
  (g_I 37 h1 a3 5).bind fun x5 =>
  some (x5, h1)
theorem pX35_size {w : eW} {d : Nat} (hd : 0 ≤ d) {this : Nat} {h : eH} {q} (hf : fX35_size this h = some q) : wm w d YX35_size [.ref this] h (e_is (e_rn c_I q)) := by
  show wp w d YX35_size 0 [some (.ref this)] [] h _
  unfold fX35_size at hf
  refine w_aload_n dX35_size_0 rfl rfl ?_
  refine w_iconst dX35_size_1 (v := 0) (by decide) ?_
  obtain ⟨h1, b2, hf⟩ := Option.bind_eq_some_iff.mp hf
  refine SX35_252 b2 dX35_size_2 rfl ?_
  refine w_aload_n dX35_size_5 rfl rfl ?_
  obtain ⟨a3, b4, hf⟩ := Option.bind_eq_some_iff.mp hf
  refine GX35_42 b4 dX35_size_6 rfl ?_
  obtain ⟨x5, b6, hf⟩ := Option.bind_eq_some_iff.mp hf
  refine GX35_294 b6 dX35_size_9 rfl ?_
  cases hf
  exact w_iret dX35_size_12 rfl rfl rfl
abbrev cX35_thrown : ByteArray := prog_37_method_2_code
def yX35_thrown : MethodName := ⟨RX35, "thrown", "()I"⟩
def YX35_thrown : eY := (yX35_thrown, cX35_thrown, 1, (Option.some FieldType.int), [])
theorem mX35_thrown : e_mv YX35_thrown RX35 0 := ⟨q4890, q4891, q4892, by decide, by decide +kernel, (e_sig (by decide +kernel))⟩
theorem dX35_thrown_0 : decode cX35_thrown 0 = .ok (.aload_n 0, 1) := dc_42 (by decide +kernel)
theorem dX35_thrown_1 : decode cX35_thrown 1 = .ok (.getfield 252, 3) := dc_180 (a := 0) (b := 252) (n := 252) (by decide +kernel)
theorem dX35_thrown_4 : decode cX35_thrown 4 = .ok (.ireturn, 1) := dc_172 (by decide +kernel)
def fX35_thrown (this : Nat) (h : eH) : Option (Int32 × eH) :=
  (g_I 34 h this 0).bind fun x1 =>
  some (x1, h)
theorem pX35_thrown {w : eW} {d : Nat} (hd : 0 ≤ d) {this : Nat} {h : eH} {q} (hf : fX35_thrown this h = some q) : wm w d YX35_thrown [.ref this] h (e_is (e_rn c_I q)) := by
  show wp w d YX35_thrown 0 [some (.ref this)] [] h _
  unfold fX35_thrown at hf
  refine w_aload_n dX35_thrown_0 rfl rfl ?_
  obtain ⟨x1, b2, hf⟩ := Option.bind_eq_some_iff.mp hf
  refine GX35_252 b2 dX35_thrown_1 rfl ?_
  cases hf
  exact w_iret dX35_thrown_4 rfl rfl rfl
