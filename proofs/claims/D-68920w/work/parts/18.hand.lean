set_option maxRecDepth 100000
def RJ0 : String := "java/util/Arrays"
def RJ1 : String := "java/lang/String"
def RJ2 : String := "java/lang/StringLatin1"
def RJ3 : String := "jdk/internal/util/Preconditions"
theorem q462 : (Jvm.Cond.initialized "java/lang/String") ∈ lw_all := lw_g (lw_at lw_m1 37 rfl) rfl
theorem q464 : (Jvm.Cond.initialized "jdk/internal/util/Preconditions") ∈ lw_all := lw_g (lw_at lw_m1 39 rfl) rfl
theorem q1971 : (Jvm.Cond.static ({ cls := "java/lang/String", name := "checkIndex", desc := "(II)V" } : Jvm.MethodName)) ∈ lw_all := lw_g (lw_at lw_m7 106 rfl) rfl
theorem q1972 : (Jvm.Cond.code ({ cls := "java/lang/String", name := "checkIndex", desc := "(II)V" } : Jvm.MethodName) prog_51_method_155_code (2 : Nat) (Option.none : Option Jvm.ClassFile.FieldType)) ∈ lw_all := lw_g (lw_at lw_m7 107 rfl) rfl
theorem q1973 : (Jvm.Cond.fieldLink "java/lang/String" (1053 : Nat) "jdk/internal/util/Preconditions" "SIOOBE_FORMATTER" "Ljava/util/function/BiFunction;") ∈ lw_all := lw_g (lw_at lw_m7 108 rfl) rfl
theorem q1975 : (Jvm.Cond.methodLink "java/lang/String" (1059 : Nat) ({ cls := "jdk/internal/util/Preconditions", name := "checkIndex", desc := "(IILjava/util/function/BiFunction;)I" } : Jvm.MethodName)) ∈ lw_all := lw_g (lw_at lw_m7 110 rfl) rfl
theorem q1976 : (Jvm.Cond.static ({ cls := "jdk/internal/util/Preconditions", name := "checkIndex", desc := "(IILjava/util/function/BiFunction;)I" } : Jvm.MethodName)) ∈ lw_all := lw_g (lw_at lw_m7 111 rfl) rfl
theorem q1977 : (Jvm.Cond.code ({ cls := "jdk/internal/util/Preconditions", name := "checkIndex", desc := "(IILjava/util/function/BiFunction;)I" } : Jvm.MethodName) prog_60_method_11_code (3 : Nat) (Option.some Jvm.ClassFile.FieldType.int)) ∈ lw_all := lw_g (lw_at lw_m7 112 rfl) rfl
abbrev cJ1_checkIndex : ByteArray := prog_51_method_155_code
def yJ1_checkIndex : MethodName := ⟨RJ1, "checkIndex", "(II)V"⟩
def YJ1_checkIndex : eY := (yJ1_checkIndex, cJ1_checkIndex, 2, none, [])
theorem mJ1_checkIndex : e_ms YJ1_checkIndex 2 := ⟨q1971, q462, q1972, by decide, by decide +kernel, (e_sig (by decide +kernel))⟩
theorem dJ1_checkIndex_0 : decode cJ1_checkIndex 0 = .ok (.iload_n 0, 1) := dc_26 (by decide +kernel)
theorem dJ1_checkIndex_1 : decode cJ1_checkIndex 1 = .ok (.iload_n 1, 1) := dc_27 (by decide +kernel)
theorem dJ1_checkIndex_2 : decode cJ1_checkIndex 2 = .ok (.getstatic 1053, 3) := dc_178 (a := 4) (b := 29) (n := 1053) (by decide +kernel)
theorem dJ1_checkIndex_5 : decode cJ1_checkIndex 5 = .ok (.invokestatic 1059, 3) := dc_184 (a := 4) (b := 35) (n := 1059) (by decide +kernel)
theorem dJ1_checkIndex_8 : decode cJ1_checkIndex 8 = .ok (.pop, 1) := dc_87 (by decide +kernel)
theorem dJ1_checkIndex_9 : decode cJ1_checkIndex 9 = .ok (.return_, 1) := dc_177 (by decide +kernel)
abbrev cJ3_checkIndex : ByteArray := prog_60_method_11_code
def yJ3_checkIndex : MethodName := ⟨RJ3, "checkIndex", "(IILjava/util/function/BiFunction;)I"⟩
def YJ3_checkIndex : eY := (yJ3_checkIndex, cJ3_checkIndex, 3, (Option.some FieldType.int), [])
theorem mJ3_checkIndex : e_ms YJ3_checkIndex 3 := ⟨q1976, q464, q1977, by decide, by decide +kernel, (e_sig (by decide +kernel))⟩
theorem dJ3_checkIndex_0 : decode cJ3_checkIndex 0 = .ok (.iload_n 0, 1) := dc_26 (by decide +kernel)
theorem dJ3_checkIndex_1 : decode cJ3_checkIndex 1 = .ok (.ifCond .lt 8, 3) := dc_155 (a := 0) (b := 8) (v := 8) (by decide +kernel)
theorem dJ3_checkIndex_4 : decode cJ3_checkIndex 4 = .ok (.iload_n 0, 1) := dc_26 (by decide +kernel)
theorem dJ3_checkIndex_5 : decode cJ3_checkIndex 5 = .ok (.iload_n 1, 1) := dc_27 (by decide +kernel)
theorem dJ3_checkIndex_6 : decode cJ3_checkIndex 6 = .ok (.if_icmp .lt 10, 3) := dc_161 (a := 0) (b := 10) (v := 10) (by decide +kernel)
theorem dJ3_checkIndex_9 : decode cJ3_checkIndex 9 = .ok (.aload_n 2, 1) := dc_44 (by decide +kernel)
theorem dJ3_checkIndex_10 : decode cJ3_checkIndex 10 = .ok (.iload_n 0, 1) := dc_26 (by decide +kernel)
theorem dJ3_checkIndex_11 : decode cJ3_checkIndex 11 = .ok (.iload_n 1, 1) := dc_27 (by decide +kernel)
theorem dJ3_checkIndex_12 : decode cJ3_checkIndex 12 = .ok (.invokestatic 95, 3) := dc_184 (a := 0) (b := 95) (n := 95) (by decide +kernel)
theorem dJ3_checkIndex_15 : decode cJ3_checkIndex 15 = .ok (.athrow, 1) := dc_191 (by decide +kernel)
theorem dJ3_checkIndex_16 : decode cJ3_checkIndex 16 = .ok (.iload_n 0, 1) := dc_26 (by decide +kernel)
theorem dJ3_checkIndex_17 : decode cJ3_checkIndex 17 = .ok (.ireturn, 1) := dc_172 (by decide +kernel)
def c_r {α : Type} (x : Int32) (r : α) : Option α := if (x.toUInt32 % 65536).toInt32 = x then some r else none
def b_r {α : Type} (x : Int32) (r : α) : Option α := if x.toInt8.toInt32 = x then some r else none
theorem c_r_some {α : Type} {x : Int32} {r q : α} (h : c_r x r = some q) : narrow .char (.int x) = .int x ∧ q = r := by
  unfold c_r at h
  split at h
  · rename_i hc; refine ⟨?_, (Option.some.inj h).symm⟩
    show Value.int _ = _
    exact congrArg Value.int hc
  · cases h
theorem b_r_some {α : Type} {x : Int32} {r q : α} (h : b_r x r = some q) : narrow .byte (.int x) = .int x ∧ q = r := by
  unfold b_r at h
  split at h
  · rename_i hc; refine ⟨?_, (Option.some.inj h).symm⟩
    show Value.int _ = _
    exact congrArg Value.int hc
  · cases h
theorem wp_T {w : eW} {d : Nat} {Y : eY} {pc : Nat} {ls : eL} {st : List Value} {h : eH} {Q : eO → eH → Prop} (k : (∀ j, w_pv w j = .null ∨ ∃ b, w_pv w j = .ref b) → wp w d Y pc ls st h Q) : wp w d Y pc ls st h Q := by
  intro p l e R s m args below meth c H locs cells slots L a1 a2 a3 a4
  exact k a4.2.2.2.2.2.2.2.1.1 p l e R s m args below meth c H locs cells slots L a1 a2 a3 a4
def fJ3_checkIndex (p0 p1 : Int32) (h : eH) : Option (Int32 × eH) := if p0 < 0 then none else if p0 < p1 then some (p0, h) else none
theorem pJ3_checkIndex {w : eW} {d : Nat} {p0 p1 : Int32} {v : Value} (hv : v = .null ∨ ∃ b, v = .ref b) {h : eH} {q} (hf : fJ3_checkIndex p0 p1 h = some q) : wm w d YJ3_checkIndex [.int p0, .int p1, v] h (e_is (e_rn c_I q)) := by
  have hent : e_ent 3 [.int p0, .int p1, v] = [some (.int p0), some (.int p1), some v] := by rcases hv with e | ⟨b, e⟩ <;> subst e <;> rfl
  show wp w d YJ3_checkIndex 0 (e_ent 3 [.int p0, .int p1, v]) [] h _
  rw [hent]
  unfold fJ3_checkIndex at hf
  refine w_iload_n dJ3_checkIndex_0 rfl rfl ?_
  refine w_if_lt 9 dJ3_checkIndex_1 (by decide) (fun c => ?_) (fun c => ?_)
  · exact absurd ((if_pos (show p0 < 0 from c)).symm.trans hf) (by simp)
  replace hf := (if_neg (show ¬ (p0 < 0) from (by first | exact c | simpa using c))).symm.trans hf
  refine w_iload_n dJ3_checkIndex_4 rfl rfl ?_
  refine w_iload_n dJ3_checkIndex_5 rfl rfl ?_
  refine w_icmp_lt 16 dJ3_checkIndex_6 (by decide) (fun c => ?_) (fun c => ?_)
  · replace hf := (if_pos (show p0 < p1 from c)).symm.trans hf
    refine w_iload_n dJ3_checkIndex_16 rfl rfl ?_
    cases hf
    exact w_iret dJ3_checkIndex_17 rfl rfl rfl
  · exact absurd ((if_neg (show ¬ (p0 < p1) from (by first | exact c | simpa using c))).symm.trans hf) (by simp)
def fJ1_checkIndex (p0 p1 : Int32) (h : eH) : Option (Unit × eH) := (fJ3_checkIndex p0 p1 h).bind fun q1 => some ((), q1.2)
theorem pJ1_checkIndex {w : eW} {d : Nat} (hd : 1 ≤ d) {p0 p1 : Int32} {h : eH} {q} (hf : fJ1_checkIndex p0 p1 h = some q) : wm w d YJ1_checkIndex [.int p0, .int p1] h (e_is (e_rn c_V q)) := by
  obtain ⟨d, rfl⟩ : ∃ e, d = e + 1 := ⟨d - 1, by omega⟩
  show wp w (d + 1) YJ1_checkIndex 0 [some (.int p0), some (.int p1)] [] h _
  unfold fJ1_checkIndex at hf
  refine wp_T fun hv => ?_
  refine w_iload_n dJ1_checkIndex_0 rfl rfl ?_
  refine w_iload_n dJ1_checkIndex_1 rfl rfl ?_
  refine x_gs (j := 3) dJ1_checkIndex_2 rfl q1973 ?_
  refine x_cnI hf (e_stS (Yc := YJ3_checkIndex) (av := [.int p0, .int p1, w_pv w 0]) (st := []) dJ1_checkIndex_5 q1975 mJ3_checkIndex) mJ3_checkIndex.2.2.1 mJ3_checkIndex.2.2.2.2.1 (by rcases hv 0 with e | ⟨b, e⟩ <;> rw [e] <;> exact (Nat.le_of_ble_eq_true rfl)) (Nat.le_of_ble_eq_true rfl) (fun q hq => pJ3_checkIndex (hv 0) hq) (fun q1 hf => ?_)
  refine w_pop dJ1_checkIndex_8 rfl ?_
  cases hf
  exact w_vret dJ1_checkIndex_9 rfl rfl
