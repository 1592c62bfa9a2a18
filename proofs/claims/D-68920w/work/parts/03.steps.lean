/-! the rows of 'wp': one an instruction -/
section
variable {w : eW} {d : Nat} {Y : eY} {pc : Nat} {ls : eL} {st : List Value} {h : eH} {Q : eO → eH → Prop}
theorem w_iconst {n : Int} {v : Int32} (hd : decode Y.2.1 pc = .ok (.iconst n, 1)) (hv : Int32.ofInt n = v) (k : wp w d Y (pc + 1) ls (.int v :: st) h Q) : wp w d Y pc ls (st) h Q := by
  intro p l e R s m args below meth c H locs cells slots L a1 a2 a3 a4 a5 a6 a7 a8 a9 a10 a11
  exact lv_iconst a1 a3.2.2.1 hd hv (k p l e R s m args below meth c H locs cells slots L a1 a2 a3 a4 a5 a6 a7 a8 a9 a10 a11)
theorem w_bipush {n : Int} {v : Int32} (hd : decode Y.2.1 pc = .ok (.bipush n, 2)) (hv : (Int8.ofInt n).toInt32 = v) (k : wp w d Y (pc + 2) ls (.int v :: st) h Q) : wp w d Y pc ls (st) h Q := by
  intro p l e R s m args below meth c H locs cells slots L a1 a2 a3 a4 a5 a6 a7 a8 a9 a10 a11
  exact lv_bipush a1 a3.2.2.1 hd hv (k p l e R s m args below meth c H locs cells slots L a1 a2 a3 a4 a5 a6 a7 a8 a9 a10 a11)
theorem w_sipush {n : Int} {v : Int32} (hd : decode Y.2.1 pc = .ok (.sipush n, 3)) (hv : (Int16.ofInt n).toInt32 = v) (k : wp w d Y (pc + 3) ls (.int v :: st) h Q) : wp w d Y pc ls (st) h Q := by
  intro p l e R s m args below meth c H locs cells slots L a1 a2 a3 a4 a5 a6 a7 a8 a9 a10 a11
  exact lv_sipush a1 a3.2.2.1 hd hv (k p l e R s m args below meth c H locs cells slots L a1 a2 a3 a4 a5 a6 a7 a8 a9 a10 a11)
theorem w_lconst {n : Fin 2} {v : Int64} (hd : decode Y.2.1 pc = .ok (.lconst n, 1)) (hv : Int64.ofNat (n : Nat) = v) (k : wp w d Y (pc + 1) ls (.long v :: st) h Q) : wp w d Y pc ls (st) h Q := by
  intro p l e R s m args below meth c H locs cells slots L a1 a2 a3 a4 a5 a6 a7 a8 a9 a10 a11
  exact lv_lconst a1 a3.2.2.1 hd hv (k p l e R s m args below meth c H locs cells slots L a1 a2 a3 a4 a5 a6 a7 a8 a9 a10 a11)
theorem w_null (hd : decode Y.2.1 pc = .ok (.aconst_null, 1)) (k : wp w d Y (pc + 1) ls (.null :: st) h Q) : wp w d Y pc ls (st) h Q := by
  intro p l e R s m args below meth c H locs cells slots L a1 a2 a3 a4 a5 a6 a7 a8 a9 a10 a11
  exact lv_null a1 a3.2.2.1 hd (k p l e R s m args below meth c H locs cells slots L a1 a2 a3 a4 a5 a6 a7 a8 a9 a10 a11)
theorem w_iload_n {n : Fin 4} {i : Nat} {x : Int32} (hd : decode Y.2.1 pc = .ok (.iload_n n, 1)) (hi : (n : Nat) = i) (hl : ls[i]? = some (some (.int x))) (k : wp w d Y (pc + 1) ls (.int x :: st) h Q) : wp w d Y pc ls (st) h Q := by
  intro p l e R s m args below meth c H locs cells slots L a1 a2 a3 a4 a5 a6 a7 a8 a9 a10 a11
  exact lv_iload_n a1 a3.2.2.1 hd hi (a6.at hl) (k p l e R s m args below meth c H locs cells slots L a1 a2 a3 a4 a5 a6 a7 a8 a9 a10 a11)
theorem w_iload {i : Nat} {x : Int32} (hd : decode Y.2.1 pc = .ok (.iload i, 2)) (hl : ls[i]? = some (some (.int x))) (k : wp w d Y (pc + 2) ls (.int x :: st) h Q) : wp w d Y pc ls (st) h Q := by
  intro p l e R s m args below meth c H locs cells slots L a1 a2 a3 a4 a5 a6 a7 a8 a9 a10 a11
  exact lv_iload a1 a3.2.2.1 hd (a6.at hl) (k p l e R s m args below meth c H locs cells slots L a1 a2 a3 a4 a5 a6 a7 a8 a9 a10 a11)
theorem w_lload_n {n : Fin 4} {i : Nat} {x : Int64} (hd : decode Y.2.1 pc = .ok (.lload_n n, 1)) (hi : (n : Nat) = i) (hl : ls[i]? = some (some (.long x))) (k : wp w d Y (pc + 1) ls (.long x :: st) h Q) : wp w d Y pc ls (st) h Q := by
  intro p l e R s m args below meth c H locs cells slots L a1 a2 a3 a4 a5 a6 a7 a8 a9 a10 a11
  exact lv_lload_n a1 a3.2.2.1 hd hi (a6.at hl) (k p l e R s m args below meth c H locs cells slots L a1 a2 a3 a4 a5 a6 a7 a8 a9 a10 a11)
theorem w_lload {i : Nat} {x : Int64} (hd : decode Y.2.1 pc = .ok (.lload i, 2)) (hl : ls[i]? = some (some (.long x))) (k : wp w d Y (pc + 2) ls (.long x :: st) h Q) : wp w d Y pc ls (st) h Q := by
  intro p l e R s m args below meth c H locs cells slots L a1 a2 a3 a4 a5 a6 a7 a8 a9 a10 a11
  exact lv_lload a1 a3.2.2.1 hd (a6.at hl) (k p l e R s m args below meth c H locs cells slots L a1 a2 a3 a4 a5 a6 a7 a8 a9 a10 a11)
theorem w_aload_n {n : Fin 4} {i : Nat} {x : Nat} (hd : decode Y.2.1 pc = .ok (.aload_n n, 1)) (hi : (n : Nat) = i) (hl : ls[i]? = some (some (.ref x))) (k : wp w d Y (pc + 1) ls (.ref x :: st) h Q) : wp w d Y pc ls (st) h Q := by
  intro p l e R s m args below meth c H locs cells slots L a1 a2 a3 a4 a5 a6 a7 a8 a9 a10 a11
  exact lv_aload_n a1 a3.2.2.1 hd hi (a6.at hl) (k p l e R s m args below meth c H locs cells slots L a1 a2 a3 a4 a5 a6 a7 a8 a9 a10 a11)
theorem w_aload {i : Nat} {x : Nat} (hd : decode Y.2.1 pc = .ok (.aload i, 2)) (hl : ls[i]? = some (some (.ref x))) (k : wp w d Y (pc + 2) ls (.ref x :: st) h Q) : wp w d Y pc ls (st) h Q := by
  intro p l e R s m args below meth c H locs cells slots L a1 a2 a3 a4 a5 a6 a7 a8 a9 a10 a11
  exact lv_aload a1 a3.2.2.1 hd (a6.at hl) (k p l e R s m args below meth c H locs cells slots L a1 a2 a3 a4 a5 a6 a7 a8 a9 a10 a11)
theorem w_aload_nN {n : Fin 4} {i : Nat} (hd : decode Y.2.1 pc = .ok (.aload_n n, 1)) (hi : (n : Nat) = i) (hl : ls[i]? = some (some .null)) (k : wp w d Y (pc + 1) ls (.null :: st) h Q) : wp w d Y pc ls (st) h Q := by
  intro p l e R s m args below meth c H locs cells slots L a1 a2 a3 a4 a5 a6 a7 a8 a9 a10 a11
  exact lv_aload_nN a1 a3.2.2.1 hd hi (a6.at hl) (k p l e R s m args below meth c H locs cells slots L a1 a2 a3 a4 a5 a6 a7 a8 a9 a10 a11)
theorem w_iadd {x y : Int32} (hd : decode Y.2.1 pc = .ok (.iadd, 1)) (k : wp w d Y (pc + 1) ls (.int (x + y) :: st) h Q) : wp w d Y pc ls (.int y :: .int x :: st) h Q := by
  intro p l e R s m args below meth c H locs cells slots L a1 a2 a3 a4 a5 a6 a7 a8 a9 a10 a11
  exact lv_iadd a1 a3.2.2.1 hd (k p l e R s m args below meth c H locs cells slots L a1 a2 a3 a4 a5 a6 a7 a8 a9 a10 a11)
theorem w_isub {x y : Int32} (hd : decode Y.2.1 pc = .ok (.isub, 1)) (k : wp w d Y (pc + 1) ls (.int (x - y) :: st) h Q) : wp w d Y pc ls (.int y :: .int x :: st) h Q := by
  intro p l e R s m args below meth c H locs cells slots L a1 a2 a3 a4 a5 a6 a7 a8 a9 a10 a11
  exact lv_isub a1 a3.2.2.1 hd (k p l e R s m args below meth c H locs cells slots L a1 a2 a3 a4 a5 a6 a7 a8 a9 a10 a11)
theorem w_imul {x y : Int32} (hd : decode Y.2.1 pc = .ok (.imul, 1)) (k : wp w d Y (pc + 1) ls (.int (x * y) :: st) h Q) : wp w d Y pc ls (.int y :: .int x :: st) h Q := by
  intro p l e R s m args below meth c H locs cells slots L a1 a2 a3 a4 a5 a6 a7 a8 a9 a10 a11
  exact lv_imul a1 a3.2.2.1 hd (k p l e R s m args below meth c H locs cells slots L a1 a2 a3 a4 a5 a6 a7 a8 a9 a10 a11)
theorem w_iand {x y : Int32} (hd : decode Y.2.1 pc = .ok (.iand, 1)) (k : wp w d Y (pc + 1) ls (.int (x &&& y) :: st) h Q) : wp w d Y pc ls (.int y :: .int x :: st) h Q := by
  intro p l e R s m args below meth c H locs cells slots L a1 a2 a3 a4 a5 a6 a7 a8 a9 a10 a11
  exact lv_iand a1 a3.2.2.1 hd (k p l e R s m args below meth c H locs cells slots L a1 a2 a3 a4 a5 a6 a7 a8 a9 a10 a11)
theorem w_ior {x y : Int32} (hd : decode Y.2.1 pc = .ok (.ior, 1)) (k : wp w d Y (pc + 1) ls (.int (x ||| y) :: st) h Q) : wp w d Y pc ls (.int y :: .int x :: st) h Q := by
  intro p l e R s m args below meth c H locs cells slots L a1 a2 a3 a4 a5 a6 a7 a8 a9 a10 a11
  exact lv_ior a1 a3.2.2.1 hd (k p l e R s m args below meth c H locs cells slots L a1 a2 a3 a4 a5 a6 a7 a8 a9 a10 a11)
theorem w_ixor {x y : Int32} (hd : decode Y.2.1 pc = .ok (.ixor, 1)) (k : wp w d Y (pc + 1) ls (.int (x ^^^ y) :: st) h Q) : wp w d Y pc ls (.int y :: .int x :: st) h Q := by
  intro p l e R s m args below meth c H locs cells slots L a1 a2 a3 a4 a5 a6 a7 a8 a9 a10 a11
  exact lv_ixor a1 a3.2.2.1 hd (k p l e R s m args below meth c H locs cells slots L a1 a2 a3 a4 a5 a6 a7 a8 a9 a10 a11)
theorem w_ishl {x y : Int32} (hd : decode Y.2.1 pc = .ok (.ishl, 1)) (k : wp w d Y (pc + 1) ls (.int (x <<< (y &&& 31)) :: st) h Q) : wp w d Y pc ls (.int y :: .int x :: st) h Q := by
  intro p l e R s m args below meth c H locs cells slots L a1 a2 a3 a4 a5 a6 a7 a8 a9 a10 a11
  exact lv_ishl a1 a3.2.2.1 hd (k p l e R s m args below meth c H locs cells slots L a1 a2 a3 a4 a5 a6 a7 a8 a9 a10 a11)
theorem w_ishr {x y : Int32} (hd : decode Y.2.1 pc = .ok (.ishr, 1)) (k : wp w d Y (pc + 1) ls (.int (x >>> (y &&& 31)) :: st) h Q) : wp w d Y pc ls (.int y :: .int x :: st) h Q := by
  intro p l e R s m args below meth c H locs cells slots L a1 a2 a3 a4 a5 a6 a7 a8 a9 a10 a11
  exact lv_ishr a1 a3.2.2.1 hd (k p l e R s m args below meth c H locs cells slots L a1 a2 a3 a4 a5 a6 a7 a8 a9 a10 a11)
theorem w_ladd {x y : Int64} (hd : decode Y.2.1 pc = .ok (.ladd, 1)) (k : wp w d Y (pc + 1) ls (.long (x + y) :: st) h Q) : wp w d Y pc ls (.long y :: .long x :: st) h Q := by
  intro p l e R s m args below meth c H locs cells slots L a1 a2 a3 a4 a5 a6 a7 a8 a9 a10 a11
  exact lv_ladd a1 a3.2.2.1 hd (k p l e R s m args below meth c H locs cells slots L a1 a2 a3 a4 a5 a6 a7 a8 a9 a10 a11)
theorem w_lsub {x y : Int64} (hd : decode Y.2.1 pc = .ok (.lsub, 1)) (k : wp w d Y (pc + 1) ls (.long (x - y) :: st) h Q) : wp w d Y pc ls (.long y :: .long x :: st) h Q := by
  intro p l e R s m args below meth c H locs cells slots L a1 a2 a3 a4 a5 a6 a7 a8 a9 a10 a11
  exact lv_lsub a1 a3.2.2.1 hd (k p l e R s m args below meth c H locs cells slots L a1 a2 a3 a4 a5 a6 a7 a8 a9 a10 a11)
theorem w_lmul {x y : Int64} (hd : decode Y.2.1 pc = .ok (.lmul, 1)) (k : wp w d Y (pc + 1) ls (.long (x * y) :: st) h Q) : wp w d Y pc ls (.long y :: .long x :: st) h Q := by
  intro p l e R s m args below meth c H locs cells slots L a1 a2 a3 a4 a5 a6 a7 a8 a9 a10 a11
  exact lv_lmul a1 a3.2.2.1 hd (k p l e R s m args below meth c H locs cells slots L a1 a2 a3 a4 a5 a6 a7 a8 a9 a10 a11)
theorem w_land {x y : Int64} (hd : decode Y.2.1 pc = .ok (.land, 1)) (k : wp w d Y (pc + 1) ls (.long (x &&& y) :: st) h Q) : wp w d Y pc ls (.long y :: .long x :: st) h Q := by
  intro p l e R s m args below meth c H locs cells slots L a1 a2 a3 a4 a5 a6 a7 a8 a9 a10 a11
  exact lv_land a1 a3.2.2.1 hd (k p l e R s m args below meth c H locs cells slots L a1 a2 a3 a4 a5 a6 a7 a8 a9 a10 a11)
theorem w_lor {x y : Int64} (hd : decode Y.2.1 pc = .ok (.lor, 1)) (k : wp w d Y (pc + 1) ls (.long (x ||| y) :: st) h Q) : wp w d Y pc ls (.long y :: .long x :: st) h Q := by
  intro p l e R s m args below meth c H locs cells slots L a1 a2 a3 a4 a5 a6 a7 a8 a9 a10 a11
  exact lv_lor a1 a3.2.2.1 hd (k p l e R s m args below meth c H locs cells slots L a1 a2 a3 a4 a5 a6 a7 a8 a9 a10 a11)
theorem w_lxor {x y : Int64} (hd : decode Y.2.1 pc = .ok (.lxor, 1)) (k : wp w d Y (pc + 1) ls (.long (x ^^^ y) :: st) h Q) : wp w d Y pc ls (.long y :: .long x :: st) h Q := by
  intro p l e R s m args below meth c H locs cells slots L a1 a2 a3 a4 a5 a6 a7 a8 a9 a10 a11
  exact lv_lxor a1 a3.2.2.1 hd (k p l e R s m args below meth c H locs cells slots L a1 a2 a3 a4 a5 a6 a7 a8 a9 a10 a11)
theorem w_idiv {x y : Int32} (hd : decode Y.2.1 pc = .ok (.idiv, 1)) (hn : ¬ y = 0) (k : wp w d Y (pc + 1) ls (.int (x / y) :: st) h Q) : wp w d Y pc ls (.int y :: .int x :: st) h Q := by
  intro p l e R s m args below meth c H locs cells slots L a1 a2 a3 a4 a5 a6 a7 a8 a9 a10 a11
  exact lv_idiv a1 a3.2.2.1 hd hn (k p l e R s m args below meth c H locs cells slots L a1 a2 a3 a4 a5 a6 a7 a8 a9 a10 a11)
theorem w_irem {x y : Int32} (hd : decode Y.2.1 pc = .ok (.irem, 1)) (hn : ¬ y = 0) (k : wp w d Y (pc + 1) ls (.int (x - x / y * y) :: st) h Q) : wp w d Y pc ls (.int y :: .int x :: st) h Q := by
  intro p l e R s m args below meth c H locs cells slots L a1 a2 a3 a4 a5 a6 a7 a8 a9 a10 a11
  exact lv_irem a1 a3.2.2.1 hd hn (k p l e R s m args below meth c H locs cells slots L a1 a2 a3 a4 a5 a6 a7 a8 a9 a10 a11)
theorem w_ldiv {x y : Int64} (hd : decode Y.2.1 pc = .ok (.ldiv, 1)) (hn : ¬ y = 0) (k : wp w d Y (pc + 1) ls (.long (x / y) :: st) h Q) : wp w d Y pc ls (.long y :: .long x :: st) h Q := by
  intro p l e R s m args below meth c H locs cells slots L a1 a2 a3 a4 a5 a6 a7 a8 a9 a10 a11
  exact lv_ldiv a1 a3.2.2.1 hd hn (k p l e R s m args below meth c H locs cells slots L a1 a2 a3 a4 a5 a6 a7 a8 a9 a10 a11)
theorem w_lrem {x y : Int64} (hd : decode Y.2.1 pc = .ok (.lrem, 1)) (hn : ¬ y = 0) (k : wp w d Y (pc + 1) ls (.long (x - x / y * y) :: st) h Q) : wp w d Y pc ls (.long y :: .long x :: st) h Q := by
  intro p l e R s m args below meth c H locs cells slots L a1 a2 a3 a4 a5 a6 a7 a8 a9 a10 a11
  exact lv_lrem a1 a3.2.2.1 hd hn (k p l e R s m args below meth c H locs cells slots L a1 a2 a3 a4 a5 a6 a7 a8 a9 a10 a11)
theorem w_ineg {x : Int32} (hd : decode Y.2.1 pc = .ok (.ineg, 1)) (k : wp w d Y (pc + 1) ls (.int (-x) :: st) h Q) : wp w d Y pc ls (.int x :: st) h Q := by
  intro p l e R s m args below meth c H locs cells slots L a1 a2 a3 a4 a5 a6 a7 a8 a9 a10 a11
  exact lv_ineg a1 a3.2.2.1 hd (k p l e R s m args below meth c H locs cells slots L a1 a2 a3 a4 a5 a6 a7 a8 a9 a10 a11)
theorem w_lneg {x : Int64} (hd : decode Y.2.1 pc = .ok (.lneg, 1)) (k : wp w d Y (pc + 1) ls (.long (-x) :: st) h Q) : wp w d Y pc ls (.long x :: st) h Q := by
  intro p l e R s m args below meth c H locs cells slots L a1 a2 a3 a4 a5 a6 a7 a8 a9 a10 a11
  exact lv_lneg a1 a3.2.2.1 hd (k p l e R s m args below meth c H locs cells slots L a1 a2 a3 a4 a5 a6 a7 a8 a9 a10 a11)
theorem w_iushr {x y : Int32} (hd : decode Y.2.1 pc = .ok (.iushr, 1)) (k : wp w d Y (pc + 1) ls (.int ((x.toUInt32 >>> (y.toUInt32 &&& Int32.toUInt32 31)).toInt32) :: st) h Q) : wp w d Y pc ls (.int y :: .int x :: st) h Q := by
  intro p l e R s m args below meth c H locs cells slots L a1 a2 a3 a4 a5 a6 a7 a8 a9 a10 a11
  exact lv_iushr a1 a3.2.2.1 hd rfl (k p l e R s m args below meth c H locs cells slots L a1 a2 a3 a4 a5 a6 a7 a8 a9 a10 a11)
theorem w_lushr {x : Int64} {y : Int32} (hd : decode Y.2.1 pc = .ok (.lushr, 1)) (k : wp w d Y (pc + 1) ls (.long ((x.toUInt64 >>> (y.toInt64.toUInt64 &&& Int64.toUInt64 63)).toInt64) :: st) h Q) : wp w d Y pc ls (.int y :: .long x :: st) h Q := by
  intro p l e R s m args below meth c H locs cells slots L a1 a2 a3 a4 a5 a6 a7 a8 a9 a10 a11
  exact lv_lushr a1 a3.2.2.1 hd rfl (k p l e R s m args below meth c H locs cells slots L a1 a2 a3 a4 a5 a6 a7 a8 a9 a10 a11)
theorem w_lshl {x : Int64} {y : Int32} (hd : decode Y.2.1 pc = .ok (.lshl, 1)) (k : wp w d Y (pc + 1) ls (.long (x <<< (y.toInt64 &&& 63)) :: st) h Q) : wp w d Y pc ls (.int y :: .long x :: st) h Q := by
  intro p l e R s m args below meth c H locs cells slots L a1 a2 a3 a4 a5 a6 a7 a8 a9 a10 a11
  exact lv_lshl a1 a3.2.2.1 hd rfl (k p l e R s m args below meth c H locs cells slots L a1 a2 a3 a4 a5 a6 a7 a8 a9 a10 a11)
theorem w_lshr {x : Int64} {y : Int32} (hd : decode Y.2.1 pc = .ok (.lshr, 1)) (k : wp w d Y (pc + 1) ls (.long (x >>> (y.toInt64 &&& 63)) :: st) h Q) : wp w d Y pc ls (.int y :: .long x :: st) h Q := by
  intro p l e R s m args below meth c H locs cells slots L a1 a2 a3 a4 a5 a6 a7 a8 a9 a10 a11
  exact lv_lshr a1 a3.2.2.1 hd rfl (k p l e R s m args below meth c H locs cells slots L a1 a2 a3 a4 a5 a6 a7 a8 a9 a10 a11)
theorem w_i2l {x : Int32} (hd : decode Y.2.1 pc = .ok (.i2l, 1)) (k : wp w d Y (pc + 1) ls (.long x.toInt64 :: st) h Q) : wp w d Y pc ls (.int x :: st) h Q := by
  intro p l e R s m args below meth c H locs cells slots L a1 a2 a3 a4 a5 a6 a7 a8 a9 a10 a11
  exact lv_i2l a1 a3.2.2.1 hd rfl (k p l e R s m args below meth c H locs cells slots L a1 a2 a3 a4 a5 a6 a7 a8 a9 a10 a11)
theorem w_l2i {x : Int64} (hd : decode Y.2.1 pc = .ok (.l2i, 1)) (k : wp w d Y (pc + 1) ls (.int x.toInt32 :: st) h Q) : wp w d Y pc ls (.long x :: st) h Q := by
  intro p l e R s m args below meth c H locs cells slots L a1 a2 a3 a4 a5 a6 a7 a8 a9 a10 a11
  exact lv_l2i a1 a3.2.2.1 hd rfl (k p l e R s m args below meth c H locs cells slots L a1 a2 a3 a4 a5 a6 a7 a8 a9 a10 a11)
theorem w_i2b {x : Int32} (hd : decode Y.2.1 pc = .ok (.i2b, 1)) (k : wp w d Y (pc + 1) ls (.int x.toInt8.toInt32 :: st) h Q) : wp w d Y pc ls (.int x :: st) h Q := by
  intro p l e R s m args below meth c H locs cells slots L a1 a2 a3 a4 a5 a6 a7 a8 a9 a10 a11
  exact lv_i2b a1 a3.2.2.1 hd rfl (k p l e R s m args below meth c H locs cells slots L a1 a2 a3 a4 a5 a6 a7 a8 a9 a10 a11)
theorem w_i2c {x : Int32} (hd : decode Y.2.1 pc = .ok (.i2c, 1)) (k : wp w d Y (pc + 1) ls (.int (x.toUInt32 % 65536).toInt32 :: st) h Q) : wp w d Y pc ls (.int x :: st) h Q := by
  intro p l e R s m args below meth c H locs cells slots L a1 a2 a3 a4 a5 a6 a7 a8 a9 a10 a11
  exact lv_i2c a1 a3.2.2.1 hd rfl (k p l e R s m args below meth c H locs cells slots L a1 a2 a3 a4 a5 a6 a7 a8 a9 a10 a11)
theorem w_lcmp {x y : Int64} (hd : decode Y.2.1 pc = .ok (.lcmp, 1)) (k : wp w d Y (pc + 1) ls (.int (lg_cmp x y) :: st) h Q) : wp w d Y pc ls (.long y :: .long x :: st) h Q := by
  intro p l e R s m args below meth c H locs cells slots L a1 a2 a3 a4 a5 a6 a7 a8 a9 a10 a11
  exact W.lcmp a1 a3.2.2.1 hd (k p l e R s m args below meth c H locs cells slots L a1 a2 a3 a4 a5 a6 a7 a8 a9 a10 a11)
theorem w_dup {va : Value} (hd : decode Y.2.1 pc = .ok (.dup, 1)) (ha : va.category = 1) (k : wp w d Y (pc + 1) ls (va :: va :: st) h Q) : wp w d Y pc ls (va :: st) h Q := by
  intro p l e R s m args below meth c H locs cells slots L a1 a2 a3 a4 a5 a6 a7 a8 a9 a10 a11
  exact lv_dup a1 a3.2.2.1 hd (by rw [e_c_cat]; exact ha) (k p l e R s m args below meth c H locs cells slots L a1 a2 a3 a4 a5 a6 a7 a8 a9 a10 a11)
theorem w_pop {va : Value} (hd : decode Y.2.1 pc = .ok (.pop, 1)) (ha : va.category = 1) (k : wp w d Y (pc + 1) ls (st) h Q) : wp w d Y pc ls (va :: st) h Q := by
  intro p l e R s m args below meth c H locs cells slots L a1 a2 a3 a4 a5 a6 a7 a8 a9 a10 a11
  exact lv_pop a1 a3.2.2.1 hd (by rw [e_c_cat]; exact ha) (k p l e R s m args below meth c H locs cells slots L a1 a2 a3 a4 a5 a6 a7 a8 a9 a10 a11)
theorem w_dup_x1 {va vb : Value} (hd : decode Y.2.1 pc = .ok (.dup_x1, 1)) (ha : va.category = 1) (hb : vb.category = 1) (k : wp w d Y (pc + 1) ls (va :: vb :: va :: st) h Q) : wp w d Y pc ls (va :: vb :: st) h Q := by
  intro p l e R s m args below meth c H locs cells slots L a1 a2 a3 a4 a5 a6 a7 a8 a9 a10 a11
  exact lv_dup_x1 a1 a3.2.2.1 hd (by rw [e_c_cat]; exact ha) (by rw [e_c_cat]; exact hb) (k p l e R s m args below meth c H locs cells slots L a1 a2 a3 a4 a5 a6 a7 a8 a9 a10 a11)
theorem w_dup_x2 {va vb vd : Value} (hd : decode Y.2.1 pc = .ok (.dup_x2, 1)) (ha : va.category = 1) (hb : vb.category = 1) (hd' : vd.category = 1) (k : wp w d Y (pc + 1) ls (va :: vb :: vd :: va :: st) h Q) : wp w d Y pc ls (va :: vb :: vd :: st) h Q := by
  intro p l e R s m args below meth c H locs cells slots L a1 a2 a3 a4 a5 a6 a7 a8 a9 a10 a11
  exact lv_dup_x2 a1 a3.2.2.1 hd (by rw [e_c_cat]; exact ha) (by rw [e_c_cat]; exact hb) (by rw [e_c_cat]; exact hd') (k p l e R s m args below meth c H locs cells slots L a1 a2 a3 a4 a5 a6 a7 a8 a9 a10 a11)
theorem w_dup2_11 {va vb : Value} (hd : decode Y.2.1 pc = .ok (.dup2, 1)) (ha : va.category = 1) (hb : vb.category = 1) (k : wp w d Y (pc + 1) ls (va :: vb :: va :: vb :: st) h Q) : wp w d Y pc ls (va :: vb :: st) h Q := by
  intro p l e R s m args below meth c H locs cells slots L a1 a2 a3 a4 a5 a6 a7 a8 a9 a10 a11
  exact lv_dup2_11 a1 a3.2.2.1 hd (by rw [e_c_cat]; exact ha) (by rw [e_c_cat]; exact hb) (k p l e R s m args below meth c H locs cells slots L a1 a2 a3 a4 a5 a6 a7 a8 a9 a10 a11)
theorem w_dup2_2 {va : Value} (hd : decode Y.2.1 pc = .ok (.dup2, 1)) (ha : va.category = 2) (k : wp w d Y (pc + 1) ls (va :: va :: st) h Q) : wp w d Y pc ls (va :: st) h Q := by
  intro p l e R s m args below meth c H locs cells slots L a1 a2 a3 a4 a5 a6 a7 a8 a9 a10 a11
  exact lv_dup2_2 a1 a3.2.2.1 hd (by rw [e_c_cat]; exact ha) (k p l e R s m args below meth c H locs cells slots L a1 a2 a3 a4 a5 a6 a7 a8 a9 a10 a11)
theorem w_pop2_2 {va : Value} (hd : decode Y.2.1 pc = .ok (.pop2, 1)) (ha : va.category = 2) (k : wp w d Y (pc + 1) ls (st) h Q) : wp w d Y pc ls (va :: st) h Q := by
  intro p l e R s m args below meth c H locs cells slots L a1 a2 a3 a4 a5 a6 a7 a8 a9 a10 a11
  exact lv_pop2_2 a1 a3.2.2.1 hd (by rw [e_c_cat]; exact ha) (k p l e R s m args below meth c H locs cells slots L a1 a2 a3 a4 a5 a6 a7 a8 a9 a10 a11)
theorem w_istore_n {n : Fin 4} {i : Nat} {x : Int32} {ls' : eL} (hd : decode Y.2.1 pc = .ok (.istore_n n, 1)) (hi : (n : Nat) = i) (hn : i < Y.2.2.1) (hl : e_st1 ls i (.int x) = ls') (k : wp w d Y (pc + 1) ls' st h Q) : wp w d Y pc ls (.int x :: st) h Q := by
  intro p l e R s m args below meth c H locs cells slots L a1 a2 a3 a4 a5 a6 a7 a8 a9 a10 a11
  subst hl
  exact lv_istore_n a1 a3.2.2.1 hd hi a6.2 hn rfl (fun L' hL' => k p l e R s m args below meth c H locs cells slots L' a1 a2 a3 a4 a5 (e_L.st1 (v := .int x) a6.1 hn hL') a7 a8 a9 a10 a11)
theorem w_istore {i : Nat} {x : Int32} {ls' : eL} (hd : decode Y.2.1 pc = .ok (.istore i, 2)) (hn : i < Y.2.2.1) (hl : e_st1 ls i (.int x) = ls') (k : wp w d Y (pc + 2) ls' st h Q) : wp w d Y pc ls (.int x :: st) h Q := by
  intro p l e R s m args below meth c H locs cells slots L a1 a2 a3 a4 a5 a6 a7 a8 a9 a10 a11
  subst hl
  exact lv_istore a1 a3.2.2.1 hd a6.2 hn rfl (fun L' hL' => k p l e R s m args below meth c H locs cells slots L' a1 a2 a3 a4 a5 (e_L.st1 (v := .int x) a6.1 hn hL') a7 a8 a9 a10 a11)
theorem w_lstore_n {n : Fin 4} {i : Nat} {x : Int64} {ls' : eL} (hd : decode Y.2.1 pc = .ok (.lstore_n n, 1)) (hi : (n : Nat) = i) (hn : i + 1 < Y.2.2.1) (hl : e_st2 ls i (.long x) = ls') (k : wp w d Y (pc + 1) ls' st h Q) : wp w d Y pc ls (.long x :: st) h Q := by
  intro p l e R s m args below meth c H locs cells slots L a1 a2 a3 a4 a5 a6 a7 a8 a9 a10 a11
  subst hl
  exact lv_lstore_n a1 a3.2.2.1 hd hi a6.2 hn rfl (fun L' hL' => k p l e R s m args below meth c H locs cells slots L' a1 a2 a3 a4 a5 (e_L.st2 (v := .long x) a6.1 hn hL') a7 a8 a9 a10 a11)
theorem w_lstore {i : Nat} {x : Int64} {ls' : eL} (hd : decode Y.2.1 pc = .ok (.lstore i, 2)) (hn : i + 1 < Y.2.2.1) (hl : e_st2 ls i (.long x) = ls') (k : wp w d Y (pc + 2) ls' st h Q) : wp w d Y pc ls (.long x :: st) h Q := by
  intro p l e R s m args below meth c H locs cells slots L a1 a2 a3 a4 a5 a6 a7 a8 a9 a10 a11
  subst hl
  exact lv_lstore a1 a3.2.2.1 hd a6.2 hn rfl (fun L' hL' => k p l e R s m args below meth c H locs cells slots L' a1 a2 a3 a4 a5 (e_L.st2 (v := .long x) a6.1 hn hL') a7 a8 a9 a10 a11)
theorem w_astore_n {n : Fin 4} {i : Nat} {x : Nat} {ls' : eL} (hd : decode Y.2.1 pc = .ok (.astore_n n, 1)) (hi : (n : Nat) = i) (hn : i < Y.2.2.1) (hl : e_st1 ls i (.ref x) = ls') (k : wp w d Y (pc + 1) ls' st h Q) : wp w d Y pc ls (.ref x :: st) h Q := by
  intro p l e R s m args below meth c H locs cells slots L a1 a2 a3 a4 a5 a6 a7 a8 a9 a10 a11
  subst hl
  exact lv_astore_n a1 a3.2.2.1 hd hi a6.2 hn rfl (fun L' hL' => k p l e R s m args below meth c H locs cells slots L' a1 a2 a3 a4 a5 (e_L.st1 (v := .ref x) a6.1 hn hL') a7 a8 a9 a10 a11)
theorem w_astore {i : Nat} {x : Nat} {ls' : eL} (hd : decode Y.2.1 pc = .ok (.astore i, 2)) (hn : i < Y.2.2.1) (hl : e_st1 ls i (.ref x) = ls') (k : wp w d Y (pc + 2) ls' st h Q) : wp w d Y pc ls (.ref x :: st) h Q := by
  intro p l e R s m args below meth c H locs cells slots L a1 a2 a3 a4 a5 a6 a7 a8 a9 a10 a11
  subst hl
  exact lv_astore a1 a3.2.2.1 hd a6.2 hn rfl (fun L' hL' => k p l e R s m args below meth c H locs cells slots L' a1 a2 a3 a4 a5 (e_L.st1 (v := .ref x) a6.1 hn hL') a7 a8 a9 a10 a11)
theorem w_astore_nN {n : Fin 4} {i : Nat} {ls' : eL} (hd : decode Y.2.1 pc = .ok (.astore_n n, 1)) (hi : (n : Nat) = i) (hn : i < Y.2.2.1) (hl : e_st1 ls i (.null) = ls') (k : wp w d Y (pc + 1) ls' st h Q) : wp w d Y pc ls (.null :: st) h Q := by
  intro p l e R s m args below meth c H locs cells slots L a1 a2 a3 a4 a5 a6 a7 a8 a9 a10 a11
  subst hl
  exact lv_astore_nN a1 a3.2.2.1 hd hi a6.2 hn rfl (fun L' hL' => k p l e R s m args below meth c H locs cells slots L' a1 a2 a3 a4 a5 (e_L.st1 (v := .null) a6.1 hn hL') a7 a8 a9 a10 a11)
theorem w_astoreN {i : Nat} {ls' : eL} (hd : decode Y.2.1 pc = .ok (.astore i, 2)) (hn : i < Y.2.2.1) (hl : e_st1 ls i (.null) = ls') (k : wp w d Y (pc + 2) ls' st h Q) : wp w d Y pc ls (.null :: st) h Q := by
  intro p l e R s m args below meth c H locs cells slots L a1 a2 a3 a4 a5 a6 a7 a8 a9 a10 a11
  subst hl
  exact lv_astoreN a1 a3.2.2.1 hd a6.2 hn rfl (fun L' hL' => k p l e R s m args below meth c H locs cells slots L' a1 a2 a3 a4 a5 (e_L.st1 (v := .null) a6.1 hn hL') a7 a8 a9 a10 a11)
theorem w_iinc {i : Nat} {n : Int} {x v : Int32} {ls' : eL} (hd : decode Y.2.1 pc = .ok (.iinc i n, 3)) (hi : ls[i]? = some (some (.int x))) (hv : x + Int32.ofInt n = v) (hn : i < Y.2.2.1) (hl : e_st1 ls i (.int v) = ls') (k : wp w d Y (pc + 3) ls' st h Q) : wp w d Y pc ls st h Q := by
  intro p l e R s m args below meth c H locs cells slots L a1 a2 a3 a4 a5 a6 a7 a8 a9 a10 a11
  subst hl
  obtain ⟨j, hj⟩ := List.mem_iff_getElem?.mp (e_al_mem (w := w) (i := 0) (ls := ls) (q := (i, .int x)) |>.mpr ⟨i, .int x, hi, by simp [e_c]⟩)
  exact lv_iinc a1 a3.2.2.1 hd a6.2 hj hv hn rfl (fun L' hL' => k p l e R s m args below meth c H locs cells slots L' a1 a2 a3 a4 a5 (e_L.st1 (v := .int v) a6.1 hn hL') a7 a8 a9 a10 a11)
theorem w_iincW {i : Nat} {n : Int} {x v : Int32} {ls' : eL} (hd : decode Y.2.1 pc = .ok (.iinc i n, 6)) (hi : ls[i]? = some (some (.int x))) (hv : x + Int32.ofInt n = v) (hn : i < Y.2.2.1) (hl : e_st1 ls i (.int v) = ls') (k : wp w d Y (pc + 6) ls' st h Q) : wp w d Y pc ls st h Q := by
  intro p l e R s m args below meth c H locs cells slots L a1 a2 a3 a4 a5 a6 a7 a8 a9 a10 a11
  subst hl
  obtain ⟨j, hj⟩ := List.mem_iff_getElem?.mp (e_al_mem (w := w) (i := 0) (ls := ls) (q := (i, .int x)) |>.mpr ⟨i, .int x, hi, by simp [e_c]⟩)
  exact lv_iincW a1 a3.2.2.1 hd a6.2 hj hv hn rfl (fun L' hL' => k p l e R s m args below meth c H locs cells slots L' a1 a2 a3 a4 a5 (e_L.st1 (v := .int v) a6.1 hn hL') a7 a8 a9 a10 a11)
theorem w_if_eq {x : Int32} {off : Int} (tgt : Nat) (hd : decode Y.2.1 pc = .ok (.ifCond .eq off, 3)) (ht : (pc : Int) + off = (tgt : Int)) (kt : x = 0 → wp w d Y tgt ls st h Q) (kf : ¬ x = 0 → wp w d Y (pc + 3) ls st h Q) : wp w d Y pc ls (.int x :: st) h Q := by
  intro p l e R s m args below meth c H locs cells slots L a1 a2 a3 a4 a5 a6 a7 a8 a9 a10 a11
  exact lv_if_eq a1 a3.2.2.1 hd ht (fun c0 => kt c0 p l e R s m args below meth c H locs cells slots L a1 a2 a3 a4 a5 a6 a7 a8 a9 a10 a11) (fun c0 => kf c0 p l e R s m args below meth c H locs cells slots L a1 a2 a3 a4 a5 a6 a7 a8 a9 a10 a11)
theorem w_icmp_eq {x y : Int32} {off : Int} (tgt : Nat) (hd : decode Y.2.1 pc = .ok (.if_icmp .eq off, 3)) (ht : (pc : Int) + off = (tgt : Int)) (kt : x = y → wp w d Y tgt ls st h Q) (kf : ¬ x = y → wp w d Y (pc + 3) ls st h Q) : wp w d Y pc ls (.int y :: .int x :: st) h Q := by
  intro p l e R s m args below meth c H locs cells slots L a1 a2 a3 a4 a5 a6 a7 a8 a9 a10 a11
  exact lv_icmp_eq a1 a3.2.2.1 hd ht (fun c0 => kt c0 p l e R s m args below meth c H locs cells slots L a1 a2 a3 a4 a5 a6 a7 a8 a9 a10 a11) (fun c0 => kf c0 p l e R s m args below meth c H locs cells slots L a1 a2 a3 a4 a5 a6 a7 a8 a9 a10 a11)
theorem w_if_ne {x : Int32} {off : Int} (tgt : Nat) (hd : decode Y.2.1 pc = .ok (.ifCond .ne off, 3)) (ht : (pc : Int) + off = (tgt : Int)) (kt : ¬ x = 0 → wp w d Y tgt ls st h Q) (kf : x = 0 → wp w d Y (pc + 3) ls st h Q) : wp w d Y pc ls (.int x :: st) h Q := by
  intro p l e R s m args below meth c H locs cells slots L a1 a2 a3 a4 a5 a6 a7 a8 a9 a10 a11
  exact lv_if_ne a1 a3.2.2.1 hd ht (fun c0 => kt c0 p l e R s m args below meth c H locs cells slots L a1 a2 a3 a4 a5 a6 a7 a8 a9 a10 a11) (fun c0 => kf c0 p l e R s m args below meth c H locs cells slots L a1 a2 a3 a4 a5 a6 a7 a8 a9 a10 a11)
theorem w_icmp_ne {x y : Int32} {off : Int} (tgt : Nat) (hd : decode Y.2.1 pc = .ok (.if_icmp .ne off, 3)) (ht : (pc : Int) + off = (tgt : Int)) (kt : ¬ x = y → wp w d Y tgt ls st h Q) (kf : x = y → wp w d Y (pc + 3) ls st h Q) : wp w d Y pc ls (.int y :: .int x :: st) h Q := by
  intro p l e R s m args below meth c H locs cells slots L a1 a2 a3 a4 a5 a6 a7 a8 a9 a10 a11
  exact lv_icmp_ne a1 a3.2.2.1 hd ht (fun c0 => kt c0 p l e R s m args below meth c H locs cells slots L a1 a2 a3 a4 a5 a6 a7 a8 a9 a10 a11) (fun c0 => kf c0 p l e R s m args below meth c H locs cells slots L a1 a2 a3 a4 a5 a6 a7 a8 a9 a10 a11)
theorem w_if_lt {x : Int32} {off : Int} (tgt : Nat) (hd : decode Y.2.1 pc = .ok (.ifCond .lt off, 3)) (ht : (pc : Int) + off = (tgt : Int)) (kt : x < 0 → wp w d Y tgt ls st h Q) (kf : ¬ x < 0 → wp w d Y (pc + 3) ls st h Q) : wp w d Y pc ls (.int x :: st) h Q := by
  intro p l e R s m args below meth c H locs cells slots L a1 a2 a3 a4 a5 a6 a7 a8 a9 a10 a11
  exact lv_if_lt a1 a3.2.2.1 hd ht (fun c0 => kt c0 p l e R s m args below meth c H locs cells slots L a1 a2 a3 a4 a5 a6 a7 a8 a9 a10 a11) (fun c0 => kf c0 p l e R s m args below meth c H locs cells slots L a1 a2 a3 a4 a5 a6 a7 a8 a9 a10 a11)
theorem w_icmp_lt {x y : Int32} {off : Int} (tgt : Nat) (hd : decode Y.2.1 pc = .ok (.if_icmp .lt off, 3)) (ht : (pc : Int) + off = (tgt : Int)) (kt : x < y → wp w d Y tgt ls st h Q) (kf : ¬ x < y → wp w d Y (pc + 3) ls st h Q) : wp w d Y pc ls (.int y :: .int x :: st) h Q := by
  intro p l e R s m args below meth c H locs cells slots L a1 a2 a3 a4 a5 a6 a7 a8 a9 a10 a11
  exact lv_icmp_lt a1 a3.2.2.1 hd ht (fun c0 => kt c0 p l e R s m args below meth c H locs cells slots L a1 a2 a3 a4 a5 a6 a7 a8 a9 a10 a11) (fun c0 => kf c0 p l e R s m args below meth c H locs cells slots L a1 a2 a3 a4 a5 a6 a7 a8 a9 a10 a11)
theorem w_if_ge {x : Int32} {off : Int} (tgt : Nat) (hd : decode Y.2.1 pc = .ok (.ifCond .ge off, 3)) (ht : (pc : Int) + off = (tgt : Int)) (kt : 0 ≤ x → wp w d Y tgt ls st h Q) (kf : ¬ 0 ≤ x → wp w d Y (pc + 3) ls st h Q) : wp w d Y pc ls (.int x :: st) h Q := by
  intro p l e R s m args below meth c H locs cells slots L a1 a2 a3 a4 a5 a6 a7 a8 a9 a10 a11
  exact lv_if_ge a1 a3.2.2.1 hd ht (fun c0 => kt c0 p l e R s m args below meth c H locs cells slots L a1 a2 a3 a4 a5 a6 a7 a8 a9 a10 a11) (fun c0 => kf c0 p l e R s m args below meth c H locs cells slots L a1 a2 a3 a4 a5 a6 a7 a8 a9 a10 a11)
theorem w_icmp_ge {x y : Int32} {off : Int} (tgt : Nat) (hd : decode Y.2.1 pc = .ok (.if_icmp .ge off, 3)) (ht : (pc : Int) + off = (tgt : Int)) (kt : y ≤ x → wp w d Y tgt ls st h Q) (kf : ¬ y ≤ x → wp w d Y (pc + 3) ls st h Q) : wp w d Y pc ls (.int y :: .int x :: st) h Q := by
  intro p l e R s m args below meth c H locs cells slots L a1 a2 a3 a4 a5 a6 a7 a8 a9 a10 a11
  exact lv_icmp_ge a1 a3.2.2.1 hd ht (fun c0 => kt c0 p l e R s m args below meth c H locs cells slots L a1 a2 a3 a4 a5 a6 a7 a8 a9 a10 a11) (fun c0 => kf c0 p l e R s m args below meth c H locs cells slots L a1 a2 a3 a4 a5 a6 a7 a8 a9 a10 a11)
theorem w_if_gt {x : Int32} {off : Int} (tgt : Nat) (hd : decode Y.2.1 pc = .ok (.ifCond .gt off, 3)) (ht : (pc : Int) + off = (tgt : Int)) (kt : 0 < x → wp w d Y tgt ls st h Q) (kf : ¬ 0 < x → wp w d Y (pc + 3) ls st h Q) : wp w d Y pc ls (.int x :: st) h Q := by
  intro p l e R s m args below meth c H locs cells slots L a1 a2 a3 a4 a5 a6 a7 a8 a9 a10 a11
  exact lv_if_gt a1 a3.2.2.1 hd ht (fun c0 => kt c0 p l e R s m args below meth c H locs cells slots L a1 a2 a3 a4 a5 a6 a7 a8 a9 a10 a11) (fun c0 => kf c0 p l e R s m args below meth c H locs cells slots L a1 a2 a3 a4 a5 a6 a7 a8 a9 a10 a11)
theorem w_icmp_gt {x y : Int32} {off : Int} (tgt : Nat) (hd : decode Y.2.1 pc = .ok (.if_icmp .gt off, 3)) (ht : (pc : Int) + off = (tgt : Int)) (kt : y < x → wp w d Y tgt ls st h Q) (kf : ¬ y < x → wp w d Y (pc + 3) ls st h Q) : wp w d Y pc ls (.int y :: .int x :: st) h Q := by
  intro p l e R s m args below meth c H locs cells slots L a1 a2 a3 a4 a5 a6 a7 a8 a9 a10 a11
  exact lv_icmp_gt a1 a3.2.2.1 hd ht (fun c0 => kt c0 p l e R s m args below meth c H locs cells slots L a1 a2 a3 a4 a5 a6 a7 a8 a9 a10 a11) (fun c0 => kf c0 p l e R s m args below meth c H locs cells slots L a1 a2 a3 a4 a5 a6 a7 a8 a9 a10 a11)
theorem w_if_le {x : Int32} {off : Int} (tgt : Nat) (hd : decode Y.2.1 pc = .ok (.ifCond .le off, 3)) (ht : (pc : Int) + off = (tgt : Int)) (kt : x ≤ 0 → wp w d Y tgt ls st h Q) (kf : ¬ x ≤ 0 → wp w d Y (pc + 3) ls st h Q) : wp w d Y pc ls (.int x :: st) h Q := by
  intro p l e R s m args below meth c H locs cells slots L a1 a2 a3 a4 a5 a6 a7 a8 a9 a10 a11
  exact lv_if_le a1 a3.2.2.1 hd ht (fun c0 => kt c0 p l e R s m args below meth c H locs cells slots L a1 a2 a3 a4 a5 a6 a7 a8 a9 a10 a11) (fun c0 => kf c0 p l e R s m args below meth c H locs cells slots L a1 a2 a3 a4 a5 a6 a7 a8 a9 a10 a11)
theorem w_icmp_le {x y : Int32} {off : Int} (tgt : Nat) (hd : decode Y.2.1 pc = .ok (.if_icmp .le off, 3)) (ht : (pc : Int) + off = (tgt : Int)) (kt : x ≤ y → wp w d Y tgt ls st h Q) (kf : ¬ x ≤ y → wp w d Y (pc + 3) ls st h Q) : wp w d Y pc ls (.int y :: .int x :: st) h Q := by
  intro p l e R s m args below meth c H locs cells slots L a1 a2 a3 a4 a5 a6 a7 a8 a9 a10 a11
  exact lv_icmp_le a1 a3.2.2.1 hd ht (fun c0 => kt c0 p l e R s m args below meth c H locs cells slots L a1 a2 a3 a4 a5 a6 a7 a8 a9 a10 a11) (fun c0 => kf c0 p l e R s m args below meth c H locs cells slots L a1 a2 a3 a4 a5 a6 a7 a8 a9 a10 a11)
theorem w_goto {off : Int} (tgt : Nat) (hd : decode Y.2.1 pc = .ok (.goto off, 3)) (ht : (pc : Int) + off = (tgt : Int)) (k : wp w d Y tgt ls st h Q) : wp w d Y pc ls st h Q := by
  intro p l e R s m args below meth c H locs cells slots L a1 a2 a3 a4 a5 a6 a7 a8 a9 a10 a11
  exact lv_goto a1 a3.2.2.1 hd ht (k p l e R s m args below meth c H locs cells slots L a1 a2 a3 a4 a5 a6 a7 a8 a9 a10 a11)
theorem w_ifnonnull {x : Nat} {off : Int} (tgt : Nat) (hd : decode Y.2.1 pc = .ok (.ifnonnull off, 3)) (ht : (pc : Int) + off = (tgt : Int)) (k : wp w d Y tgt ls st h Q) : wp w d Y pc ls (.ref x :: st) h Q := by
  intro p l e R s m args below meth c H locs cells slots L a1 a2 a3 a4 a5 a6 a7 a8 a9 a10 a11
  exact lv_ifnonnull a1 a3.2.2.1 hd ht (k p l e R s m args below meth c H locs cells slots L a1 a2 a3 a4 a5 a6 a7 a8 a9 a10 a11)
theorem w_ifnull {x : Nat} {off : Int} (hd : decode Y.2.1 pc = .ok (.ifnull off, 3)) (k : wp w d Y (pc + 3) ls st h Q) : wp w d Y pc ls (.ref x :: st) h Q := by
  intro p l e R s m args below meth c H locs cells slots L a1 a2 a3 a4 a5 a6 a7 a8 a9 a10 a11
  exact lv_ifnull a1 a3.2.2.1 hd (k p l e R s m args below meth c H locs cells slots L a1 a2 a3 a4 a5 a6 a7 a8 a9 a10 a11)
theorem w_ifnullN {off : Int} (tgt : Nat) (hd : decode Y.2.1 pc = .ok (.ifnull off, 3)) (ht : (pc : Int) + off = (tgt : Int)) (k : wp w d Y tgt ls st h Q) : wp w d Y pc ls (.null :: st) h Q := by
  intro p l e R s m args below meth c H locs cells slots L a1 a2 a3 a4 a5 a6 a7 a8 a9 a10 a11
  exact lv_ifnullN a1 a3.2.2.1 hd ht (k p l e R s m args below meth c H locs cells slots L a1 a2 a3 a4 a5 a6 a7 a8 a9 a10 a11)
theorem w_ifnonnullN {off : Int} (hd : decode Y.2.1 pc = .ok (.ifnonnull off, 3)) (k : wp w d Y (pc + 3) ls st h Q) : wp w d Y pc ls (.null :: st) h Q := by
  intro p l e R s m args below meth c H locs cells slots L a1 a2 a3 a4 a5 a6 a7 a8 a9 a10 a11
  exact lv_ifnonnullN a1 a3.2.2.1 hd (k p l e R s m args below meth c H locs cells slots L a1 a2 a3 a4 a5 a6 a7 a8 a9 a10 a11)
theorem w_tableIn {dflt lo hi : Int} {offs : Array Int} {len : Nat} {x : Int32} {off : Int} (tgt : Nat) (hd : decode Y.2.1 pc = .ok (.tableswitch dflt lo hi offs, len)) (h1 : ¬ x.toInt < lo) (h2 : ¬ hi < x.toInt) (ho : offs[(x.toInt - lo).toNat]? = some off) (ht : (pc : Int) + off = (tgt : Int)) (k : wp w d Y tgt ls st h Q) : wp w d Y pc ls (.int x :: st) h Q := by
  intro p l e R s m args below meth c H locs cells slots L a1 a2 a3 a4 a5 a6 a7 a8 a9 a10 a11
  exact lv_tableIn a1 a3.2.2.1 hd h1 h2 ho ht (k p l e R s m args below meth c H locs cells slots L a1 a2 a3 a4 a5 a6 a7 a8 a9 a10 a11)
theorem w_tableOut {dflt lo hi : Int} {offs : Array Int} {len : Nat} {x : Int32} (tgt : Nat) (hd : decode Y.2.1 pc = .ok (.tableswitch dflt lo hi offs, len)) (h1 : x.toInt < lo ∨ hi < x.toInt) (ht : (pc : Int) + dflt = (tgt : Int)) (k : wp w d Y tgt ls st h Q) : wp w d Y pc ls (.int x :: st) h Q := by
  intro p l e R s m args below meth c H locs cells slots L a1 a2 a3 a4 a5 a6 a7 a8 a9 a10 a11
  exact lv_tableOut a1 a3.2.2.1 hd h1 ht (k p l e R s m args below meth c H locs cells slots L a1 a2 a3 a4 a5 a6 a7 a8 a9 a10 a11)
theorem w_lookup {dflt : Int} {ps : Array (Int × Int)} {len : Nat} {x : Int32} {off : Int} (tgt : Nat) (hd : decode Y.2.1 pc = .ok (.lookupswitch dflt ps, len)) (hp : (ps.toList.zip (ps.toList.drop 1)).all (fun (a, next) => a.1 < next.1) = true) (ho : Op.lookupswitch.offset ps.toList dflt x.toInt = off) (ht : (pc : Int) + off = (tgt : Int)) (k : wp w d Y tgt ls st h Q) : wp w d Y pc ls (.int x :: st) h Q := by
  intro p l e R s m args below meth c H locs cells slots L a1 a2 a3 a4 a5 a6 a7 a8 a9 a10 a11
  exact lv_lookup a1 a3.2.2.1 hd hp ho ht (k p l e R s m args below meth c H locs cells slots L a1 a2 a3 a4 a5 a6 a7 a8 a9 a10 a11)
theorem w_ldc {idx : Nat} {v : Int32} (hd : decode Y.2.1 pc = .ok (.ldc idx, 2)) (hq : Jvm.Cond.constant Y.1.cls idx v ∈ lw_all) (k : wp w d Y (pc + 2) ls (.int v :: st) h Q) : wp w d Y pc ls st h Q := by
  intro p l e R s m args below meth c H locs cells slots L a1 a2 a3 a4 a5 a6 a7 a8 a9 a10 a11
  exact lv_ldc a1 a3.2.2.1 a3.1 (a4.all _ hq) hd (k p l e R s m args below meth c H locs cells slots L a1 a2 a3 a4 a5 a6 a7 a8 a9 a10 a11)
theorem w_ldc_w {idx : Nat} {v : Int32} (hd : decode Y.2.1 pc = .ok (.ldc_w idx, 3)) (hq : Jvm.Cond.constant Y.1.cls idx v ∈ lw_all) (k : wp w d Y (pc + 3) ls (.int v :: st) h Q) : wp w d Y pc ls st h Q := by
  intro p l e R s m args below meth c H locs cells slots L a1 a2 a3 a4 a5 a6 a7 a8 a9 a10 a11
  exact lv_ldcw a1 a3.2.2.1 a3.1 (a4.all _ hq) hd (k p l e R s m args below meth c H locs cells slots L a1 a2 a3 a4 a5 a6 a7 a8 a9 a10 a11)
theorem w_ldc2 {idx : Nat} {v : Int64} (hd : decode Y.2.1 pc = .ok (.ldc2_w idx, 3)) (hq : Jvm.Cond.constantLong Y.1.cls idx v ∈ lw_all) (k : wp w d Y (pc + 3) ls (.long v :: st) h Q) : wp w d Y pc ls st h Q := by
  intro p l e R s m args below meth c H locs cells slots L a1 a2 a3 a4 a5 a6 a7 a8 a9 a10 a11
  exact lv_ldc2 a1 a3.2.2.1 a3.1 (a4.all _ hq) hd (k p l e R s m args below meth c H locs cells slots L a1 a2 a3 a4 a5 a6 a7 a8 a9 a10 a11)
end
