/-! decoding, by bytes (printed) -/
set_option maxRecDepth 100000
def e_b1 (c : ByteArray) (p n : Nat) : Bool := match c.data.toList.drop p with
  | x :: _ => Nat.beq x.toNat n
  | _ => false
def e_b2 (c : ByteArray) (p n a : Nat) : Bool := match c.data.toList.drop p with
  | x :: y :: _ => Nat.beq x.toNat n && Nat.beq y.toNat a
  | _ => false
def e_b3 (c : ByteArray) (p n a b : Nat) : Bool := match c.data.toList.drop p with
  | x :: y :: z :: _ => Nat.beq x.toNat n && (Nat.beq y.toNat a && Nat.beq z.toNat b)
  | _ => false
theorem e_u1 {c : ByteArray} {p : Nat} {b : UInt8} (hb : c.data.toList[p]? = some b) : (Reader.u1 : Decoder Nat) c p = .ok (b.toNat, p + 1) := by
  obtain ⟨h1, h2⟩ := List.getElem?_eq_some_iff.mp hb
  have hs : p < c.size := by rw [Array.length_toList] at h1; exact h1
  have e1 : (Reader.u1 : Decoder Nat) c p = (if h : p < c.size then (do set (p + 1); Pure.pure c[p].toNat : Decoder Nat) else throw (HasTruncated.truncated p)) c p := rfl
  rw [e1, dif_pos hs]
  show Except.ok (c[p].toNat, p + 1) = _
  have e2 : c[p] = b := by rw [← h2]; rfl
  rw [e2]
theorem e_dr {α : Type} {l : List α} {p : Nat} {l' : List α} (h : l.drop p = l') (j : Nat) : l[p + j]? = l'[j]? := by rw [← h, List.getElem?_drop]
theorem e_k1 {c : ByteArray} {p n : Nat} (h : e_b1 c p n = true) : (Reader.u1 : Decoder Nat) c p = .ok (n, p + 1) := by
  unfold e_b1 at h
  split at h
  · rename_i x l hl
    have := e_u1 (c := c) (p := p) (b := x) (by have := e_dr hl 0; simpa using this)
    rw [Nat.eq_of_beq_eq_true h] at this
    exact this
  · cases h
theorem e_k2 {c : ByteArray} {p n a : Nat} (h : e_b2 c p n a = true) : (Reader.u1 : Decoder Nat) c p = .ok (n, p + 1) ∧ (Reader.u1 : Decoder Nat) c (p + 1) = .ok (a, p + 1 + 1) := by
  unfold e_b2 at h
  split at h
  · rename_i x y l hl
    rw [Bool.and_eq_true] at h
    have h1 := e_u1 (c := c) (p := p) (b := x) (by have := e_dr hl 0; simpa using this)
    have h2 := e_u1 (c := c) (p := p + 1) (b := y) (by have := e_dr hl 1; simpa using this)
    rw [Nat.eq_of_beq_eq_true h.1] at h1
    rw [Nat.eq_of_beq_eq_true h.2] at h2
    exact ⟨h1, h2⟩
  · cases h
theorem e_k3 {c : ByteArray} {p n a b : Nat} (h : e_b3 c p n a b = true) : (Reader.u1 : Decoder Nat) c p = .ok (n, p + 1) ∧ (Reader.u1 : Decoder Nat) c (p + 1) = .ok (a, p + 1 + 1) ∧ (Reader.u1 : Decoder Nat) c (p + 1 + 1) = .ok (b, p + 1 + 1 + 1) := by
  unfold e_b3 at h
  split at h
  · rename_i x y z l hl
    rw [Bool.and_eq_true, Bool.and_eq_true] at h
    have h1 := e_u1 (c := c) (p := p) (b := x) (by have := e_dr hl 0; simpa using this)
    have h2 := e_u1 (c := c) (p := p + 1) (b := y) (by have := e_dr hl 1; simpa using this)
    have h3 := e_u1 (c := c) (p := p + 1 + 1) (b := z) (by have := e_dr hl 2; simpa using this)
    rw [Nat.eq_of_beq_eq_true h.1] at h1
    rw [Nat.eq_of_beq_eq_true h.2.1] at h2
    rw [Nat.eq_of_beq_eq_true h.2.2] at h3
    exact ⟨h1, h2, h3⟩
  · cases h
theorem e_l1 (p : Nat) : p + 1 - p = 1 := by omega
theorem e_l2 (p : Nat) : p + 1 + 1 - p = 2 := by omega
theorem e_l3 (p : Nat) : p + 1 + 1 + 1 - p = 3 := by omega
theorem dc_2 {c : ByteArray} {pc : Nat} (h : e_b1 c pc 2 = true) : decode c pc = .ok ((.iconst (-1)), 1) := by
  have k0 := e_k1 h
  have e0 : decode c pc = Except.bind (Except.bind (.ok (2, pc + 1)) (fun _ => (Pure.pure (.iconst (-1)) : Decoder Instr) c (pc + 1))) (fun q => .ok (q.1, q.2 - pc)) := by
    unfold decode Reader.runAt Decoder.instr
    show Except.bind (Except.bind (Reader.u1 c pc) _) _ = _
    rw [k0]
    rfl
  rw [e0]
  simp only [Bind.bind, ReaderT.bind, StateT.bind, Except.bind, Pure.pure, ReaderT.pure, StateT.pure, Except.pure, Functor.map, StateT.map, Except.map, e_l1]
theorem dc_3 {c : ByteArray} {pc : Nat} (h : e_b1 c pc 3 = true) : decode c pc = .ok ((.iconst (0)), 1) := by
  have k0 := e_k1 h
  have e0 : decode c pc = Except.bind (Except.bind (.ok (3, pc + 1)) (fun _ => (Pure.pure (.iconst (0)) : Decoder Instr) c (pc + 1))) (fun q => .ok (q.1, q.2 - pc)) := by
    unfold decode Reader.runAt Decoder.instr
    show Except.bind (Except.bind (Reader.u1 c pc) _) _ = _
    rw [k0]
    rfl
  rw [e0]
  simp only [Bind.bind, ReaderT.bind, StateT.bind, Except.bind, Pure.pure, ReaderT.pure, StateT.pure, Except.pure, Functor.map, StateT.map, Except.map, e_l1]
theorem dc_4 {c : ByteArray} {pc : Nat} (h : e_b1 c pc 4 = true) : decode c pc = .ok ((.iconst (1)), 1) := by
  have k0 := e_k1 h
  have e0 : decode c pc = Except.bind (Except.bind (.ok (4, pc + 1)) (fun _ => (Pure.pure (.iconst (1)) : Decoder Instr) c (pc + 1))) (fun q => .ok (q.1, q.2 - pc)) := by
    unfold decode Reader.runAt Decoder.instr
    show Except.bind (Except.bind (Reader.u1 c pc) _) _ = _
    rw [k0]
    rfl
  rw [e0]
  simp only [Bind.bind, ReaderT.bind, StateT.bind, Except.bind, Pure.pure, ReaderT.pure, StateT.pure, Except.pure, Functor.map, StateT.map, Except.map, e_l1]
theorem dc_5 {c : ByteArray} {pc : Nat} (h : e_b1 c pc 5 = true) : decode c pc = .ok ((.iconst (2)), 1) := by
  have k0 := e_k1 h
  have e0 : decode c pc = Except.bind (Except.bind (.ok (5, pc + 1)) (fun _ => (Pure.pure (.iconst (2)) : Decoder Instr) c (pc + 1))) (fun q => .ok (q.1, q.2 - pc)) := by
    unfold decode Reader.runAt Decoder.instr
    show Except.bind (Except.bind (Reader.u1 c pc) _) _ = _
    rw [k0]
    rfl
  rw [e0]
  simp only [Bind.bind, ReaderT.bind, StateT.bind, Except.bind, Pure.pure, ReaderT.pure, StateT.pure, Except.pure, Functor.map, StateT.map, Except.map, e_l1]
theorem dc_6 {c : ByteArray} {pc : Nat} (h : e_b1 c pc 6 = true) : decode c pc = .ok ((.iconst (3)), 1) := by
  have k0 := e_k1 h
  have e0 : decode c pc = Except.bind (Except.bind (.ok (6, pc + 1)) (fun _ => (Pure.pure (.iconst (3)) : Decoder Instr) c (pc + 1))) (fun q => .ok (q.1, q.2 - pc)) := by
    unfold decode Reader.runAt Decoder.instr
    show Except.bind (Except.bind (Reader.u1 c pc) _) _ = _
    rw [k0]
    rfl
  rw [e0]
  simp only [Bind.bind, ReaderT.bind, StateT.bind, Except.bind, Pure.pure, ReaderT.pure, StateT.pure, Except.pure, Functor.map, StateT.map, Except.map, e_l1]
theorem dc_7 {c : ByteArray} {pc : Nat} (h : e_b1 c pc 7 = true) : decode c pc = .ok ((.iconst (4)), 1) := by
  have k0 := e_k1 h
  have e0 : decode c pc = Except.bind (Except.bind (.ok (7, pc + 1)) (fun _ => (Pure.pure (.iconst (4)) : Decoder Instr) c (pc + 1))) (fun q => .ok (q.1, q.2 - pc)) := by
    unfold decode Reader.runAt Decoder.instr
    show Except.bind (Except.bind (Reader.u1 c pc) _) _ = _
    rw [k0]
    rfl
  rw [e0]
  simp only [Bind.bind, ReaderT.bind, StateT.bind, Except.bind, Pure.pure, ReaderT.pure, StateT.pure, Except.pure, Functor.map, StateT.map, Except.map, e_l1]
theorem dc_8 {c : ByteArray} {pc : Nat} (h : e_b1 c pc 8 = true) : decode c pc = .ok ((.iconst (5)), 1) := by
  have k0 := e_k1 h
  have e0 : decode c pc = Except.bind (Except.bind (.ok (8, pc + 1)) (fun _ => (Pure.pure (.iconst (5)) : Decoder Instr) c (pc + 1))) (fun q => .ok (q.1, q.2 - pc)) := by
    unfold decode Reader.runAt Decoder.instr
    show Except.bind (Except.bind (Reader.u1 c pc) _) _ = _
    rw [k0]
    rfl
  rw [e0]
  simp only [Bind.bind, ReaderT.bind, StateT.bind, Except.bind, Pure.pure, ReaderT.pure, StateT.pure, Except.pure, Functor.map, StateT.map, Except.map, e_l1]
theorem dc_9 {c : ByteArray} {pc : Nat} (h : e_b1 c pc 9 = true) : decode c pc = .ok ((.lconst (0)), 1) := by
  have k0 := e_k1 h
  have e0 : decode c pc = Except.bind (Except.bind (.ok (9, pc + 1)) (fun _ => (Pure.pure (.lconst (0)) : Decoder Instr) c (pc + 1))) (fun q => .ok (q.1, q.2 - pc)) := by
    unfold decode Reader.runAt Decoder.instr
    show Except.bind (Except.bind (Reader.u1 c pc) _) _ = _
    rw [k0]
    rfl
  rw [e0]
  simp only [Bind.bind, ReaderT.bind, StateT.bind, Except.bind, Pure.pure, ReaderT.pure, StateT.pure, Except.pure, Functor.map, StateT.map, Except.map, e_l1]
theorem dc_10 {c : ByteArray} {pc : Nat} (h : e_b1 c pc 10 = true) : decode c pc = .ok ((.lconst (1)), 1) := by
  have k0 := e_k1 h
  have e0 : decode c pc = Except.bind (Except.bind (.ok (10, pc + 1)) (fun _ => (Pure.pure (.lconst (1)) : Decoder Instr) c (pc + 1))) (fun q => .ok (q.1, q.2 - pc)) := by
    unfold decode Reader.runAt Decoder.instr
    show Except.bind (Except.bind (Reader.u1 c pc) _) _ = _
    rw [k0]
    rfl
  rw [e0]
  simp only [Bind.bind, ReaderT.bind, StateT.bind, Except.bind, Pure.pure, ReaderT.pure, StateT.pure, Except.pure, Functor.map, StateT.map, Except.map, e_l1]
theorem dc_16 {c : ByteArray} {pc a : Nat} {v : Int} (h : (e_b2 c pc 16 a && decide (Reader.signed 8 a = v)) = true) : decode c pc = .ok (.bipush v, 2) := by
  rw [Bool.and_eq_true, decide_eq_true_eq] at h
  obtain ⟨k0, k1⟩ := e_k2 h.1
  have e0 : decode c pc = Except.bind (Except.bind (.ok (16, pc + 1)) (fun _ => (do let i ← Reader.s1; Pure.pure (.bipush i) : Decoder Instr) c (pc + 1))) (fun q => .ok (q.1, q.2 - pc)) := by
    unfold decode Reader.runAt Decoder.instr
    show Except.bind (Except.bind (Reader.u1 c pc) _) _ = _
    rw [k0]
    rfl
  rw [e0]
  unfold Reader.s1
  simp only [Bind.bind, ReaderT.bind, StateT.bind, Except.bind, k1, h.2, Pure.pure, ReaderT.pure, StateT.pure, Except.pure, Functor.map, StateT.map, Except.map, e_l2]
theorem dc_17 {c : ByteArray} {pc a b : Nat} {v : Int} (h : (e_b3 c pc 17 a b && decide (Reader.signed 16 (a * 256 + b) = v)) = true) : decode c pc = .ok (.sipush v, 3) := by
  rw [Bool.and_eq_true, decide_eq_true_eq] at h
  obtain ⟨k0, k1, k2⟩ := e_k3 h.1
  have e0 : decode c pc = Except.bind (Except.bind (.ok (17, pc + 1)) (fun _ => (do let i ← Reader.s2; Pure.pure (.sipush i) : Decoder Instr) c (pc + 1))) (fun q => .ok (q.1, q.2 - pc)) := by
    unfold decode Reader.runAt Decoder.instr
    show Except.bind (Except.bind (Reader.u1 c pc) _) _ = _
    rw [k0]
    rfl
  rw [e0]
  unfold Reader.s2 Reader.u2
  simp only [Bind.bind, ReaderT.bind, StateT.bind, Except.bind, k1, k2, h.2, Pure.pure, ReaderT.pure, StateT.pure, Except.pure, Functor.map, StateT.map, Except.map, e_l3]
theorem dc_18 {c : ByteArray} {pc a : Nat} (h : e_b2 c pc 18 a = true) : decode c pc = .ok (.ldc a, 2) := by
  obtain ⟨k0, k1⟩ := e_k2 h
  have e0 : decode c pc = Except.bind (Except.bind (.ok (18, pc + 1)) (fun _ => (do let i ← Reader.u1; Pure.pure (.ldc i) : Decoder Instr) c (pc + 1))) (fun q => .ok (q.1, q.2 - pc)) := by
    unfold decode Reader.runAt Decoder.instr
    show Except.bind (Except.bind (Reader.u1 c pc) _) _ = _
    rw [k0]
    rfl
  rw [e0]
  simp only [Bind.bind, ReaderT.bind, StateT.bind, Except.bind, k1, Pure.pure, ReaderT.pure, StateT.pure, Except.pure, Functor.map, StateT.map, Except.map, e_l2]
theorem dc_19 {c : ByteArray} {pc a b n : Nat} (h : (e_b3 c pc 19 a b && Nat.beq (a * 256 + b) n) = true) : decode c pc = .ok (.ldc_w n, 3) := by
  rw [Bool.and_eq_true] at h
  obtain ⟨k0, k1, k2⟩ := e_k3 h.1
  have kn := Nat.eq_of_beq_eq_true h.2
  have e0 : decode c pc = Except.bind (Except.bind (.ok (19, pc + 1)) (fun _ => (do let i ← Reader.u2; Pure.pure (.ldc_w i) : Decoder Instr) c (pc + 1))) (fun q => .ok (q.1, q.2 - pc)) := by
    unfold decode Reader.runAt Decoder.instr
    show Except.bind (Except.bind (Reader.u1 c pc) _) _ = _
    rw [k0]
    rfl
  rw [e0]
  unfold Reader.u2
  simp only [Bind.bind, ReaderT.bind, StateT.bind, Except.bind, k1, k2, kn, Pure.pure, ReaderT.pure, StateT.pure, Except.pure, Functor.map, StateT.map, Except.map, e_l3]
theorem dc_20 {c : ByteArray} {pc a b n : Nat} (h : (e_b3 c pc 20 a b && Nat.beq (a * 256 + b) n) = true) : decode c pc = .ok (.ldc2_w n, 3) := by
  rw [Bool.and_eq_true] at h
  obtain ⟨k0, k1, k2⟩ := e_k3 h.1
  have kn := Nat.eq_of_beq_eq_true h.2
  have e0 : decode c pc = Except.bind (Except.bind (.ok (20, pc + 1)) (fun _ => (do let i ← Reader.u2; Pure.pure (.ldc2_w i) : Decoder Instr) c (pc + 1))) (fun q => .ok (q.1, q.2 - pc)) := by
    unfold decode Reader.runAt Decoder.instr
    show Except.bind (Except.bind (Reader.u1 c pc) _) _ = _
    rw [k0]
    rfl
  rw [e0]
  unfold Reader.u2
  simp only [Bind.bind, ReaderT.bind, StateT.bind, Except.bind, k1, k2, kn, Pure.pure, ReaderT.pure, StateT.pure, Except.pure, Functor.map, StateT.map, Except.map, e_l3]
theorem dc_21 {c : ByteArray} {pc a : Nat} (h : e_b2 c pc 21 a = true) : decode c pc = .ok (.iload a, 2) := by
  obtain ⟨k0, k1⟩ := e_k2 h
  have e0 : decode c pc = Except.bind (Except.bind (.ok (21, pc + 1)) (fun _ => (do let i ← Reader.u1; Pure.pure (.iload i) : Decoder Instr) c (pc + 1))) (fun q => .ok (q.1, q.2 - pc)) := by
    unfold decode Reader.runAt Decoder.instr
    show Except.bind (Except.bind (Reader.u1 c pc) _) _ = _
    rw [k0]
    rfl
  rw [e0]
  simp only [Bind.bind, ReaderT.bind, StateT.bind, Except.bind, k1, Pure.pure, ReaderT.pure, StateT.pure, Except.pure, Functor.map, StateT.map, Except.map, e_l2]
theorem dc_22 {c : ByteArray} {pc a : Nat} (h : e_b2 c pc 22 a = true) : decode c pc = .ok (.lload a, 2) := by
  obtain ⟨k0, k1⟩ := e_k2 h
  have e0 : decode c pc = Except.bind (Except.bind (.ok (22, pc + 1)) (fun _ => (do let i ← Reader.u1; Pure.pure (.lload i) : Decoder Instr) c (pc + 1))) (fun q => .ok (q.1, q.2 - pc)) := by
    unfold decode Reader.runAt Decoder.instr
    show Except.bind (Except.bind (Reader.u1 c pc) _) _ = _
    rw [k0]
    rfl
  rw [e0]
  simp only [Bind.bind, ReaderT.bind, StateT.bind, Except.bind, k1, Pure.pure, ReaderT.pure, StateT.pure, Except.pure, Functor.map, StateT.map, Except.map, e_l2]
theorem dc_25 {c : ByteArray} {pc a : Nat} (h : e_b2 c pc 25 a = true) : decode c pc = .ok (.aload a, 2) := by
  obtain ⟨k0, k1⟩ := e_k2 h
  have e0 : decode c pc = Except.bind (Except.bind (.ok (25, pc + 1)) (fun _ => (do let i ← Reader.u1; Pure.pure (.aload i) : Decoder Instr) c (pc + 1))) (fun q => .ok (q.1, q.2 - pc)) := by
    unfold decode Reader.runAt Decoder.instr
    show Except.bind (Except.bind (Reader.u1 c pc) _) _ = _
    rw [k0]
    rfl
  rw [e0]
  simp only [Bind.bind, ReaderT.bind, StateT.bind, Except.bind, k1, Pure.pure, ReaderT.pure, StateT.pure, Except.pure, Functor.map, StateT.map, Except.map, e_l2]
theorem dc_26 {c : ByteArray} {pc : Nat} (h : e_b1 c pc 26 = true) : decode c pc = .ok ((.iload_n 0), 1) := by
  have k0 := e_k1 h
  have e0 : decode c pc = Except.bind (Except.bind (.ok (26, pc + 1)) (fun _ => (Pure.pure (.iload_n 0) : Decoder Instr) c (pc + 1))) (fun q => .ok (q.1, q.2 - pc)) := by
    unfold decode Reader.runAt Decoder.instr
    show Except.bind (Except.bind (Reader.u1 c pc) _) _ = _
    rw [k0]
    rfl
  rw [e0]
  simp only [Bind.bind, ReaderT.bind, StateT.bind, Except.bind, Pure.pure, ReaderT.pure, StateT.pure, Except.pure, Functor.map, StateT.map, Except.map, e_l1]
theorem dc_27 {c : ByteArray} {pc : Nat} (h : e_b1 c pc 27 = true) : decode c pc = .ok ((.iload_n 1), 1) := by
  have k0 := e_k1 h
  have e0 : decode c pc = Except.bind (Except.bind (.ok (27, pc + 1)) (fun _ => (Pure.pure (.iload_n 1) : Decoder Instr) c (pc + 1))) (fun q => .ok (q.1, q.2 - pc)) := by
    unfold decode Reader.runAt Decoder.instr
    show Except.bind (Except.bind (Reader.u1 c pc) _) _ = _
    rw [k0]
    rfl
  rw [e0]
  simp only [Bind.bind, ReaderT.bind, StateT.bind, Except.bind, Pure.pure, ReaderT.pure, StateT.pure, Except.pure, Functor.map, StateT.map, Except.map, e_l1]
theorem dc_28 {c : ByteArray} {pc : Nat} (h : e_b1 c pc 28 = true) : decode c pc = .ok ((.iload_n 2), 1) := by
  have k0 := e_k1 h
  have e0 : decode c pc = Except.bind (Except.bind (.ok (28, pc + 1)) (fun _ => (Pure.pure (.iload_n 2) : Decoder Instr) c (pc + 1))) (fun q => .ok (q.1, q.2 - pc)) := by
    unfold decode Reader.runAt Decoder.instr
    show Except.bind (Except.bind (Reader.u1 c pc) _) _ = _
    rw [k0]
    rfl
  rw [e0]
  simp only [Bind.bind, ReaderT.bind, StateT.bind, Except.bind, Pure.pure, ReaderT.pure, StateT.pure, Except.pure, Functor.map, StateT.map, Except.map, e_l1]
theorem dc_29 {c : ByteArray} {pc : Nat} (h : e_b1 c pc 29 = true) : decode c pc = .ok ((.iload_n 3), 1) := by
  have k0 := e_k1 h
  have e0 : decode c pc = Except.bind (Except.bind (.ok (29, pc + 1)) (fun _ => (Pure.pure (.iload_n 3) : Decoder Instr) c (pc + 1))) (fun q => .ok (q.1, q.2 - pc)) := by
    unfold decode Reader.runAt Decoder.instr
    show Except.bind (Except.bind (Reader.u1 c pc) _) _ = _
    rw [k0]
    rfl
  rw [e0]
  simp only [Bind.bind, ReaderT.bind, StateT.bind, Except.bind, Pure.pure, ReaderT.pure, StateT.pure, Except.pure, Functor.map, StateT.map, Except.map, e_l1]
theorem dc_30 {c : ByteArray} {pc : Nat} (h : e_b1 c pc 30 = true) : decode c pc = .ok ((.lload_n 0), 1) := by
  have k0 := e_k1 h
  have e0 : decode c pc = Except.bind (Except.bind (.ok (30, pc + 1)) (fun _ => (Pure.pure (.lload_n 0) : Decoder Instr) c (pc + 1))) (fun q => .ok (q.1, q.2 - pc)) := by
    unfold decode Reader.runAt Decoder.instr
    show Except.bind (Except.bind (Reader.u1 c pc) _) _ = _
    rw [k0]
    rfl
  rw [e0]
  simp only [Bind.bind, ReaderT.bind, StateT.bind, Except.bind, Pure.pure, ReaderT.pure, StateT.pure, Except.pure, Functor.map, StateT.map, Except.map, e_l1]
theorem dc_31 {c : ByteArray} {pc : Nat} (h : e_b1 c pc 31 = true) : decode c pc = .ok ((.lload_n 1), 1) := by
  have k0 := e_k1 h
  have e0 : decode c pc = Except.bind (Except.bind (.ok (31, pc + 1)) (fun _ => (Pure.pure (.lload_n 1) : Decoder Instr) c (pc + 1))) (fun q => .ok (q.1, q.2 - pc)) := by
    unfold decode Reader.runAt Decoder.instr
    show Except.bind (Except.bind (Reader.u1 c pc) _) _ = _
    rw [k0]
    rfl
  rw [e0]
  simp only [Bind.bind, ReaderT.bind, StateT.bind, Except.bind, Pure.pure, ReaderT.pure, StateT.pure, Except.pure, Functor.map, StateT.map, Except.map, e_l1]
theorem dc_32 {c : ByteArray} {pc : Nat} (h : e_b1 c pc 32 = true) : decode c pc = .ok ((.lload_n 2), 1) := by
  have k0 := e_k1 h
  have e0 : decode c pc = Except.bind (Except.bind (.ok (32, pc + 1)) (fun _ => (Pure.pure (.lload_n 2) : Decoder Instr) c (pc + 1))) (fun q => .ok (q.1, q.2 - pc)) := by
    unfold decode Reader.runAt Decoder.instr
    show Except.bind (Except.bind (Reader.u1 c pc) _) _ = _
    rw [k0]
    rfl
  rw [e0]
  simp only [Bind.bind, ReaderT.bind, StateT.bind, Except.bind, Pure.pure, ReaderT.pure, StateT.pure, Except.pure, Functor.map, StateT.map, Except.map, e_l1]
theorem dc_33 {c : ByteArray} {pc : Nat} (h : e_b1 c pc 33 = true) : decode c pc = .ok ((.lload_n 3), 1) := by
  have k0 := e_k1 h
  have e0 : decode c pc = Except.bind (Except.bind (.ok (33, pc + 1)) (fun _ => (Pure.pure (.lload_n 3) : Decoder Instr) c (pc + 1))) (fun q => .ok (q.1, q.2 - pc)) := by
    unfold decode Reader.runAt Decoder.instr
    show Except.bind (Except.bind (Reader.u1 c pc) _) _ = _
    rw [k0]
    rfl
  rw [e0]
  simp only [Bind.bind, ReaderT.bind, StateT.bind, Except.bind, Pure.pure, ReaderT.pure, StateT.pure, Except.pure, Functor.map, StateT.map, Except.map, e_l1]
theorem dc_42 {c : ByteArray} {pc : Nat} (h : e_b1 c pc 42 = true) : decode c pc = .ok ((.aload_n 0), 1) := by
  have k0 := e_k1 h
  have e0 : decode c pc = Except.bind (Except.bind (.ok (42, pc + 1)) (fun _ => (Pure.pure (.aload_n 0) : Decoder Instr) c (pc + 1))) (fun q => .ok (q.1, q.2 - pc)) := by
    unfold decode Reader.runAt Decoder.instr
    show Except.bind (Except.bind (Reader.u1 c pc) _) _ = _
    rw [k0]
    rfl
  rw [e0]
  simp only [Bind.bind, ReaderT.bind, StateT.bind, Except.bind, Pure.pure, ReaderT.pure, StateT.pure, Except.pure, Functor.map, StateT.map, Except.map, e_l1]
theorem dc_43 {c : ByteArray} {pc : Nat} (h : e_b1 c pc 43 = true) : decode c pc = .ok ((.aload_n 1), 1) := by
  have k0 := e_k1 h
  have e0 : decode c pc = Except.bind (Except.bind (.ok (43, pc + 1)) (fun _ => (Pure.pure (.aload_n 1) : Decoder Instr) c (pc + 1))) (fun q => .ok (q.1, q.2 - pc)) := by
    unfold decode Reader.runAt Decoder.instr
    show Except.bind (Except.bind (Reader.u1 c pc) _) _ = _
    rw [k0]
    rfl
  rw [e0]
  simp only [Bind.bind, ReaderT.bind, StateT.bind, Except.bind, Pure.pure, ReaderT.pure, StateT.pure, Except.pure, Functor.map, StateT.map, Except.map, e_l1]
theorem dc_44 {c : ByteArray} {pc : Nat} (h : e_b1 c pc 44 = true) : decode c pc = .ok ((.aload_n 2), 1) := by
  have k0 := e_k1 h
  have e0 : decode c pc = Except.bind (Except.bind (.ok (44, pc + 1)) (fun _ => (Pure.pure (.aload_n 2) : Decoder Instr) c (pc + 1))) (fun q => .ok (q.1, q.2 - pc)) := by
    unfold decode Reader.runAt Decoder.instr
    show Except.bind (Except.bind (Reader.u1 c pc) _) _ = _
    rw [k0]
    rfl
  rw [e0]
  simp only [Bind.bind, ReaderT.bind, StateT.bind, Except.bind, Pure.pure, ReaderT.pure, StateT.pure, Except.pure, Functor.map, StateT.map, Except.map, e_l1]
theorem dc_45 {c : ByteArray} {pc : Nat} (h : e_b1 c pc 45 = true) : decode c pc = .ok ((.aload_n 3), 1) := by
  have k0 := e_k1 h
  have e0 : decode c pc = Except.bind (Except.bind (.ok (45, pc + 1)) (fun _ => (Pure.pure (.aload_n 3) : Decoder Instr) c (pc + 1))) (fun q => .ok (q.1, q.2 - pc)) := by
    unfold decode Reader.runAt Decoder.instr
    show Except.bind (Except.bind (Reader.u1 c pc) _) _ = _
    rw [k0]
    rfl
  rw [e0]
  simp only [Bind.bind, ReaderT.bind, StateT.bind, Except.bind, Pure.pure, ReaderT.pure, StateT.pure, Except.pure, Functor.map, StateT.map, Except.map, e_l1]
theorem dc_46 {c : ByteArray} {pc : Nat} (h : e_b1 c pc 46 = true) : decode c pc = .ok (.iaload, 1) := by
  have k0 := e_k1 h
  have e0 : decode c pc = Except.bind (Except.bind (.ok (46, pc + 1)) (fun _ => (Pure.pure .iaload : Decoder Instr) c (pc + 1))) (fun q => .ok (q.1, q.2 - pc)) := by
    unfold decode Reader.runAt Decoder.instr
    show Except.bind (Except.bind (Reader.u1 c pc) _) _ = _
    rw [k0]
    rfl
  rw [e0]
  simp only [Bind.bind, ReaderT.bind, StateT.bind, Except.bind, Pure.pure, ReaderT.pure, StateT.pure, Except.pure, Functor.map, StateT.map, Except.map, e_l1]
theorem dc_47 {c : ByteArray} {pc : Nat} (h : e_b1 c pc 47 = true) : decode c pc = .ok (.laload, 1) := by
  have k0 := e_k1 h
  have e0 : decode c pc = Except.bind (Except.bind (.ok (47, pc + 1)) (fun _ => (Pure.pure .laload : Decoder Instr) c (pc + 1))) (fun q => .ok (q.1, q.2 - pc)) := by
    unfold decode Reader.runAt Decoder.instr
    show Except.bind (Except.bind (Reader.u1 c pc) _) _ = _
    rw [k0]
    rfl
  rw [e0]
  simp only [Bind.bind, ReaderT.bind, StateT.bind, Except.bind, Pure.pure, ReaderT.pure, StateT.pure, Except.pure, Functor.map, StateT.map, Except.map, e_l1]
theorem dc_50 {c : ByteArray} {pc : Nat} (h : e_b1 c pc 50 = true) : decode c pc = .ok (.aaload, 1) := by
  have k0 := e_k1 h
  have e0 : decode c pc = Except.bind (Except.bind (.ok (50, pc + 1)) (fun _ => (Pure.pure .aaload : Decoder Instr) c (pc + 1))) (fun q => .ok (q.1, q.2 - pc)) := by
    unfold decode Reader.runAt Decoder.instr
    show Except.bind (Except.bind (Reader.u1 c pc) _) _ = _
    rw [k0]
    rfl
  rw [e0]
  simp only [Bind.bind, ReaderT.bind, StateT.bind, Except.bind, Pure.pure, ReaderT.pure, StateT.pure, Except.pure, Functor.map, StateT.map, Except.map, e_l1]
theorem dc_51 {c : ByteArray} {pc : Nat} (h : e_b1 c pc 51 = true) : decode c pc = .ok (.baload, 1) := by
  have k0 := e_k1 h
  have e0 : decode c pc = Except.bind (Except.bind (.ok (51, pc + 1)) (fun _ => (Pure.pure .baload : Decoder Instr) c (pc + 1))) (fun q => .ok (q.1, q.2 - pc)) := by
    unfold decode Reader.runAt Decoder.instr
    show Except.bind (Except.bind (Reader.u1 c pc) _) _ = _
    rw [k0]
    rfl
  rw [e0]
  simp only [Bind.bind, ReaderT.bind, StateT.bind, Except.bind, Pure.pure, ReaderT.pure, StateT.pure, Except.pure, Functor.map, StateT.map, Except.map, e_l1]
theorem dc_54 {c : ByteArray} {pc a : Nat} (h : e_b2 c pc 54 a = true) : decode c pc = .ok (.istore a, 2) := by
  obtain ⟨k0, k1⟩ := e_k2 h
  have e0 : decode c pc = Except.bind (Except.bind (.ok (54, pc + 1)) (fun _ => (do let i ← Reader.u1; Pure.pure (.istore i) : Decoder Instr) c (pc + 1))) (fun q => .ok (q.1, q.2 - pc)) := by
    unfold decode Reader.runAt Decoder.instr
    show Except.bind (Except.bind (Reader.u1 c pc) _) _ = _
    rw [k0]
    rfl
  rw [e0]
  simp only [Bind.bind, ReaderT.bind, StateT.bind, Except.bind, k1, Pure.pure, ReaderT.pure, StateT.pure, Except.pure, Functor.map, StateT.map, Except.map, e_l2]
theorem dc_55 {c : ByteArray} {pc a : Nat} (h : e_b2 c pc 55 a = true) : decode c pc = .ok (.lstore a, 2) := by
  obtain ⟨k0, k1⟩ := e_k2 h
  have e0 : decode c pc = Except.bind (Except.bind (.ok (55, pc + 1)) (fun _ => (do let i ← Reader.u1; Pure.pure (.lstore i) : Decoder Instr) c (pc + 1))) (fun q => .ok (q.1, q.2 - pc)) := by
    unfold decode Reader.runAt Decoder.instr
    show Except.bind (Except.bind (Reader.u1 c pc) _) _ = _
    rw [k0]
    rfl
  rw [e0]
  simp only [Bind.bind, ReaderT.bind, StateT.bind, Except.bind, k1, Pure.pure, ReaderT.pure, StateT.pure, Except.pure, Functor.map, StateT.map, Except.map, e_l2]
theorem dc_58 {c : ByteArray} {pc a : Nat} (h : e_b2 c pc 58 a = true) : decode c pc = .ok (.astore a, 2) := by
  obtain ⟨k0, k1⟩ := e_k2 h
  have e0 : decode c pc = Except.bind (Except.bind (.ok (58, pc + 1)) (fun _ => (do let i ← Reader.u1; Pure.pure (.astore i) : Decoder Instr) c (pc + 1))) (fun q => .ok (q.1, q.2 - pc)) := by
    unfold decode Reader.runAt Decoder.instr
    show Except.bind (Except.bind (Reader.u1 c pc) _) _ = _
    rw [k0]
    rfl
  rw [e0]
  simp only [Bind.bind, ReaderT.bind, StateT.bind, Except.bind, k1, Pure.pure, ReaderT.pure, StateT.pure, Except.pure, Functor.map, StateT.map, Except.map, e_l2]
theorem dc_60 {c : ByteArray} {pc : Nat} (h : e_b1 c pc 60 = true) : decode c pc = .ok ((.istore_n 1), 1) := by
  have k0 := e_k1 h
  have e0 : decode c pc = Except.bind (Except.bind (.ok (60, pc + 1)) (fun _ => (Pure.pure (.istore_n 1) : Decoder Instr) c (pc + 1))) (fun q => .ok (q.1, q.2 - pc)) := by
    unfold decode Reader.runAt Decoder.instr
    show Except.bind (Except.bind (Reader.u1 c pc) _) _ = _
    rw [k0]
    rfl
  rw [e0]
  simp only [Bind.bind, ReaderT.bind, StateT.bind, Except.bind, Pure.pure, ReaderT.pure, StateT.pure, Except.pure, Functor.map, StateT.map, Except.map, e_l1]
theorem dc_61 {c : ByteArray} {pc : Nat} (h : e_b1 c pc 61 = true) : decode c pc = .ok ((.istore_n 2), 1) := by
  have k0 := e_k1 h
  have e0 : decode c pc = Except.bind (Except.bind (.ok (61, pc + 1)) (fun _ => (Pure.pure (.istore_n 2) : Decoder Instr) c (pc + 1))) (fun q => .ok (q.1, q.2 - pc)) := by
    unfold decode Reader.runAt Decoder.instr
    show Except.bind (Except.bind (Reader.u1 c pc) _) _ = _
    rw [k0]
    rfl
  rw [e0]
  simp only [Bind.bind, ReaderT.bind, StateT.bind, Except.bind, Pure.pure, ReaderT.pure, StateT.pure, Except.pure, Functor.map, StateT.map, Except.map, e_l1]
theorem dc_62 {c : ByteArray} {pc : Nat} (h : e_b1 c pc 62 = true) : decode c pc = .ok ((.istore_n 3), 1) := by
  have k0 := e_k1 h
  have e0 : decode c pc = Except.bind (Except.bind (.ok (62, pc + 1)) (fun _ => (Pure.pure (.istore_n 3) : Decoder Instr) c (pc + 1))) (fun q => .ok (q.1, q.2 - pc)) := by
    unfold decode Reader.runAt Decoder.instr
    show Except.bind (Except.bind (Reader.u1 c pc) _) _ = _
    rw [k0]
    rfl
  rw [e0]
  simp only [Bind.bind, ReaderT.bind, StateT.bind, Except.bind, Pure.pure, ReaderT.pure, StateT.pure, Except.pure, Functor.map, StateT.map, Except.map, e_l1]
theorem dc_64 {c : ByteArray} {pc : Nat} (h : e_b1 c pc 64 = true) : decode c pc = .ok ((.lstore_n 1), 1) := by
  have k0 := e_k1 h
  have e0 : decode c pc = Except.bind (Except.bind (.ok (64, pc + 1)) (fun _ => (Pure.pure (.lstore_n 1) : Decoder Instr) c (pc + 1))) (fun q => .ok (q.1, q.2 - pc)) := by
    unfold decode Reader.runAt Decoder.instr
    show Except.bind (Except.bind (Reader.u1 c pc) _) _ = _
    rw [k0]
    rfl
  rw [e0]
  simp only [Bind.bind, ReaderT.bind, StateT.bind, Except.bind, Pure.pure, ReaderT.pure, StateT.pure, Except.pure, Functor.map, StateT.map, Except.map, e_l1]
theorem dc_65 {c : ByteArray} {pc : Nat} (h : e_b1 c pc 65 = true) : decode c pc = .ok ((.lstore_n 2), 1) := by
  have k0 := e_k1 h
  have e0 : decode c pc = Except.bind (Except.bind (.ok (65, pc + 1)) (fun _ => (Pure.pure (.lstore_n 2) : Decoder Instr) c (pc + 1))) (fun q => .ok (q.1, q.2 - pc)) := by
    unfold decode Reader.runAt Decoder.instr
    show Except.bind (Except.bind (Reader.u1 c pc) _) _ = _
    rw [k0]
    rfl
  rw [e0]
  simp only [Bind.bind, ReaderT.bind, StateT.bind, Except.bind, Pure.pure, ReaderT.pure, StateT.pure, Except.pure, Functor.map, StateT.map, Except.map, e_l1]
theorem dc_66 {c : ByteArray} {pc : Nat} (h : e_b1 c pc 66 = true) : decode c pc = .ok ((.lstore_n 3), 1) := by
  have k0 := e_k1 h
  have e0 : decode c pc = Except.bind (Except.bind (.ok (66, pc + 1)) (fun _ => (Pure.pure (.lstore_n 3) : Decoder Instr) c (pc + 1))) (fun q => .ok (q.1, q.2 - pc)) := by
    unfold decode Reader.runAt Decoder.instr
    show Except.bind (Except.bind (Reader.u1 c pc) _) _ = _
    rw [k0]
    rfl
  rw [e0]
  simp only [Bind.bind, ReaderT.bind, StateT.bind, Except.bind, Pure.pure, ReaderT.pure, StateT.pure, Except.pure, Functor.map, StateT.map, Except.map, e_l1]
theorem dc_76 {c : ByteArray} {pc : Nat} (h : e_b1 c pc 76 = true) : decode c pc = .ok ((.astore_n 1), 1) := by
  have k0 := e_k1 h
  have e0 : decode c pc = Except.bind (Except.bind (.ok (76, pc + 1)) (fun _ => (Pure.pure (.astore_n 1) : Decoder Instr) c (pc + 1))) (fun q => .ok (q.1, q.2 - pc)) := by
    unfold decode Reader.runAt Decoder.instr
    show Except.bind (Except.bind (Reader.u1 c pc) _) _ = _
    rw [k0]
    rfl
  rw [e0]
  simp only [Bind.bind, ReaderT.bind, StateT.bind, Except.bind, Pure.pure, ReaderT.pure, StateT.pure, Except.pure, Functor.map, StateT.map, Except.map, e_l1]
theorem dc_77 {c : ByteArray} {pc : Nat} (h : e_b1 c pc 77 = true) : decode c pc = .ok ((.astore_n 2), 1) := by
  have k0 := e_k1 h
  have e0 : decode c pc = Except.bind (Except.bind (.ok (77, pc + 1)) (fun _ => (Pure.pure (.astore_n 2) : Decoder Instr) c (pc + 1))) (fun q => .ok (q.1, q.2 - pc)) := by
    unfold decode Reader.runAt Decoder.instr
    show Except.bind (Except.bind (Reader.u1 c pc) _) _ = _
    rw [k0]
    rfl
  rw [e0]
  simp only [Bind.bind, ReaderT.bind, StateT.bind, Except.bind, Pure.pure, ReaderT.pure, StateT.pure, Except.pure, Functor.map, StateT.map, Except.map, e_l1]
theorem dc_78 {c : ByteArray} {pc : Nat} (h : e_b1 c pc 78 = true) : decode c pc = .ok ((.astore_n 3), 1) := by
  have k0 := e_k1 h
  have e0 : decode c pc = Except.bind (Except.bind (.ok (78, pc + 1)) (fun _ => (Pure.pure (.astore_n 3) : Decoder Instr) c (pc + 1))) (fun q => .ok (q.1, q.2 - pc)) := by
    unfold decode Reader.runAt Decoder.instr
    show Except.bind (Except.bind (Reader.u1 c pc) _) _ = _
    rw [k0]
    rfl
  rw [e0]
  simp only [Bind.bind, ReaderT.bind, StateT.bind, Except.bind, Pure.pure, ReaderT.pure, StateT.pure, Except.pure, Functor.map, StateT.map, Except.map, e_l1]
theorem dc_79 {c : ByteArray} {pc : Nat} (h : e_b1 c pc 79 = true) : decode c pc = .ok (.iastore, 1) := by
  have k0 := e_k1 h
  have e0 : decode c pc = Except.bind (Except.bind (.ok (79, pc + 1)) (fun _ => (Pure.pure .iastore : Decoder Instr) c (pc + 1))) (fun q => .ok (q.1, q.2 - pc)) := by
    unfold decode Reader.runAt Decoder.instr
    show Except.bind (Except.bind (Reader.u1 c pc) _) _ = _
    rw [k0]
    rfl
  rw [e0]
  simp only [Bind.bind, ReaderT.bind, StateT.bind, Except.bind, Pure.pure, ReaderT.pure, StateT.pure, Except.pure, Functor.map, StateT.map, Except.map, e_l1]
theorem dc_80 {c : ByteArray} {pc : Nat} (h : e_b1 c pc 80 = true) : decode c pc = .ok (.lastore, 1) := by
  have k0 := e_k1 h
  have e0 : decode c pc = Except.bind (Except.bind (.ok (80, pc + 1)) (fun _ => (Pure.pure .lastore : Decoder Instr) c (pc + 1))) (fun q => .ok (q.1, q.2 - pc)) := by
    unfold decode Reader.runAt Decoder.instr
    show Except.bind (Except.bind (Reader.u1 c pc) _) _ = _
    rw [k0]
    rfl
  rw [e0]
  simp only [Bind.bind, ReaderT.bind, StateT.bind, Except.bind, Pure.pure, ReaderT.pure, StateT.pure, Except.pure, Functor.map, StateT.map, Except.map, e_l1]
theorem dc_83 {c : ByteArray} {pc : Nat} (h : e_b1 c pc 83 = true) : decode c pc = .ok (.aastore, 1) := by
  have k0 := e_k1 h
  have e0 : decode c pc = Except.bind (Except.bind (.ok (83, pc + 1)) (fun _ => (Pure.pure .aastore : Decoder Instr) c (pc + 1))) (fun q => .ok (q.1, q.2 - pc)) := by
    unfold decode Reader.runAt Decoder.instr
    show Except.bind (Except.bind (Reader.u1 c pc) _) _ = _
    rw [k0]
    rfl
  rw [e0]
  simp only [Bind.bind, ReaderT.bind, StateT.bind, Except.bind, Pure.pure, ReaderT.pure, StateT.pure, Except.pure, Functor.map, StateT.map, Except.map, e_l1]
theorem dc_84 {c : ByteArray} {pc : Nat} (h : e_b1 c pc 84 = true) : decode c pc = .ok (.bastore, 1) := by
  have k0 := e_k1 h
  have e0 : decode c pc = Except.bind (Except.bind (.ok (84, pc + 1)) (fun _ => (Pure.pure .bastore : Decoder Instr) c (pc + 1))) (fun q => .ok (q.1, q.2 - pc)) := by
    unfold decode Reader.runAt Decoder.instr
    show Except.bind (Except.bind (Reader.u1 c pc) _) _ = _
    rw [k0]
    rfl
  rw [e0]
  simp only [Bind.bind, ReaderT.bind, StateT.bind, Except.bind, Pure.pure, ReaderT.pure, StateT.pure, Except.pure, Functor.map, StateT.map, Except.map, e_l1]
theorem dc_87 {c : ByteArray} {pc : Nat} (h : e_b1 c pc 87 = true) : decode c pc = .ok (.pop, 1) := by
  have k0 := e_k1 h
  have e0 : decode c pc = Except.bind (Except.bind (.ok (87, pc + 1)) (fun _ => (Pure.pure .pop : Decoder Instr) c (pc + 1))) (fun q => .ok (q.1, q.2 - pc)) := by
    unfold decode Reader.runAt Decoder.instr
    show Except.bind (Except.bind (Reader.u1 c pc) _) _ = _
    rw [k0]
    rfl
  rw [e0]
  simp only [Bind.bind, ReaderT.bind, StateT.bind, Except.bind, Pure.pure, ReaderT.pure, StateT.pure, Except.pure, Functor.map, StateT.map, Except.map, e_l1]
theorem dc_89 {c : ByteArray} {pc : Nat} (h : e_b1 c pc 89 = true) : decode c pc = .ok (.dup, 1) := by
  have k0 := e_k1 h
  have e0 : decode c pc = Except.bind (Except.bind (.ok (89, pc + 1)) (fun _ => (Pure.pure .dup : Decoder Instr) c (pc + 1))) (fun q => .ok (q.1, q.2 - pc)) := by
    unfold decode Reader.runAt Decoder.instr
    show Except.bind (Except.bind (Reader.u1 c pc) _) _ = _
    rw [k0]
    rfl
  rw [e0]
  simp only [Bind.bind, ReaderT.bind, StateT.bind, Except.bind, Pure.pure, ReaderT.pure, StateT.pure, Except.pure, Functor.map, StateT.map, Except.map, e_l1]
theorem dc_90 {c : ByteArray} {pc : Nat} (h : e_b1 c pc 90 = true) : decode c pc = .ok (.dup_x1, 1) := by
  have k0 := e_k1 h
  have e0 : decode c pc = Except.bind (Except.bind (.ok (90, pc + 1)) (fun _ => (Pure.pure .dup_x1 : Decoder Instr) c (pc + 1))) (fun q => .ok (q.1, q.2 - pc)) := by
    unfold decode Reader.runAt Decoder.instr
    show Except.bind (Except.bind (Reader.u1 c pc) _) _ = _
    rw [k0]
    rfl
  rw [e0]
  simp only [Bind.bind, ReaderT.bind, StateT.bind, Except.bind, Pure.pure, ReaderT.pure, StateT.pure, Except.pure, Functor.map, StateT.map, Except.map, e_l1]
theorem dc_91 {c : ByteArray} {pc : Nat} (h : e_b1 c pc 91 = true) : decode c pc = .ok (.dup_x2, 1) := by
  have k0 := e_k1 h
  have e0 : decode c pc = Except.bind (Except.bind (.ok (91, pc + 1)) (fun _ => (Pure.pure .dup_x2 : Decoder Instr) c (pc + 1))) (fun q => .ok (q.1, q.2 - pc)) := by
    unfold decode Reader.runAt Decoder.instr
    show Except.bind (Except.bind (Reader.u1 c pc) _) _ = _
    rw [k0]
    rfl
  rw [e0]
  simp only [Bind.bind, ReaderT.bind, StateT.bind, Except.bind, Pure.pure, ReaderT.pure, StateT.pure, Except.pure, Functor.map, StateT.map, Except.map, e_l1]
theorem dc_92 {c : ByteArray} {pc : Nat} (h : e_b1 c pc 92 = true) : decode c pc = .ok (.dup2, 1) := by
  have k0 := e_k1 h
  have e0 : decode c pc = Except.bind (Except.bind (.ok (92, pc + 1)) (fun _ => (Pure.pure .dup2 : Decoder Instr) c (pc + 1))) (fun q => .ok (q.1, q.2 - pc)) := by
    unfold decode Reader.runAt Decoder.instr
    show Except.bind (Except.bind (Reader.u1 c pc) _) _ = _
    rw [k0]
    rfl
  rw [e0]
  simp only [Bind.bind, ReaderT.bind, StateT.bind, Except.bind, Pure.pure, ReaderT.pure, StateT.pure, Except.pure, Functor.map, StateT.map, Except.map, e_l1]
theorem dc_96 {c : ByteArray} {pc : Nat} (h : e_b1 c pc 96 = true) : decode c pc = .ok (.iadd, 1) := by
  have k0 := e_k1 h
  have e0 : decode c pc = Except.bind (Except.bind (.ok (96, pc + 1)) (fun _ => (Pure.pure .iadd : Decoder Instr) c (pc + 1))) (fun q => .ok (q.1, q.2 - pc)) := by
    unfold decode Reader.runAt Decoder.instr
    show Except.bind (Except.bind (Reader.u1 c pc) _) _ = _
    rw [k0]
    rfl
  rw [e0]
  simp only [Bind.bind, ReaderT.bind, StateT.bind, Except.bind, Pure.pure, ReaderT.pure, StateT.pure, Except.pure, Functor.map, StateT.map, Except.map, e_l1]
theorem dc_97 {c : ByteArray} {pc : Nat} (h : e_b1 c pc 97 = true) : decode c pc = .ok (.ladd, 1) := by
  have k0 := e_k1 h
  have e0 : decode c pc = Except.bind (Except.bind (.ok (97, pc + 1)) (fun _ => (Pure.pure .ladd : Decoder Instr) c (pc + 1))) (fun q => .ok (q.1, q.2 - pc)) := by
    unfold decode Reader.runAt Decoder.instr
    show Except.bind (Except.bind (Reader.u1 c pc) _) _ = _
    rw [k0]
    rfl
  rw [e0]
  simp only [Bind.bind, ReaderT.bind, StateT.bind, Except.bind, Pure.pure, ReaderT.pure, StateT.pure, Except.pure, Functor.map, StateT.map, Except.map, e_l1]
theorem dc_100 {c : ByteArray} {pc : Nat} (h : e_b1 c pc 100 = true) : decode c pc = .ok (.isub, 1) := by
  have k0 := e_k1 h
  have e0 : decode c pc = Except.bind (Except.bind (.ok (100, pc + 1)) (fun _ => (Pure.pure .isub : Decoder Instr) c (pc + 1))) (fun q => .ok (q.1, q.2 - pc)) := by
    unfold decode Reader.runAt Decoder.instr
    show Except.bind (Except.bind (Reader.u1 c pc) _) _ = _
    rw [k0]
    rfl
  rw [e0]
  simp only [Bind.bind, ReaderT.bind, StateT.bind, Except.bind, Pure.pure, ReaderT.pure, StateT.pure, Except.pure, Functor.map, StateT.map, Except.map, e_l1]
theorem dc_101 {c : ByteArray} {pc : Nat} (h : e_b1 c pc 101 = true) : decode c pc = .ok (.lsub, 1) := by
  have k0 := e_k1 h
  have e0 : decode c pc = Except.bind (Except.bind (.ok (101, pc + 1)) (fun _ => (Pure.pure .lsub : Decoder Instr) c (pc + 1))) (fun q => .ok (q.1, q.2 - pc)) := by
    unfold decode Reader.runAt Decoder.instr
    show Except.bind (Except.bind (Reader.u1 c pc) _) _ = _
    rw [k0]
    rfl
  rw [e0]
  simp only [Bind.bind, ReaderT.bind, StateT.bind, Except.bind, Pure.pure, ReaderT.pure, StateT.pure, Except.pure, Functor.map, StateT.map, Except.map, e_l1]
theorem dc_104 {c : ByteArray} {pc : Nat} (h : e_b1 c pc 104 = true) : decode c pc = .ok (.imul, 1) := by
  have k0 := e_k1 h
  have e0 : decode c pc = Except.bind (Except.bind (.ok (104, pc + 1)) (fun _ => (Pure.pure .imul : Decoder Instr) c (pc + 1))) (fun q => .ok (q.1, q.2 - pc)) := by
    unfold decode Reader.runAt Decoder.instr
    show Except.bind (Except.bind (Reader.u1 c pc) _) _ = _
    rw [k0]
    rfl
  rw [e0]
  simp only [Bind.bind, ReaderT.bind, StateT.bind, Except.bind, Pure.pure, ReaderT.pure, StateT.pure, Except.pure, Functor.map, StateT.map, Except.map, e_l1]
theorem dc_105 {c : ByteArray} {pc : Nat} (h : e_b1 c pc 105 = true) : decode c pc = .ok (.lmul, 1) := by
  have k0 := e_k1 h
  have e0 : decode c pc = Except.bind (Except.bind (.ok (105, pc + 1)) (fun _ => (Pure.pure .lmul : Decoder Instr) c (pc + 1))) (fun q => .ok (q.1, q.2 - pc)) := by
    unfold decode Reader.runAt Decoder.instr
    show Except.bind (Except.bind (Reader.u1 c pc) _) _ = _
    rw [k0]
    rfl
  rw [e0]
  simp only [Bind.bind, ReaderT.bind, StateT.bind, Except.bind, Pure.pure, ReaderT.pure, StateT.pure, Except.pure, Functor.map, StateT.map, Except.map, e_l1]
theorem dc_108 {c : ByteArray} {pc : Nat} (h : e_b1 c pc 108 = true) : decode c pc = .ok (.idiv, 1) := by
  have k0 := e_k1 h
  have e0 : decode c pc = Except.bind (Except.bind (.ok (108, pc + 1)) (fun _ => (Pure.pure .idiv : Decoder Instr) c (pc + 1))) (fun q => .ok (q.1, q.2 - pc)) := by
    unfold decode Reader.runAt Decoder.instr
    show Except.bind (Except.bind (Reader.u1 c pc) _) _ = _
    rw [k0]
    rfl
  rw [e0]
  simp only [Bind.bind, ReaderT.bind, StateT.bind, Except.bind, Pure.pure, ReaderT.pure, StateT.pure, Except.pure, Functor.map, StateT.map, Except.map, e_l1]
theorem dc_109 {c : ByteArray} {pc : Nat} (h : e_b1 c pc 109 = true) : decode c pc = .ok (.ldiv, 1) := by
  have k0 := e_k1 h
  have e0 : decode c pc = Except.bind (Except.bind (.ok (109, pc + 1)) (fun _ => (Pure.pure .ldiv : Decoder Instr) c (pc + 1))) (fun q => .ok (q.1, q.2 - pc)) := by
    unfold decode Reader.runAt Decoder.instr
    show Except.bind (Except.bind (Reader.u1 c pc) _) _ = _
    rw [k0]
    rfl
  rw [e0]
  simp only [Bind.bind, ReaderT.bind, StateT.bind, Except.bind, Pure.pure, ReaderT.pure, StateT.pure, Except.pure, Functor.map, StateT.map, Except.map, e_l1]
theorem dc_112 {c : ByteArray} {pc : Nat} (h : e_b1 c pc 112 = true) : decode c pc = .ok (.irem, 1) := by
  have k0 := e_k1 h
  have e0 : decode c pc = Except.bind (Except.bind (.ok (112, pc + 1)) (fun _ => (Pure.pure .irem : Decoder Instr) c (pc + 1))) (fun q => .ok (q.1, q.2 - pc)) := by
    unfold decode Reader.runAt Decoder.instr
    show Except.bind (Except.bind (Reader.u1 c pc) _) _ = _
    rw [k0]
    rfl
  rw [e0]
  simp only [Bind.bind, ReaderT.bind, StateT.bind, Except.bind, Pure.pure, ReaderT.pure, StateT.pure, Except.pure, Functor.map, StateT.map, Except.map, e_l1]
theorem dc_113 {c : ByteArray} {pc : Nat} (h : e_b1 c pc 113 = true) : decode c pc = .ok (.lrem, 1) := by
  have k0 := e_k1 h
  have e0 : decode c pc = Except.bind (Except.bind (.ok (113, pc + 1)) (fun _ => (Pure.pure .lrem : Decoder Instr) c (pc + 1))) (fun q => .ok (q.1, q.2 - pc)) := by
    unfold decode Reader.runAt Decoder.instr
    show Except.bind (Except.bind (Reader.u1 c pc) _) _ = _
    rw [k0]
    rfl
  rw [e0]
  simp only [Bind.bind, ReaderT.bind, StateT.bind, Except.bind, Pure.pure, ReaderT.pure, StateT.pure, Except.pure, Functor.map, StateT.map, Except.map, e_l1]
theorem dc_116 {c : ByteArray} {pc : Nat} (h : e_b1 c pc 116 = true) : decode c pc = .ok (.ineg, 1) := by
  have k0 := e_k1 h
  have e0 : decode c pc = Except.bind (Except.bind (.ok (116, pc + 1)) (fun _ => (Pure.pure .ineg : Decoder Instr) c (pc + 1))) (fun q => .ok (q.1, q.2 - pc)) := by
    unfold decode Reader.runAt Decoder.instr
    show Except.bind (Except.bind (Reader.u1 c pc) _) _ = _
    rw [k0]
    rfl
  rw [e0]
  simp only [Bind.bind, ReaderT.bind, StateT.bind, Except.bind, Pure.pure, ReaderT.pure, StateT.pure, Except.pure, Functor.map, StateT.map, Except.map, e_l1]
theorem dc_117 {c : ByteArray} {pc : Nat} (h : e_b1 c pc 117 = true) : decode c pc = .ok (.lneg, 1) := by
  have k0 := e_k1 h
  have e0 : decode c pc = Except.bind (Except.bind (.ok (117, pc + 1)) (fun _ => (Pure.pure .lneg : Decoder Instr) c (pc + 1))) (fun q => .ok (q.1, q.2 - pc)) := by
    unfold decode Reader.runAt Decoder.instr
    show Except.bind (Except.bind (Reader.u1 c pc) _) _ = _
    rw [k0]
    rfl
  rw [e0]
  simp only [Bind.bind, ReaderT.bind, StateT.bind, Except.bind, Pure.pure, ReaderT.pure, StateT.pure, Except.pure, Functor.map, StateT.map, Except.map, e_l1]
theorem dc_120 {c : ByteArray} {pc : Nat} (h : e_b1 c pc 120 = true) : decode c pc = .ok (.ishl, 1) := by
  have k0 := e_k1 h
  have e0 : decode c pc = Except.bind (Except.bind (.ok (120, pc + 1)) (fun _ => (Pure.pure .ishl : Decoder Instr) c (pc + 1))) (fun q => .ok (q.1, q.2 - pc)) := by
    unfold decode Reader.runAt Decoder.instr
    show Except.bind (Except.bind (Reader.u1 c pc) _) _ = _
    rw [k0]
    rfl
  rw [e0]
  simp only [Bind.bind, ReaderT.bind, StateT.bind, Except.bind, Pure.pure, ReaderT.pure, StateT.pure, Except.pure, Functor.map, StateT.map, Except.map, e_l1]
theorem dc_121 {c : ByteArray} {pc : Nat} (h : e_b1 c pc 121 = true) : decode c pc = .ok (.lshl, 1) := by
  have k0 := e_k1 h
  have e0 : decode c pc = Except.bind (Except.bind (.ok (121, pc + 1)) (fun _ => (Pure.pure .lshl : Decoder Instr) c (pc + 1))) (fun q => .ok (q.1, q.2 - pc)) := by
    unfold decode Reader.runAt Decoder.instr
    show Except.bind (Except.bind (Reader.u1 c pc) _) _ = _
    rw [k0]
    rfl
  rw [e0]
  simp only [Bind.bind, ReaderT.bind, StateT.bind, Except.bind, Pure.pure, ReaderT.pure, StateT.pure, Except.pure, Functor.map, StateT.map, Except.map, e_l1]
theorem dc_122 {c : ByteArray} {pc : Nat} (h : e_b1 c pc 122 = true) : decode c pc = .ok (.ishr, 1) := by
  have k0 := e_k1 h
  have e0 : decode c pc = Except.bind (Except.bind (.ok (122, pc + 1)) (fun _ => (Pure.pure .ishr : Decoder Instr) c (pc + 1))) (fun q => .ok (q.1, q.2 - pc)) := by
    unfold decode Reader.runAt Decoder.instr
    show Except.bind (Except.bind (Reader.u1 c pc) _) _ = _
    rw [k0]
    rfl
  rw [e0]
  simp only [Bind.bind, ReaderT.bind, StateT.bind, Except.bind, Pure.pure, ReaderT.pure, StateT.pure, Except.pure, Functor.map, StateT.map, Except.map, e_l1]
theorem dc_123 {c : ByteArray} {pc : Nat} (h : e_b1 c pc 123 = true) : decode c pc = .ok (.lshr, 1) := by
  have k0 := e_k1 h
  have e0 : decode c pc = Except.bind (Except.bind (.ok (123, pc + 1)) (fun _ => (Pure.pure .lshr : Decoder Instr) c (pc + 1))) (fun q => .ok (q.1, q.2 - pc)) := by
    unfold decode Reader.runAt Decoder.instr
    show Except.bind (Except.bind (Reader.u1 c pc) _) _ = _
    rw [k0]
    rfl
  rw [e0]
  simp only [Bind.bind, ReaderT.bind, StateT.bind, Except.bind, Pure.pure, ReaderT.pure, StateT.pure, Except.pure, Functor.map, StateT.map, Except.map, e_l1]
theorem dc_124 {c : ByteArray} {pc : Nat} (h : e_b1 c pc 124 = true) : decode c pc = .ok (.iushr, 1) := by
  have k0 := e_k1 h
  have e0 : decode c pc = Except.bind (Except.bind (.ok (124, pc + 1)) (fun _ => (Pure.pure .iushr : Decoder Instr) c (pc + 1))) (fun q => .ok (q.1, q.2 - pc)) := by
    unfold decode Reader.runAt Decoder.instr
    show Except.bind (Except.bind (Reader.u1 c pc) _) _ = _
    rw [k0]
    rfl
  rw [e0]
  simp only [Bind.bind, ReaderT.bind, StateT.bind, Except.bind, Pure.pure, ReaderT.pure, StateT.pure, Except.pure, Functor.map, StateT.map, Except.map, e_l1]
theorem dc_126 {c : ByteArray} {pc : Nat} (h : e_b1 c pc 126 = true) : decode c pc = .ok (.iand, 1) := by
  have k0 := e_k1 h
  have e0 : decode c pc = Except.bind (Except.bind (.ok (126, pc + 1)) (fun _ => (Pure.pure .iand : Decoder Instr) c (pc + 1))) (fun q => .ok (q.1, q.2 - pc)) := by
    unfold decode Reader.runAt Decoder.instr
    show Except.bind (Except.bind (Reader.u1 c pc) _) _ = _
    rw [k0]
    rfl
  rw [e0]
  simp only [Bind.bind, ReaderT.bind, StateT.bind, Except.bind, Pure.pure, ReaderT.pure, StateT.pure, Except.pure, Functor.map, StateT.map, Except.map, e_l1]
theorem dc_127 {c : ByteArray} {pc : Nat} (h : e_b1 c pc 127 = true) : decode c pc = .ok (.land, 1) := by
  have k0 := e_k1 h
  have e0 : decode c pc = Except.bind (Except.bind (.ok (127, pc + 1)) (fun _ => (Pure.pure .land : Decoder Instr) c (pc + 1))) (fun q => .ok (q.1, q.2 - pc)) := by
    unfold decode Reader.runAt Decoder.instr
    show Except.bind (Except.bind (Reader.u1 c pc) _) _ = _
    rw [k0]
    rfl
  rw [e0]
  simp only [Bind.bind, ReaderT.bind, StateT.bind, Except.bind, Pure.pure, ReaderT.pure, StateT.pure, Except.pure, Functor.map, StateT.map, Except.map, e_l1]
theorem dc_128 {c : ByteArray} {pc : Nat} (h : e_b1 c pc 128 = true) : decode c pc = .ok (.ior, 1) := by
  have k0 := e_k1 h
  have e0 : decode c pc = Except.bind (Except.bind (.ok (128, pc + 1)) (fun _ => (Pure.pure .ior : Decoder Instr) c (pc + 1))) (fun q => .ok (q.1, q.2 - pc)) := by
    unfold decode Reader.runAt Decoder.instr
    show Except.bind (Except.bind (Reader.u1 c pc) _) _ = _
    rw [k0]
    rfl
  rw [e0]
  simp only [Bind.bind, ReaderT.bind, StateT.bind, Except.bind, Pure.pure, ReaderT.pure, StateT.pure, Except.pure, Functor.map, StateT.map, Except.map, e_l1]
theorem dc_129 {c : ByteArray} {pc : Nat} (h : e_b1 c pc 129 = true) : decode c pc = .ok (.lor, 1) := by
  have k0 := e_k1 h
  have e0 : decode c pc = Except.bind (Except.bind (.ok (129, pc + 1)) (fun _ => (Pure.pure .lor : Decoder Instr) c (pc + 1))) (fun q => .ok (q.1, q.2 - pc)) := by
    unfold decode Reader.runAt Decoder.instr
    show Except.bind (Except.bind (Reader.u1 c pc) _) _ = _
    rw [k0]
    rfl
  rw [e0]
  simp only [Bind.bind, ReaderT.bind, StateT.bind, Except.bind, Pure.pure, ReaderT.pure, StateT.pure, Except.pure, Functor.map, StateT.map, Except.map, e_l1]
theorem dc_130 {c : ByteArray} {pc : Nat} (h : e_b1 c pc 130 = true) : decode c pc = .ok (.ixor, 1) := by
  have k0 := e_k1 h
  have e0 : decode c pc = Except.bind (Except.bind (.ok (130, pc + 1)) (fun _ => (Pure.pure .ixor : Decoder Instr) c (pc + 1))) (fun q => .ok (q.1, q.2 - pc)) := by
    unfold decode Reader.runAt Decoder.instr
    show Except.bind (Except.bind (Reader.u1 c pc) _) _ = _
    rw [k0]
    rfl
  rw [e0]
  simp only [Bind.bind, ReaderT.bind, StateT.bind, Except.bind, Pure.pure, ReaderT.pure, StateT.pure, Except.pure, Functor.map, StateT.map, Except.map, e_l1]
theorem dc_132 {c : ByteArray} {pc a b : Nat} {v : Int} (h : (e_b3 c pc 132 a b && decide (Reader.signed 8 b = v)) = true) : decode c pc = .ok (.iinc a v, 3) := by
  rw [Bool.and_eq_true, decide_eq_true_eq] at h
  obtain ⟨k0, k1, k2⟩ := e_k3 h.1
  have e0 : decode c pc = Except.bind (Except.bind (.ok (132, pc + 1)) (fun _ => (do let i ← Reader.u1; let j ← Reader.s1; Pure.pure (.iinc i j) : Decoder Instr) c (pc + 1))) (fun q => .ok (q.1, q.2 - pc)) := by
    unfold decode Reader.runAt Decoder.instr
    show Except.bind (Except.bind (Reader.u1 c pc) _) _ = _
    rw [k0]
    rfl
  rw [e0]
  unfold Reader.s1
  simp only [Bind.bind, ReaderT.bind, StateT.bind, Except.bind, k1, k2, h.2, Pure.pure, ReaderT.pure, StateT.pure, Except.pure, Functor.map, StateT.map, Except.map, e_l3]
theorem dc_133 {c : ByteArray} {pc : Nat} (h : e_b1 c pc 133 = true) : decode c pc = .ok (.i2l, 1) := by
  have k0 := e_k1 h
  have e0 : decode c pc = Except.bind (Except.bind (.ok (133, pc + 1)) (fun _ => (Pure.pure .i2l : Decoder Instr) c (pc + 1))) (fun q => .ok (q.1, q.2 - pc)) := by
    unfold decode Reader.runAt Decoder.instr
    show Except.bind (Except.bind (Reader.u1 c pc) _) _ = _
    rw [k0]
    rfl
  rw [e0]
  simp only [Bind.bind, ReaderT.bind, StateT.bind, Except.bind, Pure.pure, ReaderT.pure, StateT.pure, Except.pure, Functor.map, StateT.map, Except.map, e_l1]
theorem dc_136 {c : ByteArray} {pc : Nat} (h : e_b1 c pc 136 = true) : decode c pc = .ok (.l2i, 1) := by
  have k0 := e_k1 h
  have e0 : decode c pc = Except.bind (Except.bind (.ok (136, pc + 1)) (fun _ => (Pure.pure .l2i : Decoder Instr) c (pc + 1))) (fun q => .ok (q.1, q.2 - pc)) := by
    unfold decode Reader.runAt Decoder.instr
    show Except.bind (Except.bind (Reader.u1 c pc) _) _ = _
    rw [k0]
    rfl
  rw [e0]
  simp only [Bind.bind, ReaderT.bind, StateT.bind, Except.bind, Pure.pure, ReaderT.pure, StateT.pure, Except.pure, Functor.map, StateT.map, Except.map, e_l1]
theorem dc_145 {c : ByteArray} {pc : Nat} (h : e_b1 c pc 145 = true) : decode c pc = .ok (.i2b, 1) := by
  have k0 := e_k1 h
  have e0 : decode c pc = Except.bind (Except.bind (.ok (145, pc + 1)) (fun _ => (Pure.pure .i2b : Decoder Instr) c (pc + 1))) (fun q => .ok (q.1, q.2 - pc)) := by
    unfold decode Reader.runAt Decoder.instr
    show Except.bind (Except.bind (Reader.u1 c pc) _) _ = _
    rw [k0]
    rfl
  rw [e0]
  simp only [Bind.bind, ReaderT.bind, StateT.bind, Except.bind, Pure.pure, ReaderT.pure, StateT.pure, Except.pure, Functor.map, StateT.map, Except.map, e_l1]
theorem dc_146 {c : ByteArray} {pc : Nat} (h : e_b1 c pc 146 = true) : decode c pc = .ok (.i2c, 1) := by
  have k0 := e_k1 h
  have e0 : decode c pc = Except.bind (Except.bind (.ok (146, pc + 1)) (fun _ => (Pure.pure .i2c : Decoder Instr) c (pc + 1))) (fun q => .ok (q.1, q.2 - pc)) := by
    unfold decode Reader.runAt Decoder.instr
    show Except.bind (Except.bind (Reader.u1 c pc) _) _ = _
    rw [k0]
    rfl
  rw [e0]
  simp only [Bind.bind, ReaderT.bind, StateT.bind, Except.bind, Pure.pure, ReaderT.pure, StateT.pure, Except.pure, Functor.map, StateT.map, Except.map, e_l1]
theorem dc_148 {c : ByteArray} {pc : Nat} (h : e_b1 c pc 148 = true) : decode c pc = .ok (.lcmp, 1) := by
  have k0 := e_k1 h
  have e0 : decode c pc = Except.bind (Except.bind (.ok (148, pc + 1)) (fun _ => (Pure.pure .lcmp : Decoder Instr) c (pc + 1))) (fun q => .ok (q.1, q.2 - pc)) := by
    unfold decode Reader.runAt Decoder.instr
    show Except.bind (Except.bind (Reader.u1 c pc) _) _ = _
    rw [k0]
    rfl
  rw [e0]
  simp only [Bind.bind, ReaderT.bind, StateT.bind, Except.bind, Pure.pure, ReaderT.pure, StateT.pure, Except.pure, Functor.map, StateT.map, Except.map, e_l1]
theorem dc_153 {c : ByteArray} {pc a b : Nat} {v : Int} (h : (e_b3 c pc 153 a b && decide (Reader.signed 16 (a * 256 + b) = v)) = true) : decode c pc = .ok (.ifCond .eq v, 3) := by
  rw [Bool.and_eq_true, decide_eq_true_eq] at h
  obtain ⟨k0, k1, k2⟩ := e_k3 h.1
  have e0 : decode c pc = Except.bind (Except.bind (.ok (153, pc + 1)) (fun _ => (do let i ← Reader.s2; Pure.pure (.ifCond .eq i) : Decoder Instr) c (pc + 1))) (fun q => .ok (q.1, q.2 - pc)) := by
    unfold decode Reader.runAt Decoder.instr
    show Except.bind (Except.bind (Reader.u1 c pc) _) _ = _
    rw [k0]
    rfl
  rw [e0]
  unfold Reader.s2 Reader.u2
  simp only [Bind.bind, ReaderT.bind, StateT.bind, Except.bind, k1, k2, h.2, Pure.pure, ReaderT.pure, StateT.pure, Except.pure, Functor.map, StateT.map, Except.map, e_l3]
theorem dc_154 {c : ByteArray} {pc a b : Nat} {v : Int} (h : (e_b3 c pc 154 a b && decide (Reader.signed 16 (a * 256 + b) = v)) = true) : decode c pc = .ok (.ifCond .ne v, 3) := by
  rw [Bool.and_eq_true, decide_eq_true_eq] at h
  obtain ⟨k0, k1, k2⟩ := e_k3 h.1
  have e0 : decode c pc = Except.bind (Except.bind (.ok (154, pc + 1)) (fun _ => (do let i ← Reader.s2; Pure.pure (.ifCond .ne i) : Decoder Instr) c (pc + 1))) (fun q => .ok (q.1, q.2 - pc)) := by
    unfold decode Reader.runAt Decoder.instr
    show Except.bind (Except.bind (Reader.u1 c pc) _) _ = _
    rw [k0]
    rfl
  rw [e0]
  unfold Reader.s2 Reader.u2
  simp only [Bind.bind, ReaderT.bind, StateT.bind, Except.bind, k1, k2, h.2, Pure.pure, ReaderT.pure, StateT.pure, Except.pure, Functor.map, StateT.map, Except.map, e_l3]
theorem dc_155 {c : ByteArray} {pc a b : Nat} {v : Int} (h : (e_b3 c pc 155 a b && decide (Reader.signed 16 (a * 256 + b) = v)) = true) : decode c pc = .ok (.ifCond .lt v, 3) := by
  rw [Bool.and_eq_true, decide_eq_true_eq] at h
  obtain ⟨k0, k1, k2⟩ := e_k3 h.1
  have e0 : decode c pc = Except.bind (Except.bind (.ok (155, pc + 1)) (fun _ => (do let i ← Reader.s2; Pure.pure (.ifCond .lt i) : Decoder Instr) c (pc + 1))) (fun q => .ok (q.1, q.2 - pc)) := by
    unfold decode Reader.runAt Decoder.instr
    show Except.bind (Except.bind (Reader.u1 c pc) _) _ = _
    rw [k0]
    rfl
  rw [e0]
  unfold Reader.s2 Reader.u2
  simp only [Bind.bind, ReaderT.bind, StateT.bind, Except.bind, k1, k2, h.2, Pure.pure, ReaderT.pure, StateT.pure, Except.pure, Functor.map, StateT.map, Except.map, e_l3]
theorem dc_156 {c : ByteArray} {pc a b : Nat} {v : Int} (h : (e_b3 c pc 156 a b && decide (Reader.signed 16 (a * 256 + b) = v)) = true) : decode c pc = .ok (.ifCond .ge v, 3) := by
  rw [Bool.and_eq_true, decide_eq_true_eq] at h
  obtain ⟨k0, k1, k2⟩ := e_k3 h.1
  have e0 : decode c pc = Except.bind (Except.bind (.ok (156, pc + 1)) (fun _ => (do let i ← Reader.s2; Pure.pure (.ifCond .ge i) : Decoder Instr) c (pc + 1))) (fun q => .ok (q.1, q.2 - pc)) := by
    unfold decode Reader.runAt Decoder.instr
    show Except.bind (Except.bind (Reader.u1 c pc) _) _ = _
    rw [k0]
    rfl
  rw [e0]
  unfold Reader.s2 Reader.u2
  simp only [Bind.bind, ReaderT.bind, StateT.bind, Except.bind, k1, k2, h.2, Pure.pure, ReaderT.pure, StateT.pure, Except.pure, Functor.map, StateT.map, Except.map, e_l3]
theorem dc_157 {c : ByteArray} {pc a b : Nat} {v : Int} (h : (e_b3 c pc 157 a b && decide (Reader.signed 16 (a * 256 + b) = v)) = true) : decode c pc = .ok (.ifCond .gt v, 3) := by
  rw [Bool.and_eq_true, decide_eq_true_eq] at h
  obtain ⟨k0, k1, k2⟩ := e_k3 h.1
  have e0 : decode c pc = Except.bind (Except.bind (.ok (157, pc + 1)) (fun _ => (do let i ← Reader.s2; Pure.pure (.ifCond .gt i) : Decoder Instr) c (pc + 1))) (fun q => .ok (q.1, q.2 - pc)) := by
    unfold decode Reader.runAt Decoder.instr
    show Except.bind (Except.bind (Reader.u1 c pc) _) _ = _
    rw [k0]
    rfl
  rw [e0]
  unfold Reader.s2 Reader.u2
  simp only [Bind.bind, ReaderT.bind, StateT.bind, Except.bind, k1, k2, h.2, Pure.pure, ReaderT.pure, StateT.pure, Except.pure, Functor.map, StateT.map, Except.map, e_l3]
theorem dc_158 {c : ByteArray} {pc a b : Nat} {v : Int} (h : (e_b3 c pc 158 a b && decide (Reader.signed 16 (a * 256 + b) = v)) = true) : decode c pc = .ok (.ifCond .le v, 3) := by
  rw [Bool.and_eq_true, decide_eq_true_eq] at h
  obtain ⟨k0, k1, k2⟩ := e_k3 h.1
  have e0 : decode c pc = Except.bind (Except.bind (.ok (158, pc + 1)) (fun _ => (do let i ← Reader.s2; Pure.pure (.ifCond .le i) : Decoder Instr) c (pc + 1))) (fun q => .ok (q.1, q.2 - pc)) := by
    unfold decode Reader.runAt Decoder.instr
    show Except.bind (Except.bind (Reader.u1 c pc) _) _ = _
    rw [k0]
    rfl
  rw [e0]
  unfold Reader.s2 Reader.u2
  simp only [Bind.bind, ReaderT.bind, StateT.bind, Except.bind, k1, k2, h.2, Pure.pure, ReaderT.pure, StateT.pure, Except.pure, Functor.map, StateT.map, Except.map, e_l3]
theorem dc_159 {c : ByteArray} {pc a b : Nat} {v : Int} (h : (e_b3 c pc 159 a b && decide (Reader.signed 16 (a * 256 + b) = v)) = true) : decode c pc = .ok (.if_icmp .eq v, 3) := by
  rw [Bool.and_eq_true, decide_eq_true_eq] at h
  obtain ⟨k0, k1, k2⟩ := e_k3 h.1
  have e0 : decode c pc = Except.bind (Except.bind (.ok (159, pc + 1)) (fun _ => (do let i ← Reader.s2; Pure.pure (.if_icmp .eq i) : Decoder Instr) c (pc + 1))) (fun q => .ok (q.1, q.2 - pc)) := by
    unfold decode Reader.runAt Decoder.instr
    show Except.bind (Except.bind (Reader.u1 c pc) _) _ = _
    rw [k0]
    rfl
  rw [e0]
  unfold Reader.s2 Reader.u2
  simp only [Bind.bind, ReaderT.bind, StateT.bind, Except.bind, k1, k2, h.2, Pure.pure, ReaderT.pure, StateT.pure, Except.pure, Functor.map, StateT.map, Except.map, e_l3]
theorem dc_160 {c : ByteArray} {pc a b : Nat} {v : Int} (h : (e_b3 c pc 160 a b && decide (Reader.signed 16 (a * 256 + b) = v)) = true) : decode c pc = .ok (.if_icmp .ne v, 3) := by
  rw [Bool.and_eq_true, decide_eq_true_eq] at h
  obtain ⟨k0, k1, k2⟩ := e_k3 h.1
  have e0 : decode c pc = Except.bind (Except.bind (.ok (160, pc + 1)) (fun _ => (do let i ← Reader.s2; Pure.pure (.if_icmp .ne i) : Decoder Instr) c (pc + 1))) (fun q => .ok (q.1, q.2 - pc)) := by
    unfold decode Reader.runAt Decoder.instr
    show Except.bind (Except.bind (Reader.u1 c pc) _) _ = _
    rw [k0]
    rfl
  rw [e0]
  unfold Reader.s2 Reader.u2
  simp only [Bind.bind, ReaderT.bind, StateT.bind, Except.bind, k1, k2, h.2, Pure.pure, ReaderT.pure, StateT.pure, Except.pure, Functor.map, StateT.map, Except.map, e_l3]
theorem dc_161 {c : ByteArray} {pc a b : Nat} {v : Int} (h : (e_b3 c pc 161 a b && decide (Reader.signed 16 (a * 256 + b) = v)) = true) : decode c pc = .ok (.if_icmp .lt v, 3) := by
  rw [Bool.and_eq_true, decide_eq_true_eq] at h
  obtain ⟨k0, k1, k2⟩ := e_k3 h.1
  have e0 : decode c pc = Except.bind (Except.bind (.ok (161, pc + 1)) (fun _ => (do let i ← Reader.s2; Pure.pure (.if_icmp .lt i) : Decoder Instr) c (pc + 1))) (fun q => .ok (q.1, q.2 - pc)) := by
    unfold decode Reader.runAt Decoder.instr
    show Except.bind (Except.bind (Reader.u1 c pc) _) _ = _
    rw [k0]
    rfl
  rw [e0]
  unfold Reader.s2 Reader.u2
  simp only [Bind.bind, ReaderT.bind, StateT.bind, Except.bind, k1, k2, h.2, Pure.pure, ReaderT.pure, StateT.pure, Except.pure, Functor.map, StateT.map, Except.map, e_l3]
theorem dc_162 {c : ByteArray} {pc a b : Nat} {v : Int} (h : (e_b3 c pc 162 a b && decide (Reader.signed 16 (a * 256 + b) = v)) = true) : decode c pc = .ok (.if_icmp .ge v, 3) := by
  rw [Bool.and_eq_true, decide_eq_true_eq] at h
  obtain ⟨k0, k1, k2⟩ := e_k3 h.1
  have e0 : decode c pc = Except.bind (Except.bind (.ok (162, pc + 1)) (fun _ => (do let i ← Reader.s2; Pure.pure (.if_icmp .ge i) : Decoder Instr) c (pc + 1))) (fun q => .ok (q.1, q.2 - pc)) := by
    unfold decode Reader.runAt Decoder.instr
    show Except.bind (Except.bind (Reader.u1 c pc) _) _ = _
    rw [k0]
    rfl
  rw [e0]
  unfold Reader.s2 Reader.u2
  simp only [Bind.bind, ReaderT.bind, StateT.bind, Except.bind, k1, k2, h.2, Pure.pure, ReaderT.pure, StateT.pure, Except.pure, Functor.map, StateT.map, Except.map, e_l3]
theorem dc_163 {c : ByteArray} {pc a b : Nat} {v : Int} (h : (e_b3 c pc 163 a b && decide (Reader.signed 16 (a * 256 + b) = v)) = true) : decode c pc = .ok (.if_icmp .gt v, 3) := by
  rw [Bool.and_eq_true, decide_eq_true_eq] at h
  obtain ⟨k0, k1, k2⟩ := e_k3 h.1
  have e0 : decode c pc = Except.bind (Except.bind (.ok (163, pc + 1)) (fun _ => (do let i ← Reader.s2; Pure.pure (.if_icmp .gt i) : Decoder Instr) c (pc + 1))) (fun q => .ok (q.1, q.2 - pc)) := by
    unfold decode Reader.runAt Decoder.instr
    show Except.bind (Except.bind (Reader.u1 c pc) _) _ = _
    rw [k0]
    rfl
  rw [e0]
  unfold Reader.s2 Reader.u2
  simp only [Bind.bind, ReaderT.bind, StateT.bind, Except.bind, k1, k2, h.2, Pure.pure, ReaderT.pure, StateT.pure, Except.pure, Functor.map, StateT.map, Except.map, e_l3]
theorem dc_164 {c : ByteArray} {pc a b : Nat} {v : Int} (h : (e_b3 c pc 164 a b && decide (Reader.signed 16 (a * 256 + b) = v)) = true) : decode c pc = .ok (.if_icmp .le v, 3) := by
  rw [Bool.and_eq_true, decide_eq_true_eq] at h
  obtain ⟨k0, k1, k2⟩ := e_k3 h.1
  have e0 : decode c pc = Except.bind (Except.bind (.ok (164, pc + 1)) (fun _ => (do let i ← Reader.s2; Pure.pure (.if_icmp .le i) : Decoder Instr) c (pc + 1))) (fun q => .ok (q.1, q.2 - pc)) := by
    unfold decode Reader.runAt Decoder.instr
    show Except.bind (Except.bind (Reader.u1 c pc) _) _ = _
    rw [k0]
    rfl
  rw [e0]
  unfold Reader.s2 Reader.u2
  simp only [Bind.bind, ReaderT.bind, StateT.bind, Except.bind, k1, k2, h.2, Pure.pure, ReaderT.pure, StateT.pure, Except.pure, Functor.map, StateT.map, Except.map, e_l3]
theorem dc_167 {c : ByteArray} {pc a b : Nat} {v : Int} (h : (e_b3 c pc 167 a b && decide (Reader.signed 16 (a * 256 + b) = v)) = true) : decode c pc = .ok (.goto v, 3) := by
  rw [Bool.and_eq_true, decide_eq_true_eq] at h
  obtain ⟨k0, k1, k2⟩ := e_k3 h.1
  have e0 : decode c pc = Except.bind (Except.bind (.ok (167, pc + 1)) (fun _ => (do let i ← Reader.s2; Pure.pure (.goto i) : Decoder Instr) c (pc + 1))) (fun q => .ok (q.1, q.2 - pc)) := by
    unfold decode Reader.runAt Decoder.instr
    show Except.bind (Except.bind (Reader.u1 c pc) _) _ = _
    rw [k0]
    rfl
  rw [e0]
  unfold Reader.s2 Reader.u2
  simp only [Bind.bind, ReaderT.bind, StateT.bind, Except.bind, k1, k2, h.2, Pure.pure, ReaderT.pure, StateT.pure, Except.pure, Functor.map, StateT.map, Except.map, e_l3]
theorem dc_172 {c : ByteArray} {pc : Nat} (h : e_b1 c pc 172 = true) : decode c pc = .ok (.ireturn, 1) := by
  have k0 := e_k1 h
  have e0 : decode c pc = Except.bind (Except.bind (.ok (172, pc + 1)) (fun _ => (Pure.pure .ireturn : Decoder Instr) c (pc + 1))) (fun q => .ok (q.1, q.2 - pc)) := by
    unfold decode Reader.runAt Decoder.instr
    show Except.bind (Except.bind (Reader.u1 c pc) _) _ = _
    rw [k0]
    rfl
  rw [e0]
  simp only [Bind.bind, ReaderT.bind, StateT.bind, Except.bind, Pure.pure, ReaderT.pure, StateT.pure, Except.pure, Functor.map, StateT.map, Except.map, e_l1]
theorem dc_173 {c : ByteArray} {pc : Nat} (h : e_b1 c pc 173 = true) : decode c pc = .ok (.lreturn, 1) := by
  have k0 := e_k1 h
  have e0 : decode c pc = Except.bind (Except.bind (.ok (173, pc + 1)) (fun _ => (Pure.pure .lreturn : Decoder Instr) c (pc + 1))) (fun q => .ok (q.1, q.2 - pc)) := by
    unfold decode Reader.runAt Decoder.instr
    show Except.bind (Except.bind (Reader.u1 c pc) _) _ = _
    rw [k0]
    rfl
  rw [e0]
  simp only [Bind.bind, ReaderT.bind, StateT.bind, Except.bind, Pure.pure, ReaderT.pure, StateT.pure, Except.pure, Functor.map, StateT.map, Except.map, e_l1]
theorem dc_176 {c : ByteArray} {pc : Nat} (h : e_b1 c pc 176 = true) : decode c pc = .ok (.areturn, 1) := by
  have k0 := e_k1 h
  have e0 : decode c pc = Except.bind (Except.bind (.ok (176, pc + 1)) (fun _ => (Pure.pure .areturn : Decoder Instr) c (pc + 1))) (fun q => .ok (q.1, q.2 - pc)) := by
    unfold decode Reader.runAt Decoder.instr
    show Except.bind (Except.bind (Reader.u1 c pc) _) _ = _
    rw [k0]
    rfl
  rw [e0]
  simp only [Bind.bind, ReaderT.bind, StateT.bind, Except.bind, Pure.pure, ReaderT.pure, StateT.pure, Except.pure, Functor.map, StateT.map, Except.map, e_l1]
theorem dc_177 {c : ByteArray} {pc : Nat} (h : e_b1 c pc 177 = true) : decode c pc = .ok (.return_, 1) := by
  have k0 := e_k1 h
  have e0 : decode c pc = Except.bind (Except.bind (.ok (177, pc + 1)) (fun _ => (Pure.pure .return_ : Decoder Instr) c (pc + 1))) (fun q => .ok (q.1, q.2 - pc)) := by
    unfold decode Reader.runAt Decoder.instr
    show Except.bind (Except.bind (Reader.u1 c pc) _) _ = _
    rw [k0]
    rfl
  rw [e0]
  simp only [Bind.bind, ReaderT.bind, StateT.bind, Except.bind, Pure.pure, ReaderT.pure, StateT.pure, Except.pure, Functor.map, StateT.map, Except.map, e_l1]
theorem dc_178 {c : ByteArray} {pc a b n : Nat} (h : (e_b3 c pc 178 a b && Nat.beq (a * 256 + b) n) = true) : decode c pc = .ok (.getstatic n, 3) := by
  rw [Bool.and_eq_true] at h
  obtain ⟨k0, k1, k2⟩ := e_k3 h.1
  have kn := Nat.eq_of_beq_eq_true h.2
  have e0 : decode c pc = Except.bind (Except.bind (.ok (178, pc + 1)) (fun _ => (do let i ← Reader.u2; Pure.pure (.getstatic i) : Decoder Instr) c (pc + 1))) (fun q => .ok (q.1, q.2 - pc)) := by
    unfold decode Reader.runAt Decoder.instr
    show Except.bind (Except.bind (Reader.u1 c pc) _) _ = _
    rw [k0]
    rfl
  rw [e0]
  unfold Reader.u2
  simp only [Bind.bind, ReaderT.bind, StateT.bind, Except.bind, k1, k2, kn, Pure.pure, ReaderT.pure, StateT.pure, Except.pure, Functor.map, StateT.map, Except.map, e_l3]
theorem dc_180 {c : ByteArray} {pc a b n : Nat} (h : (e_b3 c pc 180 a b && Nat.beq (a * 256 + b) n) = true) : decode c pc = .ok (.getfield n, 3) := by
  rw [Bool.and_eq_true] at h
  obtain ⟨k0, k1, k2⟩ := e_k3 h.1
  have kn := Nat.eq_of_beq_eq_true h.2
  have e0 : decode c pc = Except.bind (Except.bind (.ok (180, pc + 1)) (fun _ => (do let i ← Reader.u2; Pure.pure (.getfield i) : Decoder Instr) c (pc + 1))) (fun q => .ok (q.1, q.2 - pc)) := by
    unfold decode Reader.runAt Decoder.instr
    show Except.bind (Except.bind (Reader.u1 c pc) _) _ = _
    rw [k0]
    rfl
  rw [e0]
  unfold Reader.u2
  simp only [Bind.bind, ReaderT.bind, StateT.bind, Except.bind, k1, k2, kn, Pure.pure, ReaderT.pure, StateT.pure, Except.pure, Functor.map, StateT.map, Except.map, e_l3]
theorem dc_181 {c : ByteArray} {pc a b n : Nat} (h : (e_b3 c pc 181 a b && Nat.beq (a * 256 + b) n) = true) : decode c pc = .ok (.putfield n, 3) := by
  rw [Bool.and_eq_true] at h
  obtain ⟨k0, k1, k2⟩ := e_k3 h.1
  have kn := Nat.eq_of_beq_eq_true h.2
  have e0 : decode c pc = Except.bind (Except.bind (.ok (181, pc + 1)) (fun _ => (do let i ← Reader.u2; Pure.pure (.putfield i) : Decoder Instr) c (pc + 1))) (fun q => .ok (q.1, q.2 - pc)) := by
    unfold decode Reader.runAt Decoder.instr
    show Except.bind (Except.bind (Reader.u1 c pc) _) _ = _
    rw [k0]
    rfl
  rw [e0]
  unfold Reader.u2
  simp only [Bind.bind, ReaderT.bind, StateT.bind, Except.bind, k1, k2, kn, Pure.pure, ReaderT.pure, StateT.pure, Except.pure, Functor.map, StateT.map, Except.map, e_l3]
theorem dc_182 {c : ByteArray} {pc a b n : Nat} (h : (e_b3 c pc 182 a b && Nat.beq (a * 256 + b) n) = true) : decode c pc = .ok (.invokevirtual n, 3) := by
  rw [Bool.and_eq_true] at h
  obtain ⟨k0, k1, k2⟩ := e_k3 h.1
  have kn := Nat.eq_of_beq_eq_true h.2
  have e0 : decode c pc = Except.bind (Except.bind (.ok (182, pc + 1)) (fun _ => (do let i ← Reader.u2; Pure.pure (.invokevirtual i) : Decoder Instr) c (pc + 1))) (fun q => .ok (q.1, q.2 - pc)) := by
    unfold decode Reader.runAt Decoder.instr
    show Except.bind (Except.bind (Reader.u1 c pc) _) _ = _
    rw [k0]
    rfl
  rw [e0]
  unfold Reader.u2
  simp only [Bind.bind, ReaderT.bind, StateT.bind, Except.bind, k1, k2, kn, Pure.pure, ReaderT.pure, StateT.pure, Except.pure, Functor.map, StateT.map, Except.map, e_l3]
theorem dc_183 {c : ByteArray} {pc a b n : Nat} (h : (e_b3 c pc 183 a b && Nat.beq (a * 256 + b) n) = true) : decode c pc = .ok (.invokespecial n, 3) := by
  rw [Bool.and_eq_true] at h
  obtain ⟨k0, k1, k2⟩ := e_k3 h.1
  have kn := Nat.eq_of_beq_eq_true h.2
  have e0 : decode c pc = Except.bind (Except.bind (.ok (183, pc + 1)) (fun _ => (do let i ← Reader.u2; Pure.pure (.invokespecial i) : Decoder Instr) c (pc + 1))) (fun q => .ok (q.1, q.2 - pc)) := by
    unfold decode Reader.runAt Decoder.instr
    show Except.bind (Except.bind (Reader.u1 c pc) _) _ = _
    rw [k0]
    rfl
  rw [e0]
  unfold Reader.u2
  simp only [Bind.bind, ReaderT.bind, StateT.bind, Except.bind, k1, k2, kn, Pure.pure, ReaderT.pure, StateT.pure, Except.pure, Functor.map, StateT.map, Except.map, e_l3]
theorem dc_184 {c : ByteArray} {pc a b n : Nat} (h : (e_b3 c pc 184 a b && Nat.beq (a * 256 + b) n) = true) : decode c pc = .ok (.invokestatic n, 3) := by
  rw [Bool.and_eq_true] at h
  obtain ⟨k0, k1, k2⟩ := e_k3 h.1
  have kn := Nat.eq_of_beq_eq_true h.2
  have e0 : decode c pc = Except.bind (Except.bind (.ok (184, pc + 1)) (fun _ => (do let i ← Reader.u2; Pure.pure (.invokestatic i) : Decoder Instr) c (pc + 1))) (fun q => .ok (q.1, q.2 - pc)) := by
    unfold decode Reader.runAt Decoder.instr
    show Except.bind (Except.bind (Reader.u1 c pc) _) _ = _
    rw [k0]
    rfl
  rw [e0]
  unfold Reader.u2
  simp only [Bind.bind, ReaderT.bind, StateT.bind, Except.bind, k1, k2, kn, Pure.pure, ReaderT.pure, StateT.pure, Except.pure, Functor.map, StateT.map, Except.map, e_l3]
theorem dc_187 {c : ByteArray} {pc a b n : Nat} (h : (e_b3 c pc 187 a b && Nat.beq (a * 256 + b) n) = true) : decode c pc = .ok (.new n, 3) := by
  rw [Bool.and_eq_true] at h
  obtain ⟨k0, k1, k2⟩ := e_k3 h.1
  have kn := Nat.eq_of_beq_eq_true h.2
  have e0 : decode c pc = Except.bind (Except.bind (.ok (187, pc + 1)) (fun _ => (do let i ← Reader.u2; Pure.pure (.new i) : Decoder Instr) c (pc + 1))) (fun q => .ok (q.1, q.2 - pc)) := by
    unfold decode Reader.runAt Decoder.instr
    show Except.bind (Except.bind (Reader.u1 c pc) _) _ = _
    rw [k0]
    rfl
  rw [e0]
  unfold Reader.u2
  simp only [Bind.bind, ReaderT.bind, StateT.bind, Except.bind, k1, k2, kn, Pure.pure, ReaderT.pure, StateT.pure, Except.pure, Functor.map, StateT.map, Except.map, e_l3]
theorem dc_188_10 {c : ByteArray} {pc : Nat} (h : e_b2 c pc 188 10 = true) : decode c pc = .ok ((.newarray .int), 2) := by
  obtain ⟨k0, k1⟩ := e_k2 h
  have e0 : decode c pc = Except.bind (Except.bind (.ok (188, pc + 1)) (fun _ => (Decoder.newarray pc : Decoder Instr) c (pc + 1))) (fun q => .ok (q.1, q.2 - pc)) := by
    unfold decode Reader.runAt Decoder.instr
    show Except.bind (Except.bind (Reader.u1 c pc) _) _ = _
    rw [k0]
    rfl
  rw [e0]
  unfold Decoder.newarray
  simp only [Bind.bind, ReaderT.bind, StateT.bind, Except.bind, k1, Pure.pure, ReaderT.pure, StateT.pure, Except.pure, Functor.map, StateT.map, Except.map, e_l2]
theorem dc_188_11 {c : ByteArray} {pc : Nat} (h : e_b2 c pc 188 11 = true) : decode c pc = .ok ((.newarray .long), 2) := by
  obtain ⟨k0, k1⟩ := e_k2 h
  have e0 : decode c pc = Except.bind (Except.bind (.ok (188, pc + 1)) (fun _ => (Decoder.newarray pc : Decoder Instr) c (pc + 1))) (fun q => .ok (q.1, q.2 - pc)) := by
    unfold decode Reader.runAt Decoder.instr
    show Except.bind (Except.bind (Reader.u1 c pc) _) _ = _
    rw [k0]
    rfl
  rw [e0]
  unfold Decoder.newarray
  simp only [Bind.bind, ReaderT.bind, StateT.bind, Except.bind, k1, Pure.pure, ReaderT.pure, StateT.pure, Except.pure, Functor.map, StateT.map, Except.map, e_l2]
theorem dc_188_4 {c : ByteArray} {pc : Nat} (h : e_b2 c pc 188 4 = true) : decode c pc = .ok ((.newarray .boolean), 2) := by
  obtain ⟨k0, k1⟩ := e_k2 h
  have e0 : decode c pc = Except.bind (Except.bind (.ok (188, pc + 1)) (fun _ => (Decoder.newarray pc : Decoder Instr) c (pc + 1))) (fun q => .ok (q.1, q.2 - pc)) := by
    unfold decode Reader.runAt Decoder.instr
    show Except.bind (Except.bind (Reader.u1 c pc) _) _ = _
    rw [k0]
    rfl
  rw [e0]
  unfold Decoder.newarray
  simp only [Bind.bind, ReaderT.bind, StateT.bind, Except.bind, k1, Pure.pure, ReaderT.pure, StateT.pure, Except.pure, Functor.map, StateT.map, Except.map, e_l2]
theorem dc_188_8 {c : ByteArray} {pc : Nat} (h : e_b2 c pc 188 8 = true) : decode c pc = .ok ((.newarray .byte), 2) := by
  obtain ⟨k0, k1⟩ := e_k2 h
  have e0 : decode c pc = Except.bind (Except.bind (.ok (188, pc + 1)) (fun _ => (Decoder.newarray pc : Decoder Instr) c (pc + 1))) (fun q => .ok (q.1, q.2 - pc)) := by
    unfold decode Reader.runAt Decoder.instr
    show Except.bind (Except.bind (Reader.u1 c pc) _) _ = _
    rw [k0]
    rfl
  rw [e0]
  unfold Decoder.newarray
  simp only [Bind.bind, ReaderT.bind, StateT.bind, Except.bind, k1, Pure.pure, ReaderT.pure, StateT.pure, Except.pure, Functor.map, StateT.map, Except.map, e_l2]
theorem dc_189 {c : ByteArray} {pc a b n : Nat} (h : (e_b3 c pc 189 a b && Nat.beq (a * 256 + b) n) = true) : decode c pc = .ok (.anewarray n, 3) := by
  rw [Bool.and_eq_true] at h
  obtain ⟨k0, k1, k2⟩ := e_k3 h.1
  have kn := Nat.eq_of_beq_eq_true h.2
  have e0 : decode c pc = Except.bind (Except.bind (.ok (189, pc + 1)) (fun _ => (do let i ← Reader.u2; Pure.pure (.anewarray i) : Decoder Instr) c (pc + 1))) (fun q => .ok (q.1, q.2 - pc)) := by
    unfold decode Reader.runAt Decoder.instr
    show Except.bind (Except.bind (Reader.u1 c pc) _) _ = _
    rw [k0]
    rfl
  rw [e0]
  unfold Reader.u2
  simp only [Bind.bind, ReaderT.bind, StateT.bind, Except.bind, k1, k2, kn, Pure.pure, ReaderT.pure, StateT.pure, Except.pure, Functor.map, StateT.map, Except.map, e_l3]
theorem dc_190 {c : ByteArray} {pc : Nat} (h : e_b1 c pc 190 = true) : decode c pc = .ok (.arraylength, 1) := by
  have k0 := e_k1 h
  have e0 : decode c pc = Except.bind (Except.bind (.ok (190, pc + 1)) (fun _ => (Pure.pure .arraylength : Decoder Instr) c (pc + 1))) (fun q => .ok (q.1, q.2 - pc)) := by
    unfold decode Reader.runAt Decoder.instr
    show Except.bind (Except.bind (Reader.u1 c pc) _) _ = _
    rw [k0]
    rfl
  rw [e0]
  simp only [Bind.bind, ReaderT.bind, StateT.bind, Except.bind, Pure.pure, ReaderT.pure, StateT.pure, Except.pure, Functor.map, StateT.map, Except.map, e_l1]
theorem dc_191 {c : ByteArray} {pc : Nat} (h : e_b1 c pc 191 = true) : decode c pc = .ok (.athrow, 1) := by
  have k0 := e_k1 h
  have e0 : decode c pc = Except.bind (Except.bind (.ok (191, pc + 1)) (fun _ => (Pure.pure .athrow : Decoder Instr) c (pc + 1))) (fun q => .ok (q.1, q.2 - pc)) := by
    unfold decode Reader.runAt Decoder.instr
    show Except.bind (Except.bind (Reader.u1 c pc) _) _ = _
    rw [k0]
    rfl
  rw [e0]
  simp only [Bind.bind, ReaderT.bind, StateT.bind, Except.bind, Pure.pure, ReaderT.pure, StateT.pure, Except.pure, Functor.map, StateT.map, Except.map, e_l1]
theorem dc_198 {c : ByteArray} {pc a b : Nat} {v : Int} (h : (e_b3 c pc 198 a b && decide (Reader.signed 16 (a * 256 + b) = v)) = true) : decode c pc = .ok (.ifnull v, 3) := by
  rw [Bool.and_eq_true, decide_eq_true_eq] at h
  obtain ⟨k0, k1, k2⟩ := e_k3 h.1
  have e0 : decode c pc = Except.bind (Except.bind (.ok (198, pc + 1)) (fun _ => (do let i ← Reader.s2; Pure.pure (.ifnull i) : Decoder Instr) c (pc + 1))) (fun q => .ok (q.1, q.2 - pc)) := by
    unfold decode Reader.runAt Decoder.instr
    show Except.bind (Except.bind (Reader.u1 c pc) _) _ = _
    rw [k0]
    rfl
  rw [e0]
  unfold Reader.s2 Reader.u2
  simp only [Bind.bind, ReaderT.bind, StateT.bind, Except.bind, k1, k2, h.2, Pure.pure, ReaderT.pure, StateT.pure, Except.pure, Functor.map, StateT.map, Except.map, e_l3]
theorem dc_199 {c : ByteArray} {pc a b : Nat} {v : Int} (h : (e_b3 c pc 199 a b && decide (Reader.signed 16 (a * 256 + b) = v)) = true) : decode c pc = .ok (.ifnonnull v, 3) := by
  rw [Bool.and_eq_true, decide_eq_true_eq] at h
  obtain ⟨k0, k1, k2⟩ := e_k3 h.1
  have e0 : decode c pc = Except.bind (Except.bind (.ok (199, pc + 1)) (fun _ => (do let i ← Reader.s2; Pure.pure (.ifnonnull i) : Decoder Instr) c (pc + 1))) (fun q => .ok (q.1, q.2 - pc)) := by
    unfold decode Reader.runAt Decoder.instr
    show Except.bind (Except.bind (Reader.u1 c pc) _) _ = _
    rw [k0]
    rfl
  rw [e0]
  unfold Reader.s2 Reader.u2
  simp only [Bind.bind, ReaderT.bind, StateT.bind, Except.bind, k1, k2, h.2, Pure.pure, ReaderT.pure, StateT.pure, Except.pure, Functor.map, StateT.map, Except.map, e_l3]
