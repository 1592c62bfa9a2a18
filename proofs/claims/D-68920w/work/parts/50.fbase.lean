set_option maxRecDepth 100000
set_option maxHeartbeats 4000000
/-! LAYER F. A typed store over Int (g: which of the two systems a thing belongs to), in which the objects of both systems have fixed names (the numbers that the constructors give them); arrays that grow keep their names. -/
abbrev fS : Type := (Nat) × (Nat) × (Nat → Nat) × (Nat → Nat) × (Nat → Nat → Int) × (Nat → Nat → Int) × (Nat → Nat → Option Nat) × (Nat → Nat)
def fS.c (s : fS) : Nat := s.1
def fS.z (s : fS) : Nat := s.2.1
def fS.t (s : fS) : Nat → Nat := s.2.2.1
def fS.n (s : fS) : Nat → Nat := s.2.2.2.1
def fS.i (s : fS) : Nat → Nat → Int := s.2.2.2.2.1
def fS.j (s : fS) : Nat → Nat → Int := s.2.2.2.2.2.1
def fS.o (s : fS) : Nat → Nat → Option Nat := s.2.2.2.2.2.2.1
def fS.g (s : fS) : Nat → Nat := s.2.2.2.2.2.2.2
abbrev iI (x : Int) : Int32 := Int32.ofInt x
abbrev iJ (x : Int) : Int64 := Int64.ofInt x
def r32 (x : Int) : Prop := -2147483648 ≤ x ∧ x ≤ 2147483647
def r64 (x : Int) : Prop := -9223372036854775808 ≤ x ∧ x ≤ 9223372036854775807
theorem rr_I (x : Int32) : r32 x.toInt := ⟨x.le_toInt, by have := x.toInt_lt; omega⟩
theorem rr_J (x : Int64) : r64 x.toInt := ⟨x.le_toInt, by have := x.toInt_lt; omega⟩
theorem iI_to (x : Int32) : iI x.toInt = x := Int32.ofInt_toInt x
theorem iJ_to (x : Int64) : iJ x.toInt = x := Int64.ofInt_toInt x
theorem to_iI {x : Int} (h : r32 x) : (iI x).toInt = x := Int32.toInt_ofInt_of_le (by have := h.1; omega) (by have := h.2; omega)
theorem to_iJ {x : Int} (h : r64 x) : (iJ x).toInt = x := Int64.toInt_ofInt_of_le (by have := h.1; omega) (by have := h.2; omega)
theorem r32.w {x : Int} (h : r32 x) : r64 x := ⟨by have := h.1; omega, by have := h.2; omega⟩
/-! operations -/
def iadd (a b : Int) : Int := (iI a + iI b).toInt
def isub (a b : Int) : Int := (iI a - iI b).toInt
def imul (a b : Int) : Int := (iI a * iI b).toInt
def idiv (a b : Int) : Int := (iI a / iI b).toInt
def irem (a b : Int) : Int := (iI a - iI a / iI b * iI b).toInt
def ineg (a : Int) : Int := (-(iI a)).toInt
def iand (a b : Int) : Int := (iI a &&& iI b).toInt
def ior (a b : Int) : Int := (iI a ||| iI b).toInt
def ixor (a b : Int) : Int := (iI a ^^^ iI b).toInt
def ishl (a b : Int) : Int := (iI a <<< (iI b &&& 31)).toInt
def ishr (a b : Int) : Int := (iI a >>> (iI b &&& 31)).toInt
def iush (a b : Int) : Int := ((iI a).toUInt32 >>> ((iI b).toUInt32 &&& Int32.toUInt32 31)).toInt32.toInt
def i2b (a : Int) : Int := (iI a).toInt8.toInt32.toInt
def i2c (a : Int) : Int := ((iI a).toUInt32 % 65536).toInt32.toInt
def ladd (a b : Int) : Int := (iJ a + iJ b).toInt
def lsub (a b : Int) : Int := (iJ a - iJ b).toInt
def lmul (a b : Int) : Int := (iJ a * iJ b).toInt
def ldiv (a b : Int) : Int := (iJ a / iJ b).toInt
def lrem (a b : Int) : Int := (iJ a - iJ a / iJ b * iJ b).toInt
def lneg (a : Int) : Int := (-(iJ a)).toInt
def land (a b : Int) : Int := (iJ a &&& iJ b).toInt
def lor (a b : Int) : Int := (iJ a ||| iJ b).toInt
def lshl (a b : Int) : Int := (iJ a <<< (iJ b &&& 63)).toInt
def lshr (a b : Int) : Int := (iJ a >>> (iJ b &&& 63)).toInt
def l2i (a : Int) : Int := (iJ a).toInt32.toInt
def imax (a b : Int) : Int := if a < b then b else a
def imin (a b : Int) : Int := if b < a then b else a
def iabs (a : Int) : Int := if 0 ≤ a then a else isub 0 a
def lmax (a b : Int) : Int := if b < a then a else b
def lmin (a b : Int) : Int := if b < a then b else a
section
variable {x y : Int32} {u v : Int64} {a b : Int}
theorem c_lit (x : Int32) (n : Int) (h : x = iI n) : x = iI n := h
theorem d_lit (x : Int64) (n : Int) (h : x = iJ n) : x = iJ n := h
theorem c_add (p : x = iI a) (q : y = iI b) : x + y = iI (iadd a b) := by rw [p, q]; exact (iI_to _).symm
theorem c_sub (p : x = iI a) (q : y = iI b) : x - y = iI (isub a b) := by rw [p, q]; exact (iI_to _).symm
theorem c_mul (p : x = iI a) (q : y = iI b) : x * y = iI (imul a b) := by rw [p, q]; exact (iI_to _).symm
theorem c_div (p : x = iI a) (q : y = iI b) : x / y = iI (idiv a b) := by rw [p, q]; exact (iI_to _).symm
theorem c_rem (p : x = iI a) (q : y = iI b) : x - x / y * y = iI (irem a b) := by rw [p, q]; exact (iI_to _).symm
theorem c_neg (p : x = iI a) : -x = iI (ineg a) := by rw [p]; exact (iI_to _).symm
theorem c_and (p : x = iI a) (q : y = iI b) : x &&& y = iI (iand a b) := by rw [p, q]; exact (iI_to _).symm
theorem c_or (p : x = iI a) (q : y = iI b) : x ||| y = iI (ior a b) := by rw [p, q]; exact (iI_to _).symm
theorem c_xor (p : x = iI a) (q : y = iI b) : x ^^^ y = iI (ixor a b) := by rw [p, q]; exact (iI_to _).symm
theorem c_shl (p : x = iI a) (q : y = iI b) : x <<< (y &&& 31) = iI (ishl a b) := by rw [p, q]; exact (iI_to _).symm
theorem c_shr (p : x = iI a) (q : y = iI b) : x >>> (y &&& 31) = iI (ishr a b) := by rw [p, q]; exact (iI_to _).symm
theorem c_ush (p : x = iI a) (q : y = iI b) : (x.toUInt32 >>> (y.toUInt32 &&& Int32.toUInt32 31)).toInt32 = iI (iush a b) := by rw [p, q]; exact (iI_to _).symm
theorem c_2b (p : x = iI a) : x.toInt8.toInt32 = iI (i2b a) := by rw [p]; exact (iI_to _).symm
theorem c_2c (p : x = iI a) : (x.toUInt32 % 65536).toInt32 = iI (i2c a) := by rw [p]; exact (iI_to _).symm
theorem c_2l (p : x = iI a) (r : r32 a) : x.toInt64 = iJ a := by
  rw [p]; apply Int64.toInt.inj; rw [Int32.toInt_toInt64, to_iI r, to_iJ r.w]
theorem d_add (p : u = iJ a) (q : v = iJ b) : u + v = iJ (ladd a b) := by rw [p, q]; exact (iJ_to _).symm
theorem d_sub (p : u = iJ a) (q : v = iJ b) : u - v = iJ (lsub a b) := by rw [p, q]; exact (iJ_to _).symm
theorem d_mul (p : u = iJ a) (q : v = iJ b) : u * v = iJ (lmul a b) := by rw [p, q]; exact (iJ_to _).symm
theorem d_div (p : u = iJ a) (q : v = iJ b) : u / v = iJ (ldiv a b) := by rw [p, q]; exact (iJ_to _).symm
theorem d_rem (p : u = iJ a) (q : v = iJ b) : u - u / v * v = iJ (lrem a b) := by rw [p, q]; exact (iJ_to _).symm
theorem d_neg (p : u = iJ a) : -u = iJ (lneg a) := by rw [p]; exact (iJ_to _).symm
theorem d_and (p : u = iJ a) (q : v = iJ b) : u &&& v = iJ (land a b) := by rw [p, q]; exact (iJ_to _).symm
theorem d_or (p : u = iJ a) (q : v = iJ b) : u ||| v = iJ (lor a b) := by rw [p, q]; exact (iJ_to _).symm
theorem d_shl (p : u = iJ a) (q : v = iJ b) : u <<< (v &&& 63) = iJ (lshl a b) := by rw [p, q]; exact (iJ_to _).symm
theorem d_shr (p : u = iJ a) (q : v = iJ b) : u >>> (v &&& 63) = iJ (lshr a b) := by rw [p, q]; exact (iJ_to _).symm
theorem d_2i (p : u = iJ a) : u.toInt32 = iI (l2i a) := by rw [p]; exact (iI_to _).symm
theorem i_lt (p : x = iI a) (q : y = iI b) (r : r32 a) (s : r32 b) : x < y ↔ a < b := by rw [p, q, Int32.lt_iff_toInt_lt, to_iI r, to_iI s]
theorem i_le (p : x = iI a) (q : y = iI b) (r : r32 a) (s : r32 b) : x ≤ y ↔ a ≤ b := by rw [p, q, Int32.le_iff_toInt_le, to_iI r, to_iI s]
theorem i_eq (p : x = iI a) (q : y = iI b) (r : r32 a) (s : r32 b) : x = y ↔ a = b := by rw [p, q, ← Int32.toInt_inj, to_iI r, to_iI s]
theorem j_lt (p : u = iJ a) (q : v = iJ b) (r : r64 a) (s : r64 b) : u < v ↔ a < b := by rw [p, q, Int64.lt_iff_toInt_lt, to_iJ r, to_iJ s]
theorem j_le (p : u = iJ a) (q : v = iJ b) (r : r64 a) (s : r64 b) : u ≤ v ↔ a ≤ b := by rw [p, q, Int64.le_iff_toInt_le, to_iJ r, to_iJ s]
theorem j_eq (p : u = iJ a) (q : v = iJ b) (r : r64 a) (s : r64 b) : u = v ↔ a = b := by rw [p, q, ← Int64.toInt_inj, to_iJ r, to_iJ s]
theorem c_max (p : x = iI a) (q : y = iI b) (r : r32 a) (s : r32 b) : m_maxI x y = iI (imax a b) := by
  unfold m_maxI imax; by_cases h : a < b
  · rw [if_pos h, if_pos ((i_lt p q r s).mpr h), q]
  · rw [if_neg h, if_neg (fun w => h ((i_lt p q r s).mp w)), p]
theorem c_min (p : x = iI a) (q : y = iI b) (r : r32 a) (s : r32 b) : m_minI x y = iI (imin a b) := by
  unfold m_minI imin; by_cases h : b < a
  · rw [if_pos h, if_pos ((i_lt q p s r).mpr h), q]
  · rw [if_neg h, if_neg (fun w => h ((i_lt q p s r).mp w)), p]
theorem c_abs (p : x = iI a) (r : r32 a) : m_absI x = iI (iabs a) := by
  unfold m_absI iabs
  have h0 : (0 : Int32) = iI 0 := rfl
  by_cases h : 0 ≤ a
  · rw [if_pos h, if_pos ((i_le h0 p ⟨by decide, by decide⟩ r).mpr h), p]
  · rw [if_neg h, if_neg (fun w => h ((i_le h0 p ⟨by decide, by decide⟩ r).mp w))]; exact c_sub h0 p
theorem d_max (p : u = iJ a) (q : v = iJ b) (r : r64 a) (s : r64 b) : m_maxJ u v = iJ (lmax a b) := by
  unfold m_maxJ lmax; by_cases h : b < a
  · rw [if_pos h, if_pos ((j_lt q p s r).mpr h), p]
  · rw [if_neg h, if_neg (fun w => h ((j_lt q p s r).mp w)), q]
theorem d_min (p : u = iJ a) (q : v = iJ b) (r : r64 a) (s : r64 b) : m_minJ u v = iJ (lmin a b) := by
  unfold m_minJ lmin; by_cases h : b < a
  · rw [if_pos h, if_pos ((j_lt q p s r).mpr h), q]
  · rw [if_neg h, if_neg (fun w => h ((j_lt q p s r).mp w)), p]
theorem r_max (r : r32 a) (s : r32 b) : r32 (imax a b) := by unfold imax; split <;> assumption
theorem r_min (r : r32 a) (s : r32 b) : r32 (imin a b) := by unfold imin; split <;> assumption
theorem r_abs (r : r32 a) : r32 (iabs a) := by unfold iabs; split; assumption; exact rr_I _
theorem q_max (r : r64 a) (s : r64 b) : r64 (lmax a b) := by unfold lmax; split <;> assumption
theorem q_min (r : r64 a) (s : r64 b) : r64 (lmin a b) := by unfold lmin; split <;> assumption
theorem lg_lt : lg_cmp u v < 0 ↔ u < v := lg_cmp_lt u v
theorem lg_eq : lg_cmp u v = 0 ↔ u = v := lg_cmp_eq u v
theorem lg_le : lg_cmp u v ≤ 0 ↔ u ≤ v := lg_cmp_le u v
end
/-! updates -/
def fS.pI (s : fS) (a k : Nat) (v : Int) : fS := ⟨s.c, s.z, s.t, s.n, fun b => if b = a then (fun q => if q = k then v else s.i a q) else s.i b, s.j, s.o, s.g⟩
def fS.pJ (s : fS) (a k : Nat) (v : Int) : fS := ⟨s.c, s.z, s.t, s.n, s.i, fun b => if b = a then (fun q => if q = k then v else s.j a q) else s.j b, s.o, s.g⟩
def fS.pO (s : fS) (a k : Nat) (v : Option Nat) : fS := ⟨s.c, s.z, s.t, s.n, s.i, s.j, fun b => if b = a then (fun q => if q = k then v else s.o a q) else s.o b, s.g⟩
/-- an array that grows takes over what a new one holds -/
def fS.mv (s : fS) (g m : Nat) : fS := if m = g then s else ⟨s.c, s.z, fun b => if b = m then 200 else s.t b, fun b => if b = g then s.n m else if b = m then 0 else s.n b, fun b => if b = g then s.i m else s.i b, s.j, s.o, s.g⟩
def fS.cp (s : fS) (a x b y n : Nat) : fS := ⟨s.c, s.z, s.t, s.n, fun d => if d = b then (fun q => if y ≤ q ∧ q < y + n then s.i a (x + (q - y)) else s.i b q) else s.i d, s.j, s.o, s.g⟩
def fS.nw (s : fS) (t l : Nat) (z : Nat) (sd : Nat) : fS := ⟨s.c + 1, s.z + z, fun b => if b = s.c then t else s.t b, fun b => if b = s.c then l else s.n b, fun b => if b = s.c then (fun _ => 0) else s.i b, fun b => if b = s.c then (fun _ => 0) else s.j b, fun b => if b = s.c then (fun _ => none) else s.o b, fun b => if b = s.c then sd else s.g b⟩
/-! primitives -/
abbrev uR (s : fS) (a : Nat) (x : Int) : Prop := 0 ≤ x ∧ x.toNat < s.n a
def uRI (s : fS) (a : Nat) (x : Int) : Option Int := if uR s a x then some (s.i a x.toNat) else none
def uRJ (s : fS) (a : Nat) (x : Int) : Option Int := if uR s a x then some (s.j a x.toNat) else none
def uRO (s : fS) (a : Nat) (x : Int) : Option Nat := if uR s a x then s.o a x.toNat else none
def uRQ (s : fS) (a : Nat) (x : Int) : Option (Option Nat) := if uR s a x then some (s.o a x.toNat) else none
def uQI (s : fS) (a : Nat) (x v : Int) : Option fS := if uR s a x then some (s.pI a x.toNat v) else none
def uQJ (s : fS) (a : Nat) (x v : Int) : Option fS := if uR s a x then some (s.pJ a x.toNat v) else none
def uQO (s : fS) (a : Nat) (x : Int) (b : Nat) : Option fS := if uR s a x then some (s.pO a x.toNat (some b)) else none
/-- the type of an array, new ones that are to be taken over included -/
def ut (t : Nat) : Nat := if 110 ≤ t then t - 10 else t
def uK (c : Nat) (s : fS) (a : Nat) : Option Unit := if s.t a = c then some () else none
def uKA (c : Nat) (s : fS) (a : Nat) : Option Unit := if s.t a < 128 ∧ ut (s.t a) = c then some () else none
def uKL (s : fS) (a : Nat) : Option Unit := if s.t a < 128 ∧ 100 ≤ s.t a then some () else none
def uPI (s : fS) (a k : Nat) (v : Int) : Option fS := some (s.pI a k v)
def uPJ (s : fS) (a k : Nat) (v : Int) : Option fS := some (s.pJ a k v)
def uPZ (s : fS) (a k : Nat) (v : Int) : Option fS := if v = 0 ∨ v = 1 then some (s.pI a k v) else none
def uPO (s : fS) (a k b : Nat) : Option fS := some (s.pO a k (some b))
def uPF (s : fS) (a k b : Nat) : Option fS := if s.o a k = none then some (s.pO a k (some b)) else none
def uMV (s : fS) (g m : Nat) : Option fS := if m = g ∨ s.t m = s.t g + 10 then some (s.mv g m) else none
def uNA (c sd : Nat) (s : fS) (x : Int) : Option (Nat × fS) := if 0 ≤ x ∧ x.toNat < 60000000 ∧ s.c + 1 ≤ 170145 ∧ s.z + x.toNat ≤ 8591047 then some (s.c, s.nw c x.toNat x.toNat sd) else none
def uNO (c sd N : Nat) (s : fS) : Option (Nat × fS) := if s.c + 1 ≤ 170145 ∧ s.z + N ≤ 8591047 then some (s.c, s.nw c 0 N sd) else none
def uNX (c : Nat) (s : fS) : Option (Nat × fS) := if s.c + 1 ≤ 170145 ∧ s.z + 6 ≤ 8591047 then some (s.c, s.nw c 0 6 0) else none
def uCP (s : fS) (a : Nat) (x : Int) (b : Nat) (y n : Int) : Option fS := if (0 ≤ x ∧ 0 ≤ y ∧ 0 ≤ n) ∧ ut (s.t a) = ut (s.t b) ∧ x.toNat + n.toNat ≤ s.n a ∧ y.toNat + n.toNat ≤ s.n b then some (s.cp a x.toNat b y.toNat n.toNat) else none
def uZ {α : Type} (x : Int) (r : α) : Option α := if x = 0 ∨ x = 1 then some r else none
def uBr {α : Type} (x : Int) (r : α) : Option α := if i2b x = x then some r else none
def uCr {α : Type} (x : Int) (r : α) : Option α := if i2c x = x then some r else none
def tB {α β : Type} (o : Option ((α ⊕ Nat) × fS)) (k : α → fS → Option ((β ⊕ Nat) × fS)) : Option ((β ⊕ Nat) × fS) := o.bind fun q => match q.1 with
  | .inl a => k a q.2
  | .inr x => some (.inr x, q.2)
def tC {α β : Type} (ci : Nat) (o : Option ((α ⊕ Nat) × fS)) (k : α → fS → Option β) (kt : Nat → fS → Option β) : Option β := o.bind fun q => match q.1 with
  | .inl a => k a q.2
  | .inr x => if q.2.t x = ci then kt x q.2 else none
def uSG (L : Nat) (xs : Nat → Int32) (x : Int) : Option Int := if 0 ≤ x ∧ x.toNat < L then some (xs x.toNat).toInt else none
/-! types of slots: 0 an int, 1 a long, 2 an object, 3 an array -/
def f_tc (t : FieldType) : Nat := match t with
  | .int | .byte | .boolean | .char | .short => 0
  | .long => 1
  | .object _ => 2
  | .array _ => 3
  | _ => 9
theorem f_tc_I {t : FieldType} (h : f_tc t = 0) : defaultValue t = .int 0 := by cases t <;> simp [f_tc] at h <;> rfl
theorem f_tc_J {t : FieldType} (h : f_tc t = 1) : defaultValue t = .long 0 := by cases t <;> simp [f_tc] at h <;> rfl
theorem f_tc_O {t : FieldType} (h : f_tc t = 2) : defaultValue t = .null := by cases t <;> simp [f_tc] at h <;> rfl
theorem f_tc_A {t : FieldType} (h : f_tc t = 3) : defaultValue t = .null := by cases t <;> simp [f_tc] at h <;> rfl
def f_ty (c k : Nat) : Nat := match c with
  | 0 => f_tc (tyX1 k)
  | 1 => f_tc (tyX2 k)
  | 2 => f_tc (tyX3 k)
  | 3 => f_tc (tyX4 k)
  | 4 => f_tc (tyX5 k)
  | 5 => f_tc (tyX6 k)
  | 6 => f_tc (tyX7 k)
  | 7 => f_tc (tyX8 k)
  | 8 => f_tc (tyX9 k)
  | 9 => f_tc (tyX10 k)
  | 10 => f_tc (tyX11 k)
  | 11 => f_tc (tyX12 k)
  | 12 => f_tc (tyX13 k)
  | 13 => f_tc (tyX14 k)
  | 14 => f_tc (tyX15 k)
  | 15 => f_tc (tyX16 k)
  | 16 => f_tc (tyX17 k)
  | 17 => f_tc (tyX18 k)
  | 18 => f_tc (tyX19 k)
  | 19 => f_tc (tyX20 k)
  | 20 => f_tc (tyX21 k)
  | 21 => f_tc (tyX22 k)
  | 22 => f_tc (tyX23 k)
  | 23 => f_tc (tyX24 k)
  | 24 => f_tc (tyX25 k)
  | 25 => f_tc (tyX26 k)
  | 26 => f_tc (tyX27 k)
  | 27 => f_tc (tyX28 k)
  | 28 => f_tc (tyX29 k)
  | 29 => f_tc (tyX30 k)
  | 30 => f_tc (tyX31 k)
  | 31 => f_tc (tyX32 k)
  | 32 => f_tc (tyX33 k)
  | 33 => f_tc (tyX34 k)
  | 34 => f_tc (tyX35 k)
  | 35 => f_tc (tyX36 k)
  | 36 => f_tc (tyX37 k)
  | 37 => f_tc (tyX38 k)
  | 41 => f_tc (tyX39 k)
  | 42 => f_tc (tyX40 k)
  | 100 => 0
  | 101 => 1
  | 102 => 0
  | 103 => 0
  | 104 => 2
  | 105 => 2
  | 106 => 2
  | 107 => 2
  | _ => 9
def f_T : List Nat := [0, 102, 1, 102, 2, 3, 4, 106, 105, 100, 103, 100, 5, 100, 100, 100, 100, 6, 102, 100, 100, 104, 7, 8, 100, 100, 100, 100, 100, 100, 100, 100, 100, 100, 103, 103, 103, 100, 100, 100, 100, 102, 100, 100, 9, 100, 100, 100, 102, 102, 10, 102, 11, 100, 100, 100, 100, 100, 12, 100, 13, 14, 100, 100, 102, 100, 100, 100, 100, 100, 100, 100, 100, 103, 100, 15, 100, 100, 100, 101, 102, 100, 101, 16, 102, 102, 16, 102, 102, 17, 100, 100, 100, 100, 18, 101, 101, 19, 101, 104, 101, 101, 100, 20, 21, 102, 100, 100, 100, 100, 22, 101, 101, 101, 103, 100, 101, 100, 100, 100, 23, 24, 100, 100, 102, 101, 100, 100, 25, 100, 101, 100, 100, 26, 102, 100, 100, 100, 102, 100, 27, 28, 101, 28, 101, 29, 28, 101, 29, 28, 101, 28, 101, 30, 31, 102, 100, 100, 100, 100, 100, 100, 32, 100, 100, 100, 32, 100, 100, 100, 33, 100, 33, 100, 33, 100, 100, 100, 100, 100, 100, 100, 100, 103, 102, 102, 33, 100, 33, 100, 100, 100, 34, 102, 107, 35, 100, 100, 100, 100, 103, 103, 100, 100, 100, 100, 103, 100, 100, 103, 100, 100, 100, 36, 100, 100, 100, 100, 100, 100, 100, 100, 100, 100, 100, 100, 100, 100, 100, 100, 101, 100, 103, 100, 100, 100, 100, 100, 100, 101, 100, 100, 100, 37, 100, 100, 100, 100, 100, 102, 100, 100, 100, 100, 100, 100, 100, 100, 100, 100, 100, 102, 100, 100, 100, 100, 100, 103, 100, 100, 100, 100, 103, 100, 100, 100, 100, 100, 100, 100, 100, 103, 100, 100, 100, 100, 100, 100, 200, 100, 100, 100, 100, 100, 103, 100, 100, 100, 100, 100, 100, 100, 100, 100, 100, 101, 101, 100, 100, 100, 100, 100, 100, 100, 100, 100, 101, 101, 101, 101, 101, 100, 100, 100, 100, 101]
def f_N : List Nat := [0, 65536, 0, 8192, 0, 0, 0, 16, 100, 100, 100, 100, 0, 2048, 2048, 10, 10, 0, 128, 640, 128, 3000, 0, 0, 2048, 2048, 2048, 2096, 2096, 128, 2096, 2048, 100, 100, 100, 100, 100, 256, 9, 64, 13, 1640, 336, 4, 0, 4096, 512, 512, 1024, 40, 0, 65536, 0, 10000, 64, 64, 64, 64, 0, 256, 0, 0, 64, 64, 64, 64, 64, 64, 64, 64, 256, 256, 64, 256, 1000, 0, 512, 300, 300, 300, 8000, 32769, 32769, 0, 66, 67, 0, 66, 67, 0, 1132, 1132, 1132, 1132, 0, 4, 4, 0, 18000, 10, 10, 10, 10, 0, 0, 2003, 2003, 2003, 2003, 2003, 0, 2004, 2004, 8016, 2003, 2003, 4, 10, 20, 12, 0, 0, 8001, 8001, 8001, 8001, 8001, 8001, 0, 8016, 8016, 2003, 2003, 0, 64, 64, 64, 64, 64, 64, 0, 0, 4, 0, 4, 0, 0, 4, 0, 0, 4, 0, 4, 0, 0, 300000, 10, 3000, 3000, 3000, 3000, 3000, 0, 3000, 3000, 8192, 0, 3000, 3000, 8192, 0, 384, 0, 384, 0, 384, 256, 256, 256, 256, 256, 256, 256, 256, 64, 64, 0, 384, 0, 384, 1132, 8, 0, 65536, 16, 0, 256, 65536, 1001, 1001, 1001, 1001, 8064, 9100, 301, 8064, 8064, 65536, 65537, 65536, 64, 64, 64, 0, 2010, 2010, 2010, 2010, 2010, 2010, 2010, 2010, 10, 3, 3, 3, 3, 8001, 8001, 8001, 8001, 8001, 8001, 4, 2010, 2010, 2010, 2010, 2010, 2010, 2011, 8044, 2011, 0, 100, 100, 100, 100, 10, 360000, 100, 3000, 3000, 3000, 3000, 3000, 3000, 3000, 3000, 6, 65537, 44000, 1100, 41, 1722, 385012, 101, 101, 101, 101, 101, 101, 101, 10002, 10002, 10002, 10002, 10001, 10600, 99000, 9, 101, 101, 100, 100, 260, 260, 260, 6000, 64, 1100, 1100, 12060, 3001, 3000, 3000, 3000, 3000, 3000, 3000, 3000, 3000, 3000, 3000, 120000, 4, 4, 10000, 10000, 10000, 10000, 10000, 10000, 10000, 3000, 3000, 3000, 3000, 3000, 3000, 3000, 714, 64, 64, 12600, 1]
def f_G : List Nat := [18, 19, 20, 24, 25, 26, 29, 31, 37, 46, 47, 48, 54, 55, 56, 57, 59, 62, 63, 64, 65, 66, 67, 68, 69, 70, 71, 72, 73, 134, 135, 136, 137, 138, 139, 171, 173, 175, 187, 189, 1000288]
def f_W (g : Nat) : Nat × Nat := match g with
  | 18 => (17, 0)
  | 19 => (17, 1)
  | 20 => (17, 2)
  | 24 => (23, 0)
  | 25 => (23, 1)
  | 26 => (23, 2)
  | 29 => (23, 5)
  | 31 => (23, 8)
  | 37 => (22, 16)
  | 46 => (44, 2)
  | 47 => (44, 3)
  | 48 => (44, 4)
  | 54 => (52, 3)
  | 55 => (52, 4)
  | 56 => (52, 5)
  | 57 => (52, 6)
  | 59 => (58, 2)
  | 62 => (61, 0)
  | 63 => (61, 1)
  | 64 => (61, 2)
  | 65 => (61, 3)
  | 66 => (61, 4)
  | 67 => (61, 6)
  | 68 => (61, 7)
  | 69 => (61, 8)
  | 70 => (61, 10)
  | 71 => (61, 11)
  | 72 => (61, 12)
  | 73 => (61, 13)
  | 134 => (133, 0)
  | 135 => (133, 1)
  | 136 => (133, 2)
  | 137 => (133, 3)
  | 138 => (133, 4)
  | 139 => (133, 5)
  | 171 => (170, 0)
  | 173 => (172, 0)
  | 175 => (174, 0)
  | 187 => (186, 0)
  | 189 => (188, 0)
  | 1000288 => (192, 55)
  | _ => (0, 0)
def f_O (a k : Nat) : Option Nat := match a with
  | 0 => ([some 1, none, some 2, some 4] : List (Option Nat)).getD k none
  | 2 => ([some 3] : List (Option Nat)).getD k none
  | 4 => ([some 5, some 6, some 17, some 21, none, some 22, some 23, some 60, some 89, some 94, some 97, some 103, some 133, some 140, some 151, some 153, some 170, some 172, some 174, some 176, some 177, some 178, some 179, some 180, some 181, some 182, some 183, none, some 184, some 185, none, none, some 186, some 188, some 190, none, some 191] : List (Option Nat)).getD k none
  | 6 => ([some 7, some 8, some 9, none, some 10, some 11, none, some 12] : List (Option Nat)).getD k none
  | 12 => ([some 13, some 14, some 15, some 16] : List (Option Nat)).getD k none
  | 17 => ([some 18, some 19, some 20] : List (Option Nat)).getD k none
  | 22 => ([some 5, some 6, some 21, some 44, some 23, some 50, some 52, some 58, none, none, none, none, some 34, some 35, some 36, none, some 37, none, some 38, some 39, some 40, some 41, none, some 42, none, none, none, none, none, some 43] : List (Option Nat)).getD k none
  | 23 => ([some 24, some 25, some 26, some 27, some 28, some 29, none, some 30, some 31, some 32, some 33] : List (Option Nat)).getD k none
  | 44 => ([some 5, some 45, some 46, some 47, some 48, none, none, some 49] : List (Option Nat)).getD k none
  | 50 => ([some 5, some 44, some 23, some 51] : List (Option Nat)).getD k none
  | 52 => ([some 5, some 53, none, some 54, some 55, some 56, some 57] : List (Option Nat)).getD k none
  | 58 => ([some 52, some 50, some 59] : List (Option Nat)).getD k none
  | 60 => ([some 61, some 75, some 83, some 86] : List (Option Nat)).getD k none
  | 61 => ([some 62, some 63, some 64, some 65, some 66, none, some 67, some 68, some 69, none, some 70, some 71, some 72, some 73, none, none, none, none, some 74] : List (Option Nat)).getD k none
  | 75 => ([some 76, some 77, some 78, some 79, some 80, none, none, none, none, some 81, some 82] : List (Option Nat)).getD k none
  | 83 => ([some 84, some 85] : List (Option Nat)).getD k none
  | 86 => ([some 87, some 88] : List (Option Nat)).getD k none
  | 89 => ([some 90, some 91, some 92, none, none, some 93] : List (Option Nat)).getD k none
  | 94 => ([some 17, some 21, some 95, some 96] : List (Option Nat)).getD k none
  | 97 => ([some 17, some 21, some 98, none, some 99, some 100, some 101, some 102] : List (Option Nat)).getD k none
  | 103 => ([some 104, some 110, some 117, some 118, some 119, some 120, none, none, some 131, some 132] : List (Option Nat)).getD k none
  | 104 => ([some 105, some 106, some 107, some 108, some 109] : List (Option Nat)).getD k none
  | 110 => ([some 111, some 112, some 113, some 114, some 115, some 116] : List (Option Nat)).getD k none
  | 120 => ([some 104, some 110, some 117, some 118, some 121, some 128, some 129, some 130] : List (Option Nat)).getD k none
  | 121 => ([some 122, some 123, some 124, some 125, some 126, some 127] : List (Option Nat)).getD k none
  | 133 => ([some 134, some 135, some 136, some 137, some 138, some 139] : List (Option Nat)).getD k none
  | 140 => ([some 133, some 141, some 143] : List (Option Nat)).getD k none
  | 141 => ([some 142] : List (Option Nat)).getD k none
  | 143 => ([some 144] : List (Option Nat)).getD k none
  | 145 => ([some 146] : List (Option Nat)).getD k none
  | 146 => ([some 147] : List (Option Nat)).getD k none
  | 148 => ([some 149] : List (Option Nat)).getD k none
  | 149 => ([some 150] : List (Option Nat)).getD k none
  | 151 => ([some 152] : List (Option Nat)).getD k none
  | 153 => ([some 6, some 154, some 156, some 157, some 158, some 159, some 160, some 161, none, some 162, some 166] : List (Option Nat)).getD k none
  | 154 => ([some 155] : List (Option Nat)).getD k none
  | 162 => ([none, none, some 163, some 164, none, none, none, none, some 165] : List (Option Nat)).getD k none
  | 166 => ([none, none, some 167, some 168, none, none, none, none, some 169] : List (Option Nat)).getD k none
  | 170 => ([some 171] : List (Option Nat)).getD k none
  | 172 => ([some 173] : List (Option Nat)).getD k none
  | 174 => ([some 175] : List (Option Nat)).getD k none
  | 186 => ([some 187] : List (Option Nat)).getD k none
  | 188 => ([some 189] : List (Option Nat)).getD k none
  | 192 => ([none, none, some 193, none, some 194, some 195, some 213, some 243, none, none, none, some 260, none, none, none, none, some 261, some 262, some 263, none, some 264, none, some 265, some 266, some 267, some 268, some 269, some 270, some 271, some 272, none, some 273, some 274, some 275, some 276, none, some 277, none, some 278, some 279, some 280, none, some 281, some 282, none, none, none, none, none, some 283, some 284, none, some 285, some 286, some 287, some 1000288, none, none, none, some 289, some 290, some 291, none, some 292, none, none, some 293, some 294, some 295, some 296, some 297, some 298, some 299, some 300, some 301, some 302, some 303, some 304, none, none, none, none, none, some 305, some 306, none, none, some 307, some 308, some 309, some 310, some 311, some 312, some 313, none, none, none, none, none, none, none, none, none, some 314, some 315, some 316, some 317, some 318, some 319, some 320, none, none, none, none, none, none, none, none, none, none, none, none, none, some 321, none, some 322, some 323, some 324] : List (Option Nat)).getD k none
  | 195 => ([some 196, none, none, none, some 197, none, some 198, some 199, some 200, some 201, some 202, some 203, none, some 204, some 205, some 206, none, none, none, none, some 207, some 208, some 209, none, some 210, some 211, none, some 212] : List (Option Nat)).getD k none
  | 213 => ([none, none, some 214, some 215, some 216, some 217, some 218, some 219, some 220, some 221, some 222, none, some 223, some 224, some 225, some 226, none, none, none, none, none, none, none, some 227, some 228, some 229, some 230, some 231, some 232, none, none, some 233, none, none, none, none, none, none, none, some 234, some 235, some 236, some 237, some 238, some 239, some 240, some 241, some 242] : List (Option Nat)).getD k none
  | 243 => ([some 244, some 245, some 246, some 247, some 248, none, some 249, none, none, none, none, none, some 250, none, some 251, some 252, some 253, some 254, some 255, some 256, some 257, some 258, some 259] : List (Option Nat)).getD k none
  | _ => none
def f_lim (m : Nat) : Nat := match m with
  | 0 => 192
  | 1 => 325
  | _ => 326
theorem f_lim_le (m : Nat) : 192 ≤ f_lim m := by match m with
  | 0 => decide
  | 1 => decide
  | n + 2 => exact (by decide : 192 ≤ 326)
theorem f_lim_1 {m : Nat} (h : 1 ≤ m) : 325 ≤ f_lim m := by match m, h with
  | 1, _ => decide
  | n + 2, _ => exact (by decide : 325 ≤ 326)
theorem f_lim_2 {m : Nat} (h : 2 ≤ m) : 326 ≤ f_lim m := by match m, h with
  | n + 2, _ => exact Nat.le_refl _
theorem f_G_lt : ∀ a ∈ f_G, a = 1000288 ∨ (a < 192 ∧ 100 ≤ f_T.getD a 0 ∧ f_T.getD a 0 < 104) := by decide
theorem f_O_arr' (a k : Nat) (h : 100 ≤ f_T.getD a 0) : f_O a k = none := by
  unfold f_O
  split <;> first | rfl | (exfalso; revert h; decide)
theorem f_T_ok (a : Nat) : f_T.getD a 0 < 110 ∨ f_T.getD a 0 = 200 := by
  have h : ∀ x ∈ f_T, x < 110 ∨ x = 200 := by decide
  rcases Nat.lt_or_ge a f_T.length with e | e
  · rw [List.getD_eq_getElem?_getD, List.getElem?_eq_getElem e]; exact h _ (List.getElem_mem e)
  · rw [List.getD_eq_getElem?_getD, List.getElem?_eq_none e]; exact Or.inl (by decide)
theorem f_T_J (a : Nat) (hg : a ∈ f_G) {k : Nat} (h : f_ty (f_T.getD a 0) k = 1) : False := by
  have : ∀ a ∈ f_G, f_T.getD a 0 = 100 ∨ f_T.getD a 0 = 102 ∨ f_T.getD a 0 = 103 ∨ f_T.getD a 0 = 0 ∧ a = 1000288 := by decide
  rcases this a hg with e | e | e | ⟨e, e2⟩ <;> rw [e] at h
  · cases h
  · cases h
  · cases h
  · unfold f_ty at h; revert h; show f_tc (tyX1 k) = 1 → False; unfold tyX1; split <;> decide
theorem arr_o_none {t k : Nat} (h : 100 ≤ t) (h2 : t < 104) : f_ty t k < 2 := by
  have : t = 100 ∨ t = 101 ∨ t = 102 ∨ t = 103 := by omega
  rcases this with e | e | e | e <;> subst e <;> simp [f_ty]
/-- how the store stands in the pure heap; the names of arrays that grow are told by φ -/
abbrev fR (φ : Nat → Nat) (h : eH) (s : fS) : Prop :=
  (h.1 = s.c) ∧
  (h.2.1 = s.z) ∧
  (∀ a, s.t a < 128 → (a < s.c ∨ a = 1000288) ∧ φ a < h.1 ∧ e_t h (φ a) = ut (s.t a)) ∧
  (∀ a, s.t a < 128 → a ∉ f_G → φ a = a) ∧
  (∀ a, 100 ≤ s.t a → s.t a < 128 → e_n h (φ a) = s.n a ∧ s.n a < 2147483648) ∧
  (∀ a b, s.t a < 128 → s.t b < 128 → φ a = φ b → a = b) ∧
  (∀ a k, s.t a < 128 → f_ty (ut (s.t a)) k = 0 → e_v h (φ a) k = .int (iI (s.i a k)) ∧ r32 (s.i a k)) ∧
  (∀ a k, s.t a < 128 → f_ty (ut (s.t a)) k = 1 → e_v h (φ a) k = .long (iJ (s.j a k)) ∧ r64 (s.j a k)) ∧
  (∀ a k, s.t a < 128 → f_ty (ut (s.t a)) k = 2 → (s.o a k = none ∧ e_v h (φ a) k = .null) ∨ ∃ b, s.o a k = some b ∧ e_v h (φ a) k = .ref b ∧ s.t b < 100) ∧
  (∀ a k, s.t a < 128 → f_ty (ut (s.t a)) k = 3 → (s.o a k = none ∧ e_v h (φ a) k = .null) ∨ ∃ b, s.o a k = some b ∧ e_v h (φ a) k = .ref (φ b) ∧ 100 ≤ s.t b ∧ s.t b < 108)
theorem fR.c {φ : Nat → Nat} {h : eH} {s : fS} (R_ : fR φ h s) : h.1 = s.c := R_.1
theorem fR.z {φ : Nat → Nat} {h : eH} {s : fS} (R_ : fR φ h s) : h.2.1 = s.z := R_.2.1
theorem fR.al {φ : Nat → Nat} {h : eH} {s : fS} (R_ : fR φ h s) : ∀ a, s.t a < 128 → (a < s.c ∨ a = 1000288) ∧ φ a < h.1 ∧ e_t h (φ a) = ut (s.t a) := R_.2.2.1
theorem fR.lo {φ : Nat → Nat} {h : eH} {s : fS} (R_ : fR φ h s) : ∀ a, s.t a < 128 → a ∉ f_G → φ a = a := R_.2.2.2.1
theorem fR.ln {φ : Nat → Nat} {h : eH} {s : fS} (R_ : fR φ h s) : ∀ a, 100 ≤ s.t a → s.t a < 128 → e_n h (φ a) = s.n a ∧ s.n a < 2147483648 := R_.2.2.2.2.1
theorem fR.ij {φ : Nat → Nat} {h : eH} {s : fS} (R_ : fR φ h s) : ∀ a b, s.t a < 128 → s.t b < 128 → φ a = φ b → a = b := R_.2.2.2.2.2.1
theorem fR.vi {φ : Nat → Nat} {h : eH} {s : fS} (R_ : fR φ h s) : ∀ a k, s.t a < 128 → f_ty (ut (s.t a)) k = 0 → e_v h (φ a) k = .int (iI (s.i a k)) ∧ r32 (s.i a k) := R_.2.2.2.2.2.2.1
theorem fR.vj {φ : Nat → Nat} {h : eH} {s : fS} (R_ : fR φ h s) : ∀ a k, s.t a < 128 → f_ty (ut (s.t a)) k = 1 → e_v h (φ a) k = .long (iJ (s.j a k)) ∧ r64 (s.j a k) := R_.2.2.2.2.2.2.2.1
theorem fR.vo {φ : Nat → Nat} {h : eH} {s : fS} (R_ : fR φ h s) : ∀ a k, s.t a < 128 → f_ty (ut (s.t a)) k = 2 → (s.o a k = none ∧ e_v h (φ a) k = .null) ∨ ∃ b, s.o a k = some b ∧ e_v h (φ a) k = .ref b ∧ s.t b < 100 := R_.2.2.2.2.2.2.2.2.1
theorem fR.va {φ : Nat → Nat} {h : eH} {s : fS} (R_ : fR φ h s) : ∀ a k, s.t a < 128 → f_ty (ut (s.t a)) k = 3 → (s.o a k = none ∧ e_v h (φ a) k = .null) ∨ ∃ b, s.o a k = some b ∧ e_v h (φ a) k = .ref (φ b) ∧ 100 ≤ s.t b ∧ s.t b < 108 := R_.2.2.2.2.2.2.2.2.2
/-- what never changes: 0 the first system is made, 1 both, 2 the law's own array, too -/
abbrev sS (m : Nat) (s : fS) : Prop :=
  (∀ a, a < f_lim m → s.t a = f_T.getD a 0) ∧
  (s.t 1000288 = 100 ∨ (m = 0 ∧ 128 ≤ s.t 1000288)) ∧
  (∀ a, a < f_lim m → 100 ≤ f_T.getD a 0 → a ∉ f_G → s.n a = f_N.getD a 0) ∧
  (∀ a k b, a < f_lim m → f_O a k = some b → s.o a k = some b) ∧
  (∀ g, g ∈ f_G → ∀ a k, s.o a k = some g → (a, k) = f_W g) ∧
  (∀ a, s.t a = 33 → a = 170 ∨ a = 172 ∨ a = 174 ∨ a = 186 ∨ a = 188) ∧
  (f_lim m ≤ s.c)
theorem sS.t {m : Nat} {s : fS} (R_ : sS m s) : ∀ a, a < f_lim m → s.t a = f_T.getD a 0 := R_.1
theorem sS.p {m : Nat} {s : fS} (R_ : sS m s) : s.t 1000288 = 100 ∨ (m = 0 ∧ 128 ≤ s.t 1000288) := R_.2.1
theorem sS.n {m : Nat} {s : fS} (R_ : sS m s) : ∀ a, a < f_lim m → 100 ≤ f_T.getD a 0 → a ∉ f_G → s.n a = f_N.getD a 0 := R_.2.2.1
theorem sS.o {m : Nat} {s : fS} (R_ : sS m s) : ∀ a k b, a < f_lim m → f_O a k = some b → s.o a k = some b := R_.2.2.2.1
theorem sS.w {m : Nat} {s : fS} (R_ : sS m s) : ∀ g, g ∈ f_G → ∀ a k, s.o a k = some g → (a, k) = f_W g := R_.2.2.2.2.1
theorem sS.l {m : Nat} {s : fS} (R_ : sS m s) : ∀ a, s.t a = 33 → a = 170 ∨ a = 172 ∨ a = 174 ∨ a = 186 ∨ a = 188 := R_.2.2.2.2.2.1
theorem sS.c {m : Nat} {s : fS} (R_ : sS m s) : f_lim m ≤ s.c := R_.2.2.2.2.2.2
/-- which arrays may move at a level -/
def f_mv (b a : Nat) : Bool := match b with
  | 0 => false
  | 1 => f_G.contains a && a != 37 && a != 31
  | 2 => f_G.contains a && a != 37
  | _ => f_G.contains a
theorem f_mv_mono {b c a : Nat} (h : c ≤ b) (hb : f_mv b a = false) : f_mv c a = false := by
  unfold f_mv at hb ⊢
  match b, c, h with
  | 0, 0, _ => rfl
  | 1, 0, _ => rfl
  | 1, 1, _ => exact hb
  | 2, 0, _ => rfl
  | 2, 1, _ => simp at hb ⊢; intro h1; exact fun h2 => absurd (hb h1) h2
  | 2, 2, _ => exact hb
  | n + 3, 0, _ => rfl
  | n + 3, 1, _ => simp at hb ⊢; intro h1; exact absurd h1 hb
  | n + 3, 2, _ => simp at hb ⊢; intro h1; exact absurd h1 hb
  | n + 3, k + 3, _ => exact hb
theorem f_mv_no {b a : Nat} (h : a ∉ f_G) : f_mv b a = false := by
  unfold f_mv; split <;> simp [h]
abbrev fE (b : Nat) (φ : Nat → Nat) (s : fS) (ψ : Nat → Nat) (s' : fS) : Prop :=
  (∀ a, s.t a < 108 → s'.t a = s.t a) ∧
  (∀ a, s.t a < 108 → f_mv b a = false → ψ a = φ a) ∧
  (s.c ≤ s'.c) ∧
  (b = 0 → ∀ a, s.t a < 128 → ψ a = φ a ∧ s'.t a = s.t a)
theorem fE.t {b : Nat} {φ : Nat → Nat} {s : fS} {ψ : Nat → Nat} {s' : fS} (R_ : fE b φ s ψ s') : ∀ a, s.t a < 108 → s'.t a = s.t a := R_.1
theorem fE.k {b : Nat} {φ : Nat → Nat} {s : fS} {ψ : Nat → Nat} {s' : fS} (R_ : fE b φ s ψ s') : ∀ a, s.t a < 108 → f_mv b a = false → ψ a = φ a := R_.2.1
theorem fE.c {b : Nat} {φ : Nat → Nat} {s : fS} {ψ : Nat → Nat} {s' : fS} (R_ : fE b φ s ψ s') : s.c ≤ s'.c := R_.2.2.1
theorem fE.k0 {b : Nat} {φ : Nat → Nat} {s : fS} {ψ : Nat → Nat} {s' : fS} (R_ : fE b φ s ψ s') : b = 0 → ∀ a, s.t a < 128 → ψ a = φ a ∧ s'.t a = s.t a := R_.2.2.2
theorem fE.rf (b : Nat) (φ : Nat → Nat) (s : fS) : fE b φ s φ s := ⟨fun _ _ => rfl, fun _ _ _ => rfl, Nat.le_refl _, fun _ _ _ => ⟨rfl, rfl⟩⟩
theorem fE.tr {b c : Nat} {φ ψ χ : Nat → Nat} {s s' s'' : fS} (h : fE b φ s ψ s') (hc : c ≤ b) (k : fE c ψ s' χ s'') : fE b φ s χ s'' :=
  ⟨fun a ha => by rw [k.t a (by rw [h.t a ha]; exact ha), h.t a ha], fun a ha hw => by
    rw [k.k a (by rw [h.t a ha]; exact ha) (f_mv_mono hc hw), h.k a ha hw], Nat.le_trans h.c k.c, fun e a ha => by
    have h1 := h.k0 e a ha
    have h2 := k.k0 (by omega) a (by rw [h1.2]; exact ha)
    exact ⟨h2.1.trans h1.1, h2.2.trans h1.2⟩⟩
abbrev fC (m b : Nat) (φ0 : Nat → Nat) (s0 : fS) (φ : Nat → Nat) (h : eH) (s : fS) : Prop :=
  (fR φ h s) ∧
  (sS m s) ∧
  (fE b φ0 s0 φ s)
theorem fC.R {m b : Nat} {φ0 : Nat → Nat} {s0 : fS} {φ : Nat → Nat} {h : eH} {s : fS} (R_ : fC m b φ0 s0 φ h s) : fR φ h s := R_.1
theorem fC.S {m b : Nat} {φ0 : Nat → Nat} {s0 : fS} {φ : Nat → Nat} {h : eH} {s : fS} (R_ : fC m b φ0 s0 φ h s) : sS m s := R_.2.1
theorem fC.E {m b : Nat} {φ0 : Nat → Nat} {s0 : fS} {φ : Nat → Nat} {h : eH} {s : fS} (R_ : fC m b φ0 s0 φ h s) : fE b φ0 s0 φ s := R_.2.2
/-- what a function answers in the heap, told by what its form over the store answers -/
def gG {α β : Type} (m b : Nat) (φ0 : Nat → Nat) (s0 : fS) (rel : (Nat → Nat) → fS → α → β → Prop) (q : β × fS) (o : Option (α × eH)) : Prop :=
  ∃ ψ r h', o = some (r, h') ∧ fC m b φ0 s0 ψ h' q.2 ∧ rel ψ q.2 r q.1
def lU (_ : Nat → Nat) (_ : fS) (_ : Unit) (_ : Unit) : Prop := True
def lI (_ : Nat → Nat) (_ : fS) (x : Int32) (y : Int) : Prop := x = iI y ∧ r32 y
def lJ (_ : Nat → Nat) (_ : fS) (x : Int64) (y : Int) : Prop := x = iJ y ∧ r64 y
def lO (_ : Nat → Nat) (_ : fS) (x : Nat) (y : Nat) : Prop := x = y
def lA (ψ : Nat → Nat) (_ : fS) (x : Nat) (y : Nat) : Prop := x = ψ y
def lT {α β : Type} (rel : (Nat → Nat) → fS → α → β → Prop) (ψ : Nat → Nat) (s : fS) (x : α ⊕ Nat) (y : β ⊕ Nat) : Prop := match x, y with
  | .inl x, .inl y => rel ψ s x y
  | .inr x, .inr y => x = y ∧ s.t x < 128 ∧ s.t x < 100
  | _, _ => False
section
variable {α β : Type} {m b : Nat} {φ0 φ : Nat → Nat} {s0 s : fS} {h : eH} {rel : (Nat → Nat) → fS → α → β → Prop} {q : β × fS}
theorem fC.rf (R : fC m b φ0 s0 φ h s) {c : Nat} : fC m c φ s φ h s := ⟨R.R, R.S, fE.rf _ _ _⟩
theorem fC.then_ (R : fC m b φ0 s0 φ h s) {c : Nat} {ψ : Nat → Nat} {h' : eH} {s' : fS} (hc : c ≤ b) (R' : fC m c φ s ψ h' s') : fC m b φ0 s0 ψ h' s' := ⟨R'.R, R'.S, R.E.tr hc R'.E⟩
theorem sS.g (S : sS m s) {a : Nat} (ha : s.t a < 100) : a ∉ f_G := fun hg => by
  rcases f_G_lt a hg with e | ⟨e, e2, e3⟩
  · subst e; rcases S.p with h | h <;> omega
  · have := S.t a (Nat.lt_of_lt_of_le e (f_lim_le m)); omega
theorem fC.ob (R : fC m b φ0 s0 φ h s) {a : Nat} (ha : s.t a < 100) : φ a = a := R.R.lo a (by omega) (R.S.g ha)
theorem fC.ri (R : fC m b φ0 s0 φ h s) {a c k : Nat} (ht : s.t a = c) (hc : c < 128) (hy : f_ty (ut c) k = 0) : r32 (s.i a k) := (R.R.vi a k (by omega) (by rw [ht]; exact hy)).2
theorem fC.rj (R : fC m b φ0 s0 φ h s) {a c k : Nat} (ht : s.t a = c) (hc : c < 128) (hy : f_ty (ut c) k = 1) : r64 (s.j a k) := (R.R.vj a k (by omega) (by rw [ht]; exact hy)).2
theorem fC.rn (R : fC m b φ0 s0 φ h s) {a : Nat} (h1 : 100 ≤ s.t a) (h2 : s.t a < 128) : r32 (s.n a) := ⟨by omega, by have := (R.R.ln a h1 h2).2; omega⟩
theorem ut_lo {c : Nat} (h : c < 110) : ut c = c := if_neg (by omega)
theorem s_gI {a c k : Nat} {k' : Int32 → Option (α × eH)} (R : fC m b φ0 s0 φ h s) (ht : s.t a = c) (hc : c < 100) (hy : f_ty c k = 0) (kk : gG m b φ0 s0 rel q (k' (iI (s.i a k)))) : gG m b φ0 s0 rel q ((g_I c h a k).bind k') := by
  have e := R.ob (a := a) (by omega)
  have h1 := R.R.al a (by omega)
  have h2 := R.R.vi a k (by omega) (by rw [ht, ut_lo (by omega)]; exact hy)
  rw [e] at h1 h2
  rw [ht, ut_lo (by omega)] at h1
  have : g_I c h a k = some (iI (s.i a k)) := by unfold g_I g_V; rw [if_pos ⟨h1.2.1, h1.2.2⟩, h2.1]; rfl
  rw [this]; exact kk
theorem s_gJ {a c k : Nat} {k' : Int64 → Option (α × eH)} (R : fC m b φ0 s0 φ h s) (ht : s.t a = c) (hc : c < 100) (hy : f_ty c k = 1) (kk : gG m b φ0 s0 rel q (k' (iJ (s.j a k)))) : gG m b φ0 s0 rel q ((g_J c h a k).bind k') := by
  have e := R.ob (a := a) (by omega)
  have h1 := R.R.al a (by omega)
  have h2 := R.R.vj a k (by omega) (by rw [ht, ut_lo (by omega)]; exact hy)
  rw [e] at h1 h2
  rw [ht, ut_lo (by omega)] at h1
  have : g_J c h a k = some (iJ (s.j a k)) := by unfold g_J g_V; rw [if_pos ⟨h1.2.1, h1.2.2⟩, h2.1]; rfl
  rw [this]; exact kk
/-- a reference to an object -/
theorem s_gO {a c k x : Nat} {k' : Nat → Option (α × eH)} (R : fC m b φ0 s0 φ h s) (ht : s.t a = c) (hc : c < 100) (hy : f_ty c k = 2) (hx : s.o a k = some x) (kk : gG m b φ0 s0 rel q (k' x)) : gG m b φ0 s0 rel q ((g_A c h a k).bind k') := by
  have e := R.ob (a := a) (by omega)
  have h1 := R.R.al a (by omega)
  have h2 := R.R.vo a k (by omega) (by rw [ht, ut_lo (by omega)]; exact hy)
  rw [e] at h1 h2
  rw [ht, ut_lo (by omega)] at h1
  rw [hx] at h2
  rcases h2 with h2 | ⟨y, h2, h3, _⟩
  · exact absurd h2.1 (by simp)
  · cases h2
    have : g_A c h a k = some x := by unfold g_A g_V; rw [if_pos ⟨h1.2.1, h1.2.2⟩, h3]; rfl
    rw [this]; exact kk
/-- a reference to an array -/
theorem s_gA {a c k x : Nat} {k' : Nat → Option (α × eH)} (R : fC m b φ0 s0 φ h s) (ht : s.t a = c) (hc : c < 100) (hy : f_ty c k = 3) (hx : s.o a k = some x) (kk : 100 ≤ s.t x → s.t x < 108 → gG m b φ0 s0 rel q (k' (φ x))) : gG m b φ0 s0 rel q ((g_A c h a k).bind k') := by
  have e := R.ob (a := a) (by omega)
  have h1 := R.R.al a (by omega)
  have h2 := R.R.va a k (by omega) (by rw [ht, ut_lo (by omega)]; exact hy)
  rw [e] at h1 h2
  rw [ht, ut_lo (by omega)] at h1
  rw [hx] at h2
  rcases h2 with h2 | ⟨y, h2, h3, h4⟩
  · exact absurd h2.1 (by simp)
  · cases h2
    have : g_A c h a k = some (φ x) := by unfold g_A g_V; rw [if_pos ⟨h1.2.1, h1.2.2⟩, h3]; rfl
    rw [this]; exact kk h4.1 h4.2
theorem s_kok {a c : Nat} {k' : Unit → Option (α × eH)} (R : fC m b φ0 s0 φ h s) (ht : s.t a = c) (hc : c < 100) (kk : gG m b φ0 s0 rel q (k' ())) : gG m b φ0 s0 rel q ((k_ok c h a).bind k') := by
  have e := R.ob (a := a) (by omega)
  have h1 := R.R.al a (by omega)
  rw [e, ht, ut_lo (by omega)] at h1
  have : k_ok c h a = some () := by unfold k_ok; rw [if_pos ⟨h1.2.1, h1.2.2⟩]
  rw [this]; exact kk
/-! checks over the store alone -/
theorem s_K {γ : Type} {c a : Nat} {K : Unit → Option γ} {r : γ} {P : Prop} (hF : (uK c s a).bind K = some r) (kk : s.t a = c → K () = some r → P) : P := by
  unfold uK at hF; split at hF
  · rename_i e; exact kk e hF
  · cases hF
theorem s_KA {γ : Type} {c a : Nat} {K : Unit → Option γ} {r : γ} {P : Prop} (hF : (uKA c s a).bind K = some r) (kk : s.t a < 128 → ut (s.t a) = c → K () = some r → P) : P := by
  unfold uKA at hF; split at hF
  · rename_i e; exact kk e.1 e.2 hF
  · cases hF
theorem s_KL {γ : Type} {a : Nat} {K : Unit → Option γ} {r : γ} {P : Prop} (hF : (uKL s a).bind K = some r) (kk : s.t a < 128 → 100 ≤ s.t a → K () = some r → P) : P := by
  unfold uKL at hF; split at hF
  · rename_i e; exact kk e.1 e.2 hF
  · cases hF
theorem s_oo {γ : Type} {a k : Nat} {K : Nat → Option γ} {r : γ} {P : Prop} (hF : (s.o a k).bind K = some r) (kk : ∀ x, s.o a k = some x → K x = some r → P) : P := by
  obtain ⟨x, h1, h2⟩ := Option.bind_eq_some_iff.mp hF
  exact kk x h1 h2
/-! writes -/
theorem e_k_set (h : eH) (a i : Nat) (v : Value) (x : Nat) : e_k (e_set h a i v) x = e_k h x := by unfold e_k e_set; by_cases e : x = a <;> simp [e, e_k]
theorem e_n_set (h : eH) (a i : Nat) (v : Value) (x : Nat) : e_n (e_set h a i v) x = e_n h x := by unfold e_n e_set; by_cases e : x = a <;> simp [e, e_n]
theorem e_t_set (h : eH) (a i : Nat) (v : Value) (x : Nat) : e_t (e_set h a i v) x = e_t h x := by unfold e_t; rw [e_k_set]
theorem e_v_set (h : eH) (a i : Nat) (v : Value) (x y : Nat) : e_v (e_set h a i v) x y = if x = a ∧ y = i then v else e_v h x y := by
  unfold e_v e_set
  by_cases e : x = a
  · subst e; by_cases e2 : y = i <;> simp [e2, e_v]
  · simp [e]
theorem fS.pI_i (s : fS) (a k : Nat) (v : Int) (x y : Nat) : (s.pI a k v).i x y = if x = a ∧ y = k then v else s.i x y := by
  show (if x = a then _ else _ : Nat → Int) y = _
  by_cases e : x = a
  · subst e; by_cases e2 : y = k <;> simp [e2]
  · simp [e]
theorem fS.pJ_j (s : fS) (a k : Nat) (v : Int) (x y : Nat) : (s.pJ a k v).j x y = if x = a ∧ y = k then v else s.j x y := by
  show (if x = a then _ else _ : Nat → Int) y = _
  by_cases e : x = a
  · subst e; by_cases e2 : y = k <;> simp [e2]
  · simp [e]
theorem fS.pO_o (s : fS) (a k : Nat) (v : Option Nat) (x y : Nat) : (s.pO a k v).o x y = if x = a ∧ y = k then v else s.o x y := by
  show (if x = a then _ else _ : Nat → Option Nat) y = _
  by_cases e : x = a
  · subst e; by_cases e2 : y = k <;> simp [e2]
  · simp [e]
theorem fR.pI (R : fR φ h s) {a k : Nat} {v : Int} (ha : s.t a < 128) (hy : f_ty (ut (s.t a)) k = 0) (hv : r32 v) : fR φ (e_set h (φ a) k (.int (iI v))) (s.pI a k v) := by
  refine ⟨?_, ?_, ?_, ?_, ?_, ?_, ?_, ?_, ?_, ?_⟩
  · exact R.c
  · exact R.z
  · exact fun x hx => ⟨(R.al x hx).1, (R.al x hx).2.1, by rw [e_t_set]; exact (R.al x hx).2.2⟩
  · exact R.lo
  · intro x h1 h2; rw [e_n_set]; exact R.ln x h1 h2
  · exact R.ij
  · intro x y hx hy'
    rw [e_v_set, fS.pI_i]
    by_cases e : x = a ∧ y = k
    · rw [if_pos e, if_pos ⟨by rw [e.1], e.2⟩]; exact ⟨rfl, hv⟩
    · rw [if_neg e, if_neg (fun w => e ⟨R.ij x a hx ha w.1, w.2⟩)]; exact R.vi x y hx hy'
  · intro x y hx hy'
    rw [e_v_set, if_neg]
    · exact R.vj x y hx hy'
    · intro w; have := R.ij x a hx ha w.1; subst this; rw [w.2] at hy'; exact absurd (hy.symm.trans hy') (by decide)
  · intro x y hx hy'
    rw [e_v_set, if_neg]
    · exact R.vo x y hx hy'
    · intro w; have := R.ij x a hx ha w.1; subst this; rw [w.2] at hy'; exact absurd (hy.symm.trans hy') (by decide)
  · intro x y hx hy'
    rw [e_v_set, if_neg]
    · exact R.va x y hx hy'
    · intro w; have := R.ij x a hx ha w.1; subst this; rw [w.2] at hy'; exact absurd (hy.symm.trans hy') (by decide)
theorem fR.pJ (R : fR φ h s) {a k : Nat} {v : Int} (ha : s.t a < 128) (hy : f_ty (ut (s.t a)) k = 1) (hv : r64 v) : fR φ (e_set h (φ a) k (.long (iJ v))) (s.pJ a k v) := by
  refine ⟨?_, ?_, ?_, ?_, ?_, ?_, ?_, ?_, ?_, ?_⟩
  · exact R.c
  · exact R.z
  · exact fun x hx => ⟨(R.al x hx).1, (R.al x hx).2.1, by rw [e_t_set]; exact (R.al x hx).2.2⟩
  · exact R.lo
  · intro x h1 h2; rw [e_n_set]; exact R.ln x h1 h2
  · exact R.ij
  · intro x y hx hy'
    rw [e_v_set, if_neg]
    · exact R.vi x y hx hy'
    · intro w; have := R.ij x a hx ha w.1; subst this; rw [w.2] at hy'; exact absurd (hy.symm.trans hy') (by decide)
  · intro x y hx hy'
    rw [e_v_set, fS.pJ_j]
    by_cases e : x = a ∧ y = k
    · rw [if_pos e, if_pos ⟨by rw [e.1], e.2⟩]; exact ⟨rfl, hv⟩
    · rw [if_neg e, if_neg (fun w => e ⟨R.ij x a hx ha w.1, w.2⟩)]; exact R.vj x y hx hy'
  · intro x y hx hy'
    rw [e_v_set, if_neg]
    · exact R.vo x y hx hy'
    · intro w; have := R.ij x a hx ha w.1; subst this; rw [w.2] at hy'; exact absurd (hy.symm.trans hy') (by decide)
  · intro x y hx hy'
    rw [e_v_set, if_neg]
    · exact R.va x y hx hy'
    · intro w; have := R.ij x a hx ha w.1; subst this; rw [w.2] at hy'; exact absurd (hy.symm.trans hy') (by decide)
/-- a reference to an object is written -/
theorem fR.pO (R : fR φ h s) {a k x0 : Nat} (ha : s.t a < 128) (hy : f_ty (ut (s.t a)) k = 2) (hb : s.t x0 < 100) : fR φ (e_set h (φ a) k (.ref x0)) (s.pO a k (some x0)) := by
  refine ⟨?_, ?_, ?_, ?_, ?_, ?_, ?_, ?_, ?_, ?_⟩
  · exact R.c
  · exact R.z
  · exact fun x hx => ⟨(R.al x hx).1, (R.al x hx).2.1, by rw [e_t_set]; exact (R.al x hx).2.2⟩
  · exact R.lo
  · intro x h1 h2; rw [e_n_set]; exact R.ln x h1 h2
  · exact R.ij
  · intro x y hx hy'
    rw [e_v_set, if_neg]
    · exact R.vi x y hx hy'
    · intro w; have := R.ij x a hx ha w.1; subst this; rw [w.2] at hy'; exact absurd (hy.symm.trans hy') (by decide)
  · intro x y hx hy'
    rw [e_v_set, if_neg]
    · exact R.vj x y hx hy'
    · intro w; have := R.ij x a hx ha w.1; subst this; rw [w.2] at hy'; exact absurd (hy.symm.trans hy') (by decide)
  · intro x y hx hy'
    rw [e_v_set, fS.pO_o]
    by_cases e : x = a ∧ y = k
    · rw [if_pos e, if_pos ⟨by rw [e.1], e.2⟩]; exact Or.inr ⟨x0, rfl, rfl, hb⟩
    · rw [if_neg e, if_neg (fun w => e ⟨R.ij x a hx ha w.1, w.2⟩)]; exact R.vo x y hx hy'
  · intro x y hx hy'
    rw [e_v_set, fS.pO_o]
    by_cases e : x = a ∧ y = k
    · rw [e.1, e.2] at hy'; exact absurd (hy.symm.trans hy') (by decide)
    · rw [if_neg e, if_neg (fun w => e ⟨R.ij x a hx ha w.1, w.2⟩)]; exact R.va x y hx hy'
/-- a reference to an array is written -/
theorem fR.pA (R : fR φ h s) {a k x0 : Nat} (ha : s.t a < 128) (hy : f_ty (ut (s.t a)) k = 3) (hb : 100 ≤ s.t x0) (hb2 : s.t x0 < 108) : fR φ (e_set h (φ a) k (.ref (φ x0))) (s.pO a k (some x0)) := by
  refine ⟨?_, ?_, ?_, ?_, ?_, ?_, ?_, ?_, ?_, ?_⟩
  · exact R.c
  · exact R.z
  · exact fun x hx => ⟨(R.al x hx).1, (R.al x hx).2.1, by rw [e_t_set]; exact (R.al x hx).2.2⟩
  · exact R.lo
  · intro x h1 h2; rw [e_n_set]; exact R.ln x h1 h2
  · exact R.ij
  · intro x y hx hy'
    rw [e_v_set, if_neg]
    · exact R.vi x y hx hy'
    · intro w; have := R.ij x a hx ha w.1; subst this; rw [w.2] at hy'; exact absurd (hy.symm.trans hy') (by decide)
  · intro x y hx hy'
    rw [e_v_set, if_neg]
    · exact R.vj x y hx hy'
    · intro w; have := R.ij x a hx ha w.1; subst this; rw [w.2] at hy'; exact absurd (hy.symm.trans hy') (by decide)
  · intro x y hx hy'
    rw [e_v_set, fS.pO_o]
    by_cases e : x = a ∧ y = k
    · rw [e.1, e.2] at hy'; exact absurd (hy.symm.trans hy') (by decide)
    · rw [if_neg e, if_neg (fun w => e ⟨R.ij x a hx ha w.1, w.2⟩)]; exact R.vo x y hx hy'
  · intro x y hx hy'
    rw [e_v_set, fS.pO_o]
    by_cases e : x = a ∧ y = k
    · rw [if_pos e, if_pos ⟨by rw [e.1], e.2⟩]; exact Or.inr ⟨x0, rfl, rfl, hb, hb2⟩
    · rw [if_neg e, if_neg (fun w => e ⟨R.ij x a hx ha w.1, w.2⟩)]; exact R.va x y hx hy'
end
section
variable {α β : Type} {m b : Nat} {φ0 φ : Nat → Nat} {s0 s : fS} {h : eH} {rel : (Nat → Nat) → fS → α → β → Prop} {q : β × fS}
theorem sS.pI (S : sS m s) (a k : Nat) (v : Int) : sS m (s.pI a k v) := ⟨S.t, S.p, S.n, S.o, S.w, S.l, S.c⟩
theorem sS.pJ (S : sS m s) (a k : Nat) (v : Int) : sS m (s.pJ a k v) := ⟨S.t, S.p, S.n, S.o, S.w, S.l, S.c⟩
theorem sS.pO (S : sS m s) {a k x : Nat} (h1 : a < f_lim m → f_O a k = none) (h2 : x ∉ f_G) : sS m (s.pO a k (some x)) := by
  refine ⟨?_, ?_, ?_, ?_, ?_, ?_, ?_⟩
  · exact S.t
  · exact S.p
  · exact S.n
  · intro a' k' b' ha hb
    rw [fS.pO_o, if_neg]
    · exact S.o a' k' b' ha hb
    · intro w; rw [w.1, w.2, h1 (w.1 ▸ ha)] at hb; simp at hb
  · intro g hg a' k' e
    rw [fS.pO_o] at e
    by_cases w : a' = a ∧ k' = k
    · rw [if_pos w] at e; cases e; exact absurd hg h2
    · rw [if_neg w] at e; exact S.w g hg a' k' e
  · exact S.l
  · exact S.c
theorem fC.pI (R : fC m b φ0 s0 φ h s) {a k : Nat} {v : Int} (ha : s.t a < 128) (hy : f_ty (ut (s.t a)) k = 0) (hv : r32 v) : fC m b φ0 s0 φ (e_set h (φ a) k (.int (iI v))) (s.pI a k v) := ⟨R.R.pI ha hy hv, R.S.pI _ _ _, ⟨R.E.t, R.E.k, R.E.c, R.E.k0⟩⟩
theorem fC.pJ (R : fC m b φ0 s0 φ h s) {a k : Nat} {v : Int} (ha : s.t a < 128) (hy : f_ty (ut (s.t a)) k = 1) (hv : r64 v) : fC m b φ0 s0 φ (e_set h (φ a) k (.long (iJ v))) (s.pJ a k v) := ⟨R.R.pJ ha hy hv, R.S.pJ _ _ _, ⟨R.E.t, R.E.k, R.E.c, R.E.k0⟩⟩
theorem fC.pO (R : fC m b φ0 s0 φ h s) {a k x0 : Nat} (ha : s.t a < 128) (hy : f_ty (ut (s.t a)) k = 2) (hb : s.t x0 < 100) (h1 : a < f_lim m → f_O a k = none) : fC m b φ0 s0 φ (e_set h (φ a) k (.ref x0)) (s.pO a k (some x0)) := ⟨R.R.pO ha hy hb, R.S.pO h1 (R.S.g hb), ⟨R.E.t, R.E.k, R.E.c, R.E.k0⟩⟩
theorem fC.pA (R : fC m b φ0 s0 φ h s) {a k x0 : Nat} (ha : s.t a < 128) (hy : f_ty (ut (s.t a)) k = 3) (hb : 100 ≤ s.t x0) (hb2 : s.t x0 < 108) (h1 : a < f_lim m → f_O a k = none) (h2 : x0 ∉ f_G) : fC m b φ0 s0 φ (e_set h (φ a) k (.ref (φ x0))) (s.pO a k (some x0)) := ⟨R.R.pA ha hy hb hb2, R.S.pO h1 h2, ⟨R.E.t, R.E.k, R.E.c, R.E.k0⟩⟩
theorem fC.ot (R : fC m b φ0 s0 φ h s) {a c : Nat} (ht : s.t a = c) (hc : c < 100) : a < h.1 ∧ e_t h a = c := by
  have h1 := R.R.al a (by omega)
  rw [R.ob (by omega), ht, ut_lo (by omega)] at h1
  exact h1.2
theorem s_pI {a c k : Nat} {x' : Int32} {v : Int} {k' : eH → Option (α × eH)} {K : fS → Option (β × fS)} (R : fC m b φ0 s0 φ h s) (ht : s.t a = c) (hc : c < 100) (hy : f_ty c k = 0) (hv : x' = iI v) (rv : r32 v) (hF : (uPI s a k v).bind K = some q) (kk : ∀ h' s', fC m b φ0 s0 φ h' s' → s'.t = s.t → K s' = some q → gG m b φ0 s0 rel q (k' h')) : gG m b φ0 s0 rel q ((p_V c h a k (.int x')).bind k') := by
  have h1 := R.ot ht hc
  have R' := R.pI (a := a) (k := k) (v := v) (by omega) (by rw [ht, ut_lo (by omega)]; exact hy) rv
  rw [R.ob (by omega)] at R'
  subst hv
  have : p_V c h a k (.int (iI v)) = some (e_set h a k (.int (iI v))) := by unfold p_V; rw [if_pos h1]
  rw [this]; exact kk _ _ R' rfl hF
theorem s_pJ {a c k : Nat} {x' : Int64} {v : Int} {k' : eH → Option (α × eH)} {K : fS → Option (β × fS)} (R : fC m b φ0 s0 φ h s) (ht : s.t a = c) (hc : c < 100) (hy : f_ty c k = 1) (hv : x' = iJ v) (rv : r64 v) (hF : (uPJ s a k v).bind K = some q) (kk : ∀ h' s', fC m b φ0 s0 φ h' s' → s'.t = s.t → K s' = some q → gG m b φ0 s0 rel q (k' h')) : gG m b φ0 s0 rel q ((p_V c h a k (.long x')).bind k') := by
  have h1 := R.ot ht hc
  have R' := R.pJ (a := a) (k := k) (v := v) (by omega) (by rw [ht, ut_lo (by omega)]; exact hy) rv
  rw [R.ob (by omega)] at R'
  subst hv
  have : p_V c h a k (.long (iJ v)) = some (e_set h a k (.long (iJ v))) := by unfold p_V; rw [if_pos h1]
  rw [this]; exact kk _ _ R' rfl hF
theorem z01 {x' : Int32} {v : Int} (hv : x' = iI v) (h : v = 0 ∨ v = 1) : x' = 0 ∨ x' = 1 := by
  rcases h with e | e
  · subst e; exact Or.inl hv
  · subst e; exact Or.inr hv
theorem s_pZ {a c k : Nat} {x' : Int32} {v : Int} {k' : eH → Option (α × eH)} {K : fS → Option (β × fS)} (R : fC m b φ0 s0 φ h s) (ht : s.t a = c) (hc : c < 100) (hy : f_ty c k = 0) (hv : x' = iI v) (rv : r32 v) (hF : (uPZ s a k v).bind K = some q) (kk : ∀ h' s', fC m b φ0 s0 φ h' s' → s'.t = s.t → K s' = some q → gG m b φ0 s0 rel q (k' h')) : gG m b φ0 s0 rel q ((p_Z c h a k x').bind k') := by
  have h1 := R.ot ht hc
  have R' := R.pI (a := a) (k := k) (v := v) (by omega) (by rw [ht, ut_lo (by omega)]; exact hy) rv
  rw [R.ob (by omega)] at R'
  unfold uPZ at hF; split at hF
  · rename_i e
    have : p_Z c h a k x' = some (e_set h a k (.int (iI v))) := by unfold p_Z; rw [if_pos ⟨h1, z01 hv e⟩, hv]
    rw [this]; exact kk _ _ R' rfl hF
  · cases hF
/-- a dynamic reference to an object -/
theorem s_pO {a c k x : Nat} {k' : eH → Option (α × eH)} {K : fS → Option (β × fS)} (R : fC m b φ0 s0 φ h s) (ht : s.t a = c) (hc : c < 100) (hy : f_ty c k = 2) (hx : s.t x < 100) (h1 : a < f_lim m → f_O a k = none) (hF : (uPO s a k x).bind K = some q) (kk : ∀ h' s', fC m b φ0 s0 φ h' s' → s'.t = s.t → K s' = some q → gG m b φ0 s0 rel q (k' h')) : gG m b φ0 s0 rel q ((p_V c h a k (.ref x)).bind k') := by
  have h2 := R.ot ht hc
  have R' := R.pO (a := a) (k := k) (x0 := x) (by omega) (by rw [ht, ut_lo (by omega)]; exact hy) hx h1
  rw [R.ob (a := a) (by omega)] at R'
  have : p_V c h a k (.ref x) = some (e_set h a k (.ref x)) := by unfold p_V; rw [if_pos h2]
  rw [this]; exact kk _ _ R' rfl hF
theorem s_pA {a c k x p : Nat} {k' : eH → Option (α × eH)} {K : fS → Option (β × fS)} (R : fC m b φ0 s0 φ h s) (ht : s.t a = c) (hc : c < 100) (hy : f_ty c k = 3) (hp : p = φ x) (hx : 100 ≤ s.t x) (hx2 : s.t x < 108) (h1 : a < f_lim m → f_O a k = none) (hg : x ∉ f_G) (hF : (uPO s a k x).bind K = some q) (kk : ∀ h' s', fC m b φ0 s0 φ h' s' → s'.t = s.t → K s' = some q → gG m b φ0 s0 rel q (k' h')) : gG m b φ0 s0 rel q ((p_V c h a k (.ref p)).bind k') := by
  have h2 := R.ot ht hc
  have R' := R.pA (a := a) (k := k) (x0 := x) (by omega) (by rw [ht, ut_lo (by omega)]; exact hy) hx hx2 h1 hg
  rw [R.ob (a := a) (by omega)] at R'
  subst hp
  have : p_V c h a k (.ref (φ x)) = some (e_set h a k (.ref (φ x))) := by unfold p_V; rw [if_pos h2]
  rw [this]; exact kk _ _ R' rfl hF
/-- the first reference to an array, in a constructor -/
theorem s_pF {a c k x p : Nat} {k' : eH → Option (α × eH)} {K : fS → Option (β × fS)} (R : fC m b φ0 s0 φ h s) (ht : s.t a = c) (hc : c < 100) (hy : f_ty c k = 3) (hp : p = φ x) (hx : 100 ≤ s.t x) (hx2 : s.t x < 108) (hl : f_lim m ≤ a) (hg : x ∉ f_G) (hF : (uPF s a k x).bind K = some q) (kk : ∀ h' s', fC m b φ0 s0 φ h' s' → s'.t = s.t → K s' = some q → gG m b φ0 s0 rel q (k' h')) : gG m b φ0 s0 rel q ((p_F c h a k (.ref p)).bind k') := by
  have h2 := R.ot ht hc
  have R' := R.pA (a := a) (k := k) (x0 := x) (by omega) (by rw [ht, ut_lo (by omega)]; exact hy) hx hx2 (fun w => absurd w (by omega)) hg
  have hv := R.R.va a k (by omega) (by rw [ht, ut_lo (by omega)]; exact hy)
  rw [R.ob (a := a) (by omega)] at R' hv
  subst hp
  unfold uPF at hF; split at hF
  · rename_i e
    rw [e] at hv
    have hn : e_v h a k = .null := by rcases hv with hv | ⟨_, hv, _⟩; exact hv.2; cases hv
    have : p_F c h a k (.ref (φ x)) = some (e_set h a k (.ref (φ x))) := by unfold p_F; rw [if_pos ⟨h2, by rw [hn]; rfl⟩]
    rw [this]; exact kk _ _ R' rfl hF
  · cases hF
/-! arrays -/
theorem cl {x : Int} (r : r32 x) (h : 0 ≤ x) : (iI x).toNatClampNeg = x.toNat := by
  show (iI x).toInt.toNat = x.toNat; rw [to_iI r]
theorem uR.ok {x : Int} {a : Nat} {i' : Int32} (hi : i' = iI x) (r : r32 x) (R : fR φ h s) (h1 : 100 ≤ s.t a) (h2 : s.t a < 128) (u : uR s a x) : (¬ i' < 0 ∧ i'.toNatClampNeg < e_n h (φ a)) ∧ i'.toNatClampNeg = x.toNat := by
  have h0 : (0 : Int32) = iI 0 := rfl
  have e : i'.toNatClampNeg = x.toNat := by rw [hi]; exact cl r u.1
  exact ⟨⟨fun w => absurd ((i_lt hi h0 r ⟨by decide, by decide⟩).mp w) (by have := u.1; omega), by rw [e, (R.ln a h1 h2).1]; exact u.2⟩, e⟩
theorem s_rI {a c p : Nat} {i' : Int32} {x : Int} {k' : Int32 → Option (α × eH)} {K : Int → Option (β × fS)} (R : fC m b φ0 s0 φ h s) (ha : s.t a < 128) (ht : ut (s.t a) = c) (hc : c = 100 ∨ c = 102 ∨ c = 103) (hp : p = φ a) (hi : i' = iI x) (rx : r32 x) (hF : (uRI s a x).bind K = some q) (kk : ∀ y, r32 y → K y = some q → gG m b φ0 s0 rel q (k' (iI y))) : gG m b φ0 s0 rel q ((r_I c h p i').bind k') := by
  unfold uRI at hF; split at hF
  · rename_i u
    have h100 : 100 ≤ s.t a := by unfold ut at ht; split at ht <;> omega
    have h1 := R.R.al a ha
    have ⟨h3, h4⟩ := uR.ok hi rx R.R h100 ha u
    have hv := R.R.vi a x.toNat ha (by rw [ht]; rcases hc with e | e | e <;> subst e <;> rfl)
    subst hp
    have : r_I c h (φ a) i' = some (iI (s.i a x.toNat)) := by unfold r_I r_V; rw [if_pos ⟨⟨h1.2.1, h1.2.2.trans ht⟩, h3⟩, h4, hv.1]; rfl
    rw [this]; exact kk _ hv.2 hF
  · cases hF
theorem s_rJ {a p : Nat} {i' : Int32} {x : Int} {k' : Int64 → Option (α × eH)} {K : Int → Option (β × fS)} (R : fC m b φ0 s0 φ h s) (ha : s.t a < 128) (ht : ut (s.t a) = 101) (hp : p = φ a) (hi : i' = iI x) (rx : r32 x) (hF : (uRJ s a x).bind K = some q) (kk : ∀ y, r64 y → K y = some q → gG m b φ0 s0 rel q (k' (iJ y))) : gG m b φ0 s0 rel q ((r_J h p i').bind k') := by
  unfold uRJ at hF; split at hF
  · rename_i u
    have h100 : 100 ≤ s.t a := by unfold ut at ht; split at ht <;> omega
    have h1 := R.R.al a ha
    have ⟨h3, h4⟩ := uR.ok hi rx R.R h100 ha u
    have hv := R.R.vj a x.toNat ha (by rw [ht]; rfl)
    subst hp
    have : r_J h (φ a) i' = some (iJ (s.j a x.toNat)) := by unfold r_J r_V; rw [if_pos ⟨⟨h1.2.1, h1.2.2.trans ht⟩, h3⟩, h4, hv.1]; rfl
    rw [this]; exact kk _ hv.2 hF
  · cases hF
theorem s_rO {a c p : Nat} {i' : Int32} {x : Int} {k' : Nat → Option (α × eH)} {K : Nat → Option (β × fS)} (R : fC m b φ0 s0 φ h s) (ha : s.t a < 128) (ht : ut (s.t a) = c) (hc : f_ty c 0 = 2) (hc2 : ∀ k, f_ty c k = f_ty c 0) (hc3 : 100 ≤ c) (hp : p = φ a) (hi : i' = iI x) (rx : r32 x) (hF : (uRO s a x).bind K = some q) (kk : ∀ y, s.t y < 100 → K y = some q → gG m b φ0 s0 rel q (k' y)) : gG m b φ0 s0 rel q ((r_A c h p i').bind k') := by
  unfold uRO at hF; split at hF
  · rename_i u
    have h100 : 100 ≤ s.t a := by unfold ut at ht; split at ht <;> omega
    have h1 := R.R.al a ha
    have ⟨h3, h4⟩ := uR.ok hi rx R.R h100 ha u
    have hv := R.R.vo a x.toNat ha (by rw [ht, hc2]; exact hc)
    subst hp
    obtain ⟨y, e1, e2⟩ := Option.bind_eq_some_iff.mp hF
    rw [e1] at hv
    rcases hv with hv | ⟨z, hz, hv, hv2⟩
    · cases hv.1
    · cases hz
      have : r_A c h (φ a) i' = some y := by unfold r_A r_V; rw [if_pos ⟨⟨h1.2.1, h1.2.2.trans ht⟩, h3⟩, h4, hv]; rfl
      rw [this]; exact kk _ hv2 e2
  · cases hF
theorem s_rQ {a c p : Nat} {i' : Int32} {x : Int} {k' : Option Nat → Option (α × eH)} {K : Option Nat → Option (β × fS)} (R : fC m b φ0 s0 φ h s) (ha : s.t a < 128) (ht : ut (s.t a) = c) (hc : f_ty c 0 = 2) (hc2 : ∀ k, f_ty c k = f_ty c 0) (hc3 : 100 ≤ c) (hp : p = φ a) (hi : i' = iI x) (rx : r32 x) (hF : (uRQ s a x).bind K = some q) (kk : ∀ y, (∀ z, y = some z → s.t z < 100) → K y = some q → gG m b φ0 s0 rel q (k' y)) : gG m b φ0 s0 rel q ((r_O c h p i').bind k') := by
  unfold uRQ at hF; split at hF
  · rename_i u
    have h100 : 100 ≤ s.t a := by unfold ut at ht; split at ht <;> omega
    have h1 := R.R.al a ha
    have ⟨h3, h4⟩ := uR.ok hi rx R.R h100 ha u
    have hv := R.R.vo a x.toNat ha (by rw [ht, hc2]; exact hc)
    subst hp
    rcases hv with hv | ⟨z, hz, hv, hv2⟩
    · have : r_O c h (φ a) i' = some (s.o a x.toNat) := by unfold r_O r_V; rw [if_pos ⟨⟨h1.2.1, h1.2.2.trans ht⟩, h3⟩, h4, hv.1, hv.2]; rfl
      rw [this]; exact kk _ (fun z hz => by rw [hv.1] at hz; cases hz) hF
    · have : r_O c h (φ a) i' = some (s.o a x.toNat) := by unfold r_O r_V; rw [if_pos ⟨⟨h1.2.1, h1.2.2.trans ht⟩, h3⟩, h4, hz, hv]; rfl
      rw [this]; exact kk _ (fun w hw => by rw [hz] at hw; cases hw; exact hv2) hF
  · cases hF
theorem s_qI {a c p : Nat} {i' v' : Int32} {x v : Int} {k' : eH → Option (α × eH)} {K : fS → Option (β × fS)} (R : fC m b φ0 s0 φ h s) (ha : s.t a < 128) (ht : ut (s.t a) = c) (hc : c = 100 ∨ c = 102 ∨ c = 103) (hp : p = φ a) (hi : i' = iI x) (rx : r32 x) (hv : v' = iI v) (rv : r32 v) (hF : (uQI s a x v).bind K = some q) (kk : ∀ h' s', fC m b φ0 s0 φ h' s' → s'.t = s.t → K s' = some q → gG m b φ0 s0 rel q (k' h')) : gG m b φ0 s0 rel q ((q_V c h p i' (.int v')).bind k') := by
  unfold uQI at hF; split at hF
  · rename_i u
    have h100 : 100 ≤ s.t a := by unfold ut at ht; split at ht <;> omega
    have h1 := R.R.al a ha
    have ⟨h3, h4⟩ := uR.ok hi rx R.R h100 ha u
    have R' := R.pI (a := a) (k := x.toNat) (v := v) ha (by rw [ht]; rcases hc with e | e | e <;> subst e <;> rfl) rv
    subst hp; subst hv
    have : q_V c h (φ a) i' (.int (iI v)) = some (e_set h (φ a) x.toNat (.int (iI v))) := by unfold q_V; rw [if_pos ⟨⟨h1.2.1, h1.2.2.trans ht⟩, h3⟩, h4]
    rw [this]; exact kk _ _ R' rfl hF
  · cases hF
theorem s_qJ {a p : Nat} {i' : Int32} {v' : Int64} {x v : Int} {k' : eH → Option (α × eH)} {K : fS → Option (β × fS)} (R : fC m b φ0 s0 φ h s) (ha : s.t a < 128) (ht : ut (s.t a) = 101) (hp : p = φ a) (hi : i' = iI x) (rx : r32 x) (hv : v' = iJ v) (rv : r64 v) (hF : (uQJ s a x v).bind K = some q) (kk : ∀ h' s', fC m b φ0 s0 φ h' s' → s'.t = s.t → K s' = some q → gG m b φ0 s0 rel q (k' h')) : gG m b φ0 s0 rel q ((q_V 101 h p i' (.long v')).bind k') := by
  unfold uQJ at hF; split at hF
  · rename_i u
    have h100 : 100 ≤ s.t a := by unfold ut at ht; split at ht <;> omega
    have h1 := R.R.al a ha
    have ⟨h3, h4⟩ := uR.ok hi rx R.R h100 ha u
    have R' := R.pJ (a := a) (k := x.toNat) (v := v) ha (by rw [ht]; rfl) rv
    subst hp; subst hv
    have : q_V 101 h (φ a) i' (.long (iJ v)) = some (e_set h (φ a) x.toNat (.long (iJ v))) := by unfold q_V; rw [if_pos ⟨⟨h1.2.1, h1.2.2.trans ht⟩, h3⟩, h4]
    rw [this]; exact kk _ _ R' rfl hF
  · cases hF
theorem f_O_arr {a k : Nat} (h : 100 ≤ f_T.getD a 0) : f_O a k = none := f_O_arr' a k h
theorem s_qO {a c cb p x0 : Nat} {i' : Int32} {x : Int} {k' : eH → Option (α × eH)} {K : fS → Option (β × fS)} (R : fC m b φ0 s0 φ h s) (ha : s.t a < 110) (ht : s.t a = c) (hc : f_ty c 0 = 2) (hc2 : ∀ k, f_ty c k = f_ty c 0) (hc3 : 100 ≤ c) (hp : p = φ a) (hi : i' = iI x) (rx : r32 x) (hx0 : s.t x0 = cb) (hcb : cb < 100) (hF : (uQO s a x x0).bind K = some q) (kk : ∀ h' s', fC m b φ0 s0 φ h' s' → s'.t = s.t → K s' = some q → gG m b φ0 s0 rel q (k' h')) : gG m b φ0 s0 rel q ((q_A c cb h p i' x0).bind k') := by
  unfold uQO at hF; split at hF
  · rename_i u
    have h1 := R.R.al a (by omega)
    have hu : ut (s.t a) = c := by rw [ht, ut_lo (by omega)]
    have ⟨h3, h4⟩ := uR.ok hi rx R.R (by omega) (by omega) u
    have R' := R.pO (a := a) (k := x.toNat) (x0 := x0) (by omega) (by rw [hu, hc2]; exact hc) (by omega) (fun w => f_O_arr (by rw [← R.S.t a w]; omega))
    subst hp
    have : q_A c cb h (φ a) i' x0 = some (e_set h (φ a) x.toNat (.ref x0)) := by unfold q_A; rw [if_pos (R.ot hx0 hcb)]; unfold q_V; rw [if_pos ⟨⟨h1.2.1, h1.2.2.trans hu⟩, h3⟩, h4]
    rw [this]; exact kk _ _ R' rfl hF
  · cases hF
theorem s_len {a p : Nat} {k' : Int32 → Option (α × eH)} (R : fC m b φ0 s0 φ h s) (h1 : 100 ≤ s.t a) (h2 : s.t a < 128) (hp : p = φ a) (kk : gG m b φ0 s0 rel q (k' (iI (s.n a : Int)))) : gG m b φ0 s0 rel q ((a_len h p).bind k') := by
  have h3 := R.R.al a h2
  subst hp
  have hu : 100 ≤ ut (s.t a) := by unfold ut; split <;> omega
  have : a_len h (φ a) = some (iI (s.n a : Int)) := by
    unfold a_len; rw [if_pos ⟨h3.2.1, by rw [h3.2.2]; exact hu⟩, (R.R.ln a h1 h2).1]; exact congrArg some (Int32.toInt_inj.mp (by rw [to_iI (R.rn h1 h2)]; exact Int32.toInt_ofNat_of_lt (R.R.ln a h1 h2).2))
  rw [this]; exact kk
end
section
variable {α β : Type} {m b : Nat} {φ0 φ : Nat → Nat} {s0 s : fS} {h : eH} {rel : (Nat → Nat) → fS → α → β → Prop} {q : β × fS}
/-! new things -/
theorem e_k_new (h : eH) (k n : Nat) (f : Nat → Value) (x : Nat) : e_k (e_new h k n f) x = if x = h.1 then k else e_k h x := by unfold e_k e_new; by_cases e : x = h.1 <;> simp [e]
theorem e_n_new (h : eH) (k n : Nat) (f : Nat → Value) (x : Nat) : e_n (e_new h k n f) x = if x = h.1 then n else e_n h x := by unfold e_n e_new; by_cases e : x = h.1 <;> simp [e]
theorem e_v_new (h : eH) (k n : Nat) (f : Nat → Value) (x y : Nat) : e_v (e_new h k n f) x y = if x = h.1 then f y else e_v h x y := by unfold e_v e_new; by_cases e : x = h.1 <;> simp [e]
theorem e_t_new (h : eH) (k n : Nat) (f : Nat → Value) (x : Nat) : e_t (e_new h k n f) x = if x = h.1 then k % 128 else e_t h x := by unfold e_t; rw [e_k_new]; split <;> rfl
theorem nw_t (s : fS) (t l z sd x : Nat) : (s.nw t l z sd).t x = if x = s.c then t else s.t x := rfl
theorem nw_n (s : fS) (t l z sd x : Nat) : (s.nw t l z sd).n x = if x = s.c then l else s.n x := rfl
theorem nw_o (s : fS) (t l z sd x k : Nat) : (s.nw t l z sd).o x k = if x = s.c then none else s.o x k := by show (if x = s.c then _ else _ : Nat → Option Nat) k = _; split <;> rfl
theorem nw_i (s : fS) (t l z sd x k : Nat) : (s.nw t l z sd).i x k = if x = s.c then 0 else s.i x k := by show (if x = s.c then _ else _ : Nat → Int) k = _; split <;> rfl
theorem nw_j (s : fS) (t l z sd x k : Nat) : (s.nw t l z sd).j x k = if x = s.c then 0 else s.j x k := by show (if x = s.c then _ else _ : Nat → Int) k = _; split <;> rfl
/-- the name of what is new is its own address -/
def fN (φ : Nat → Nat) (c : Nat) : Nat → Nat := fun a => if a = c then c else φ a
theorem fC.nw (R : fC m b φ0 s0 φ h s) {t l z kd sd : Nat} {f : Nat → Value} (hs : s.c ≤ 170145) (ht : kd % 128 = ut t) (htt : t < 128) (h33 : t ≠ 33) (hl : 100 ≤ t → l = z ∧ l < 2147483648)
    (hi : ∀ k, f_ty (ut t) k = 0 → f k = .int 0) (hj : ∀ k, f_ty (ut t) k = 1 → f k = .long 0) (ho : ∀ k, f_ty (ut t) k = 2 ∨ f_ty (ut t) k = 3 → f k = .null) :
    fC m b φ0 s0 (fN φ s.c) (e_new h kd z f) (s.nw t l z sd) ∧ s.c ∉ f_G ∧ fE 0 φ s (fN φ s.c) (s.nw t l z sd) := by
  have hc : h.1 = s.c := R.R.c
  have hcl := R.S.c
  have hlim := f_lim_le m
  have hnG : s.c ∉ f_G := fun hg => by rcases f_G_lt _ hg with e | e <;> omega
  have hdead : ¬ s.t s.c < 128 := fun w => by have := (R.R.al _ w).1; omega
  have hne : ∀ x, s.t x < 128 → x ≠ s.c := fun x hx e => hdead (e ▸ hx)
  have hph : ∀ x, s.t x < 128 → φ x ≠ s.c := fun x hx e => by have := (R.R.al x hx).2.1; omega
  have hφ : ∀ x, x ≠ s.c → fN φ s.c x = φ x := fun x hx => if_neg hx
  have hφc : fN φ s.c s.c = s.c := if_pos rfl
  have key : ∀ x, (s.nw t l z sd).t x < 128 → (x = s.c ∧ fN φ s.c x = s.c ∧ (s.nw t l z sd).t x = t) ∨ (x ≠ s.c ∧ s.t x < 128 ∧ fN φ s.c x = φ x ∧ φ x ≠ h.1 ∧ (s.nw t l z sd).t x = s.t x) := fun x hx => by
    by_cases e : x = s.c
    · subst e; exact Or.inl ⟨rfl, hφc, by rw [nw_t, if_pos rfl]⟩
    · have e2 : (s.nw t l z sd).t x = s.t x := by rw [nw_t, if_neg e]
      rw [e2] at hx; exact Or.inr ⟨e, hx, hφ x e, by rw [hc]; exact hph x hx, e2⟩
  refine ⟨⟨⟨?_, ?_, ?_, ?_, ?_, ?_, ?_, ?_, ?_, ?_⟩, ⟨?_, ?_, ?_, ?_, ?_, ?_, ?_⟩, ⟨?_, ?_, ?_, ?_⟩⟩, hnG, ?_⟩
  · show h.1 + 1 = s.c + 1; rw [hc]
  · show h.2.1 + z = s.z + z; rw [R.R.z]
  · intro x hx
    rcases key x hx with ⟨e, e2, e3⟩ | ⟨e, e2, e3, e4, e5⟩
    · refine ⟨Or.inl (by show x < s.c + 1; omega), by show fN φ s.c x < h.1 + 1; omega, ?_⟩
      rw [e2, e3, e_t_new, if_pos hc.symm, ht]
    · have := R.R.al x e2
      refine ⟨by show x < s.c + 1 ∨ _; omega, by show fN φ s.c x < h.1 + 1; omega, ?_⟩
      rw [e3, e5, e_t_new, if_neg e4]; exact this.2.2
  · intro x hx hg
    rcases key x hx with ⟨e, e2, e3⟩ | ⟨e, e2, e3, e4, e5⟩
    · omega
    · rw [e3]; exact R.R.lo x e2 hg
  · intro x h1 h2
    rcases key x h2 with ⟨e, e2, e3⟩ | ⟨e, e2, e3, e4, e5⟩
    · rw [e2, e_n_new, if_pos hc.symm, nw_n, if_pos e]
      rw [e3] at h1; have := hl h1; omega
    · rw [e3, e_n_new, if_neg e4, nw_n, if_neg e]; exact R.R.ln x (e5 ▸ h1) e2
  · intro x y hx hy e
    rcases key x hx with ⟨e1, e2, e3⟩ | ⟨e1, e2, e3, e4, e5⟩ <;> rcases key y hy with ⟨d1, d2, d3⟩ | ⟨d1, d2, d3, d4, d5⟩
    · omega
    · exact absurd (d3.symm.trans (e.symm.trans e2)) (hc ▸ d4)
    · exact absurd (e3.symm.trans (e.trans d2)) (hc ▸ e4)
    · exact R.R.ij x y e2 d2 (by rw [← e3, ← d3]; exact e)
  · intro x k hx hy
    rcases key x hx with ⟨e, e2, e3⟩ | ⟨e, e2, e3, e4, e5⟩
    · rw [e3] at hy; rw [e2, e_v_new, if_pos hc.symm, nw_i, if_pos e, hi k hy]; exact ⟨rfl, by decide, by decide⟩
    · rw [e5] at hy; rw [e3, e_v_new, if_neg e4, nw_i, if_neg e]; exact R.R.vi x k e2 hy
  · intro x k hx hy
    rcases key x hx with ⟨e, e2, e3⟩ | ⟨e, e2, e3, e4, e5⟩
    · rw [e3] at hy; rw [e2, e_v_new, if_pos hc.symm, nw_j, if_pos e, hj k hy]; exact ⟨rfl, by decide, by decide⟩
    · rw [e5] at hy; rw [e3, e_v_new, if_neg e4, nw_j, if_neg e]; exact R.R.vj x k e2 hy
  · intro x k hx hy
    rcases key x hx with ⟨e, e2, e3⟩ | ⟨e, e2, e3, e4, e5⟩
    · rw [e3] at hy; rw [e2, e_v_new, if_pos hc.symm, nw_o, if_pos e]; exact Or.inl ⟨rfl, ho k (Or.inl hy)⟩
    · rw [e5] at hy; rw [e3, e_v_new, if_neg e4, nw_o, if_neg e]
      rcases R.R.vo x k e2 hy with w | ⟨y, w1, w2, w3⟩
      · exact Or.inl w
      · exact Or.inr ⟨y, w1, w2, by rw [nw_t, if_neg (hne y (by omega))]; exact w3⟩
  · intro x k hx hy
    rcases key x hx with ⟨e, e2, e3⟩ | ⟨e, e2, e3, e4, e5⟩
    · rw [e3] at hy; rw [e2, e_v_new, if_pos hc.symm, nw_o, if_pos e]; exact Or.inl ⟨rfl, ho k (Or.inr hy)⟩
    · rw [e5] at hy; rw [e3, e_v_new, if_neg e4, nw_o, if_neg e]
      rcases R.R.va x k e2 hy with w | ⟨y, w1, w2, w3, w4⟩
      · exact Or.inl w
      · have hy' := hne y (by omega)
        exact Or.inr ⟨y, w1, by rw [hφ y hy']; exact w2, by rw [nw_t, if_neg hy']; exact w3, by rw [nw_t, if_neg hy']; exact w4⟩
  · intro x hx; rw [nw_t, if_neg (by omega)]; exact R.S.t x hx
  · rw [nw_t, if_neg (by omega)]; exact R.S.p
  · intro x hx h1 h2; rw [nw_n, if_neg (by omega)]; exact R.S.n x hx h1 h2
  · intro x k y hx hy; rw [nw_o, if_neg (by omega)]; exact R.S.o x k y hx hy
  · intro g hg x k e; rw [nw_o] at e; split at e
    · cases e
    · exact R.S.w g hg x k e
  · intro x e; rw [nw_t] at e; split at e
    · exact absurd e h33
    · exact R.S.l x e
  · show f_lim m ≤ s.c + 1; omega
  · intro x hx; have h1 := R.E.t x hx; rw [nw_t, if_neg (hne x (by omega))]; exact h1
  · intro x hx hw; have h1 := R.E.t x hx; rw [hφ x (hne x (by omega))]; exact R.E.k x hx hw
  · show s0.c ≤ s.c + 1; have := R.E.c; omega
  · intro eb x hx; have h1 := R.E.k0 eb x hx; have h2 := hne x (by omega); exact ⟨by rw [hφ x h2]; exact h1.1, by rw [nw_t, if_neg h2]; exact h1.2⟩
  · exact ⟨fun x hx => by rw [nw_t, if_neg (hne x (by omega))], fun x hx _ => hφ x (hne x (by omega)), Nat.le_succ _, fun _ x hx => ⟨hφ x (hne x hx), by rw [nw_t, if_neg (hne x hx)]⟩⟩
end
section
variable {α β : Type} {m b : Nat} {φ0 φ : Nat → Nat} {s0 s : fS} {h : eH} {rel : (Nat → Nat) → fS → α → β → Prop} {q : β × fS}
/-- a new array: tmp = 10 if it is to be taken over -/
theorem s_nA {c g tmp sd : Nat} {dv : Value} {n' : Int32} {x : Int} {k' : Nat × eH → Option (α × eH)} {K : Nat × fS → Option (β × fS)} (R : fC m b φ0 s0 φ h s) (hc : (c = 100 ∨ c = 102 ∨ c = 103) ∧ dv = .int 0 ∨ c = 101 ∧ dv = .long 0) (htm : tmp = 0 ∨ tmp = 10) (hn : n' = iI x) (rx : r32 x) (hF : (uNA (c + tmp) sd s x).bind K = some q)
    (kk : ∀ h' s', fC m b φ0 s0 (fN φ s.c) h' s' → fE 0 φ s (fN φ s.c) s' → s.c = fN φ s.c s.c → s'.t s.c = c + tmp → s.c ∉ f_G → K (s.c, s') = some q → gG m b φ0 s0 rel q (k' (s.c, h'))) : gG m b φ0 s0 rel q ((n_arr c g dv h n').bind k') := by
  unfold uNA at hF; split at hF
  · rename_i u
    have h0 : (0 : Int32) = iI 0 := rfl
    have hut : ut (c + tmp) = c := by unfold ut; rcases hc with ⟨hc, _⟩ | ⟨hc, _⟩ <;> rcases htm with e | e <;> subst e <;> (try rcases hc with e | e | e) <;> (try subst hc) <;> (try subst e) <;> rfl
    have hcc : c = 100 ∨ c = 101 ∨ c = 102 ∨ c = 103 := by omega
    have hN := R.nw (sd := sd) (t := c + tmp) (l := x.toNat) (z := x.toNat) (kd := c + 128 * g) (f := fun _ => dv) (by omega) (by rw [hut]; omega) (by omega) (by omega) (fun _ => ⟨rfl, by omega⟩)
      (fun k e => by rw [hut] at e; rcases hc with hc | hc; exact hc.2; rw [hc.1] at e; simp [f_ty] at e)
      (fun k e => by rw [hut] at e; rcases hc with ⟨hc, _⟩ | hc; (rcases hc with w | w | w <;> rw [w] at e <;> simp [f_ty] at e); exact hc.2)
      (fun k e => by rw [hut] at e; rcases hcc with w | w | w | w <;> subst w <;> rcases e with e | e <;> simp [f_ty] at e)
    have e1 : n'.toNatClampNeg = x.toNat := by rw [hn]; exact cl rx u.1
    have : n_arr c g dv h n' = some (s.c, e_new h (c + 128 * g) x.toNat (fun _ => dv)) := by
      unfold n_arr; rw [e1, if_pos ⟨fun w => absurd ((i_lt hn h0 rx ⟨by decide, by decide⟩).mp w) (by omega), u.2.1, by rw [R.R.c]; exact u.2.2.1, by rw [R.R.z]; exact u.2.2.2⟩, R.R.c]
    rw [this]; exact kk _ _ hN.1 hN.2.2 (if_pos rfl).symm (if_pos rfl) hN.2.1 hF
  · cases hF
theorem f_ty_ob {c : Nat} {ty : Nat → FieldType} (h : ∀ k, f_ty c k = f_tc (ty k)) (hc : c < 100) : (∀ k, f_ty (ut c) k = 0 → defaultValue (ty k) = .int 0) ∧ (∀ k, f_ty (ut c) k = 1 → defaultValue (ty k) = .long 0) ∧ ∀ k, f_ty (ut c) k = 2 ∨ f_ty (ut c) k = 3 → defaultValue (ty k) = .null := by
  rw [ut_lo (by omega)]
  exact ⟨fun k e => f_tc_I (by rw [← h]; exact e), fun k e => f_tc_J (by rw [← h]; exact e), fun k e => by rcases e with e | e; exact f_tc_O (by rw [← h]; exact e); exact f_tc_A (by rw [← h]; exact e)⟩
theorem s_nO {c g N sd : Nat} {ty : Nat → FieldType} {k' : Nat × eH → Option (α × eH)} {K : Nat × fS → Option (β × fS)} (R : fC m b φ0 s0 φ h s) (hc : c < 100) (h33 : c ≠ 33) (hty : ∀ k, f_ty c k = f_tc (ty k)) (hF : (uNO c sd N s).bind K = some q)
    (kk : ∀ h' s', fC m b φ0 s0 (fN φ s.c) h' s' → fE 0 φ s (fN φ s.c) s' → s'.t s.c = c → f_lim m ≤ s.c → K (s.c, s') = some q → gG m b φ0 s0 rel q (k' (s.c, h'))) : gG m b φ0 s0 rel q ((n_obj c g N ty h).bind k') := by
  unfold uNO at hF; split at hF
  · rename_i u
    have ⟨t1, t2, t3⟩ := f_ty_ob hty hc
    have hN := R.nw (sd := sd) (t := c) (l := 0) (z := N) (kd := c + 128 * g) (f := fun j => defaultValue (ty j)) (by omega) (by rw [ut_lo (by omega)]; omega) (by omega) h33 (fun _ => absurd hc (by omega)) t1 t2 t3
    have : n_obj c g N ty h = some (s.c, e_new h (c + 128 * g) N (fun j => defaultValue (ty j))) := by
      unfold n_obj; rw [if_pos ⟨by rw [R.R.c]; exact u.1, by rw [R.R.z]; exact u.2⟩, R.R.c]
    rw [this]; exact kk _ _ hN.1 hN.2.2 (if_pos rfl) R.S.c hF
  · cases hF
/-- something is thrown -/
theorem s_exc {γ δ : Type} {rel : (Nat → Nat) → fS → γ → δ → Prop} {q : (δ ⊕ Nat) × fS} {c : Nat} (R : fC m b φ0 s0 φ h s) (hc : c = 50 ∨ c = 51 ∨ c = 52) (hF : ((uNX c s).bind fun q1 => some (.inr q1.1, q1.2)) = some q) : gG m b φ0 s0 (lT rel) q ((n_exc c h).bind fun q1 => some (.inr q1.1, q1.2)) := by
  unfold uNX at hF; split at hF
  · rename_i u
    cases hF
    have hf : ∀ k, f_ty (ut c) k = 9 := fun k => by rcases hc with e | e | e <;> subst e <;> rfl
    have hN := R.nw (sd := 0) (t := c) (l := 0) (z := 6) (kd := c) (f := fun _ => .null) (by omega) (by rw [ut_lo (by omega)]; omega) (by omega) (by omega) (fun _ => absurd hc (by omega)) (fun k e => absurd e (by rw [hf]; decide)) (fun k e => absurd e (by rw [hf]; decide)) (fun k e => absurd e (by rw [hf]; decide))
    have : n_exc c h = some (s.c, e_new h c 6 (fun _ => .null)) := by
      unfold n_exc; rw [if_pos ⟨by rw [R.R.c]; exact u.1, by rw [R.R.z]; exact u.2⟩, R.R.c]
    rw [this]
    refine ⟨_, _, _, rfl, hN.1, rfl, ?_, ?_⟩ <;> (show (if s.c = s.c then c else _) < _; rw [if_pos rfl]; omega)
  · cases hF
/-! copying -/
theorem cp_i (s : fS) (a x d y n e k : Nat) : (s.cp a x d y n).i e k = if e = d then (if y ≤ k ∧ k < y + n then s.i a (x + (k - y)) else s.i d k) else s.i e k := by show (if e = d then _ else _ : Nat → Int) k = _; split <;> rfl
theorem e_v_cpy (h : eH) (a x d y n e k : Nat) : e_v (e_cpy h a x d y n) e k = if e = d then (if y ≤ k ∧ k < y + n then e_v h a (x + (k - y)) else e_v h d k) else e_v h e k := by unfold e_v e_cpy; by_cases w : e = d <;> simp [w, e_v]
theorem e_k_cpy (h : eH) (a x d y n e : Nat) : e_k (e_cpy h a x d y n) e = e_k h e := by unfold e_k e_cpy; by_cases w : e = d <;> simp [w, e_k]
theorem e_n_cpy (h : eH) (a x d y n e : Nat) : e_n (e_cpy h a x d y n) e = e_n h e := by unfold e_n e_cpy; by_cases w : e = d <;> simp [w, e_n]
theorem s_cp {a d p1 p2 : Nat} {x' y' n' : Int32} {x y n : Int} {k' : eH → Option (α × eH)} {K : fS → Option (β × fS)} (R : fC m b φ0 s0 φ h s) (ha : s.t a < 128) (hd : s.t d < 128) (ht : ut (s.t d) = 100 ∨ ut (s.t d) = 102 ∨ ut (s.t d) = 103) (hp1 : p1 = φ a) (hp2 : p2 = φ d) (hx : x' = iI x) (rx : r32 x) (hy : y' = iI y) (ry : r32 y) (hn : n' = iI n) (rn : r32 n)
    (hF : (uCP s a x d y n).bind K = some q) (kk : ∀ h' s', fC m b φ0 s0 φ h' s' → s'.t = s.t → K s' = some q → gG m b φ0 s0 rel q (k' h')) : gG m b φ0 s0 rel q ((a_cpy h p1 x' p2 y' n').bind k') := by
  unfold uCP at hF; split at hF
  · rename_i u
    obtain ⟨⟨u1, u2, u3⟩, u4, u5, u6⟩ := u
    have h0 : (0 : Int32) = iI 0 := rfl
    have z0 : r32 0 := ⟨by decide, by decide⟩
    have e1 : x'.toNatClampNeg = x.toNat := by rw [hx]; exact cl rx u1
    have e2 : y'.toNatClampNeg = y.toNat := by rw [hy]; exact cl ry u2
    have e3 : n'.toNatClampNeg = n.toNat := by rw [hn]; exact cl rn u3
    have a1 := R.R.al a ha
    have d1 := R.R.al d hd
    have a100 : 100 ≤ s.t a := by unfold ut at u4 ht; split at u4 <;> split at u4 <;> split at ht <;> omega
    have d100 : 100 ≤ s.t d := by unfold ut at ht; split at ht <;> omega
    have hty : ∀ k, f_ty (ut (s.t d)) k = 0 := fun k => by rcases ht with e | e | e <;> rw [e] <;> rfl
    subst hp1; subst hp2
    have : a_cpy h (φ a) x' (φ d) y' n' = some (e_cpy h (φ a) x.toNat (φ d) y.toNat n.toNat) := by
      unfold a_cpy; rw [e1, e2, e3, if_pos]
      refine ⟨⟨a1.2.1, d1.2.1⟩, ⟨by rw [a1.2.2, d1.2.2]; exact u4, by rw [d1.2.2]; omega, by rw [d1.2.2]; omega⟩, ⟨fun w => absurd ((i_lt hx h0 rx z0).mp w) (by omega), fun w => absurd ((i_lt hy h0 ry z0).mp w) (by omega), fun w => absurd ((i_lt hn h0 rn z0).mp w) (by omega)⟩, by rw [(R.R.ln a a100 ha).1]; exact u5, by rw [(R.R.ln d d100 hd).1]; exact u6⟩
    rw [this]
    refine kk _ (s.cp a x.toNat d y.toNat n.toNat) ⟨⟨R.R.c, R.R.z, fun e he => ⟨(R.R.al e he).1, (R.R.al e he).2.1, ?_⟩, R.R.lo, fun e g1 g2 => ?_, R.R.ij, fun e k he hk => ?_, fun e k he hk => ?_, fun e k he hk => ?_, fun e k he hk => ?_⟩, ⟨R.S.t, R.S.p, R.S.n, R.S.o, R.S.w, R.S.l, R.S.c⟩, ⟨R.E.t, R.E.k, R.E.c, R.E.k0⟩⟩ rfl hF
    · unfold e_t; rw [e_k_cpy]; exact (R.R.al e he).2.2
    · rw [e_n_cpy]; exact R.R.ln e g1 g2
    · rw [e_v_cpy, cp_i]
      by_cases w : e = d
      · subst w
        rw [if_pos rfl, if_pos rfl]
        split
        · exact R.R.vi a _ ha (by rw [u4]; exact hty _)
        · exact R.R.vi e k he hk
      · rw [if_neg w, if_neg (fun w' => w (R.R.ij e d he hd w'))]; exact R.R.vi e k he hk
    · rw [e_v_cpy, if_neg (fun w' => by have := R.R.ij e d he hd w'; subst this; have hk' := (hty k).symm.trans hk; cases hk')]; exact R.R.vj e k he hk
    · rw [e_v_cpy, if_neg (fun w' => by have := R.R.ij e d he hd w'; subst this; have hk' := (hty k).symm.trans hk; cases hk')]; exact R.R.vo e k he hk
    · rw [e_v_cpy, if_neg (fun w' => by have := R.R.ij e d he hd w'; subst this; have hk' := (hty k).symm.trans hk; cases hk')]; exact R.R.va e k he hk
  · cases hF
/-! an array that grows -/
theorem f_mv_1 {b g : Nat} (hb : 1 ≤ b) (hg : g ∈ f_G) (h : g ≠ 37 ∧ g ≠ 31) : f_mv b g = true := by
  unfold f_mv
  match b, hb with
  | 1, _ => simp [hg, h.1, h.2]
  | 2, _ => simp [hg, h.1]
  | n + 3, _ => simp [hg]
theorem f_mv_2 {b g : Nat} (hb : 2 ≤ b) (hg : g ∈ f_G) (h : g ≠ 37) : f_mv b g = true := by
  unfold f_mv
  match b, hb with
  | 2, _ => simp [hg, h]
  | n + 3, _ => simp [hg]
theorem f_mv_3 {b g : Nat} (hb : 3 ≤ b) (hg : g ∈ f_G) : f_mv b g = true := by
  unfold f_mv
  match b, hb with
  | n + 3, _ => simp [hg]
theorem lists_g {m a g : Nat} {s : fS} (S : sS m s) (ht : s.t a = 33) (ho : s.o a 0 = some g) : g ∈ f_G ∧ (g ≠ 37 ∧ g ≠ 31) := by
  have hl := f_lim_le m
  rcases S.l a ht with e | e | e | e | e <;> subst e
  · have := S.o 170 0 171 (by omega) rfl; rw [ho] at this; cases this; decide
  · have := S.o 172 0 173 (by omega) rfl; rw [ho] at this; cases this; decide
  · have := S.o 174 0 175 (by omega) rfl; rw [ho] at this; cases this; decide
  · have := S.o 186 0 187 (by omega) rfl; rw [ho] at this; cases this; decide
  · have := S.o 188 0 189 (by omega) rfl; rw [ho] at this; cases this; decide
def fM (φ : Nat → Nat) (g x : Nat) : Nat → Nat := fun a => if a = g then φ x else φ a
theorem s_mv {o c k g x p : Nat} {k' : eH → Option (α × eH)} {K : fS → Option (β × fS)} (R : fC m b φ0 s0 φ h s) (ht : s.t o = c) (hc : c < 100) (hy : f_ty c k = 3) (ho : s.o o k = some g) (hg : g ∈ f_G) (hb : f_mv b g = true) (hp : p = φ x)
    (hF : (uMV s g x).bind K = some q) (kk : ∀ ψ h' s', fC m b φ0 s0 ψ h' s' → fE b φ s ψ s' → (∀ a, a ≠ g → a ≠ x → ψ a = φ a ∧ s'.t a = s.t a) → K s' = some q → gG m b φ0 s0 rel q (k' h')) : gG m b φ0 s0 rel q ((p_V c h o k (.ref p)).bind k') := by
  have h2 := R.ot ht hc
  have hva := R.R.va o k (by omega) (by rw [ht, ut_lo (by omega)]; exact hy)
  rw [R.ob (a := o) (by omega), ho] at hva
  have ⟨hv, hg1, hg2⟩ : e_v h o k = .ref (φ g) ∧ 100 ≤ s.t g ∧ s.t g < 108 := by
    rcases hva with w | ⟨y, w1, w2, w3, w4⟩
    · cases w.1
    · cases w1; exact ⟨w2, w3, w4⟩
  have hW := R.S.w g hg o k ho
  subst hp
  have hp : p_V c h o k (.ref (φ x)) = some (e_set h o k (.ref (φ x))) := by unfold p_V; rw [if_pos h2]
  rw [hp]
  unfold uMV at hF; split at hF
  · rename_i u
    by_cases e : x = g
    · subst e
      have es : s.mv x x = s := if_pos rfl
      have R' := R.pA (a := o) (k := k) (x0 := x) (by omega) (by rw [ht, ut_lo (by omega)]; exact hy) hg1 hg2
      have e3 : fS.pO s o k (some x) = s := by
        have : (fun d => if d = o then (fun w => if w = k then some x else s.o o w) else s.o d) = s.o := by
          funext d; by_cases w : d = o
          · subst w; rw [if_pos rfl]; funext y; by_cases w2 : y = k
            · subst w2; rw [if_pos rfl]; exact ho.symm
            · rw [if_neg w2]
          · rw [if_neg w]
        unfold fS.pO; rw [this]; rfl
      refine kk φ _ _ ⟨?_, R.S, R.E⟩ (fE.rf _ _ _) (fun _ _ _ => ⟨rfl, rfl⟩) (by rw [es] at hF; exact hF)
      have R2 := R.R.pA (a := o) (k := k) (x0 := x) (by omega) (by rw [ht, ut_lo (by omega)]; exact hy) hg1 hg2
      rw [e3, R.ob (a := o) (by omega)] at R2; exact R2
    · have hut : s.t x = s.t g + 10 := by rcases u with w | w; exact absurd w e; exact w
      have hx' : 110 ≤ s.t x ∧ s.t x < 128 := by omega
      have es : s.mv g x = ⟨s.c, s.z, fun d => if d = x then 200 else s.t d, fun d => if d = g then s.n x else if d = x then 0 else s.n d, fun d => if d = g then s.i x else s.i d, s.j, s.o, s.g⟩ := if_neg e
      have hxx : ut (s.t x) = s.t g := by unfold ut; rw [if_pos hx'.1]; omega
      have hxG : x ∉ f_G := fun w => by
        rcases f_G_lt x w with w | ⟨w, w2, w3⟩
        · subst w; rcases R.S.p with v | v <;> omega
        · have := R.S.t x (Nat.lt_of_lt_of_le w (f_lim_le m)); omega
      have hxl : f_lim m ≤ x := Nat.le_of_not_lt (fun w => by have := R.S.t x w; rw [this] at hx'; exact absurd hx' (by have := f_T_ok x; omega))
      have nox : ∀ a k, s.t a < 128 → (f_ty (ut (s.t a)) k = 2 ∨ f_ty (ut (s.t a)) k = 3) → s.o a k ≠ some x := fun a k ha hk w => by
        rcases hk with hk | hk
        · rcases R.R.vo a k ha hk with v | ⟨y, v1, v2, v3⟩
          · rw [v.1] at w; cases w
          · rw [v1] at w; cases w; omega
        · rcases R.R.va a k ha hk with v | ⟨y, v1, v2, v3, v4⟩
          · rw [v.1] at w; cases w
          · rw [v1] at w; cases w; omega
      have T : ∀ a, (s.mv g x).t a < 128 → a ≠ x ∧ s.t a < 128 ∧ (s.mv g x).t a = s.t a := fun a ha => by
        rw [es] at ha ⊢
        by_cases w : a = x
        · subst w; exact absurd ha (by show ¬ (if a = a then 200 else s.t a) < 128; rw [if_pos rfl]; decide)
        · have : (if a = x then 200 else s.t a) = s.t a := if_neg w
          exact ⟨w, by have ha' : (if a = x then 200 else s.t a) < 128 := ha; rw [this] at ha'; exact ha', this⟩
      have Tn : ∀ a, a ≠ x → (s.mv g x).t a = s.t a := fun a w => by rw [es]; exact if_neg w
      have Io : (s.mv g x).o = s.o := by rw [es]; rfl
      have Ij : (s.mv g x).j = s.j := by rw [es]; rfl
      have Ii : ∀ a, a ≠ g → (s.mv g x).i a = s.i a := fun a w => by rw [es]; exact if_neg w
      have Iig : (s.mv g x).i g = s.i x := by rw [es]; exact if_pos rfl
      have hne : φ x ≠ o := fun w => by
        have := R.R.ij x o hx'.2 (by omega) (by rw [R.ob (a := o) (by omega)]; exact w); rw [this, ht] at hx'; omega
      have hφ : ∀ a, a ≠ g → fM φ g x a = φ a := fun a w => if_neg w
      have hφg : fM φ g x g = φ x := if_pos rfl
      have hog : o ≠ g := fun w => by rw [w] at ht; omega
      have hE : fE b φ s (fM φ g x) (s.mv g x) := ⟨fun a ha => Tn a (by intro w; subst w; omega), fun a ha hw => by
          by_cases w : a = g
          · subst w; rw [hb] at hw; cases hw
          · exact hφ a w, by rw [es]; exact Nat.le_refl _, fun w => by rw [w] at hb; cases hb⟩
      refine kk (fM φ g x) _ _ ⟨?_, ?_, R.E.tr (Nat.le_refl _) hE⟩ hE (fun a w1 w2 => ⟨hφ a w1, Tn a w2⟩) hF
      · refine ⟨by rw [es]; exact R.R.c, by rw [es]; exact R.R.z, fun a ha => ?_, fun a ha hw => ?_, fun a h1 h3 => ?_, fun a d ha hd w => ?_, fun a y ha hk => ?_, fun a y ha hk => ?_, fun a y ha hk => ?_, fun a y ha hk => ?_⟩
        · obtain ⟨w1, w2, w3⟩ := T a ha
          rw [w3, e_t_set]
          by_cases w : a = g
          · subst w; rw [hφg]; have := R.R.al x hx'.2
            exact ⟨by rw [es]; exact (R.R.al a w2).1, this.2.1, by rw [this.2.2, hxx, ut_lo (by omega)]⟩
          · rw [hφ a w]; exact ⟨by rw [es]; exact (R.R.al a w2).1, (R.R.al a w2).2.1, (R.R.al a w2).2.2⟩
        · obtain ⟨w1, w2, w3⟩ := T a ha
          rw [hφ a (fun w => hw (w ▸ hg))]; exact R.R.lo a w2 hw
        · obtain ⟨w1, w2, w3⟩ := T a h3
          rw [w3] at h1; rw [e_n_set]
          by_cases w : a = g
          · subst w; rw [hφg, es]; show e_n h (φ x) = (if a = a then s.n x else _) ∧ (if a = a then s.n x else _) < _; rw [if_pos rfl]; exact R.R.ln x (by omega) hx'.2
          · rw [hφ a w, es]; show e_n h (φ a) = (if a = g then _ else if a = x then 0 else s.n a) ∧ (if a = g then _ else if a = x then 0 else s.n a) < _; rw [if_neg w, if_neg w1]; exact R.R.ln a h1 w2
        · obtain ⟨w1, w2, w3⟩ := T a ha
          obtain ⟨v1, v2, v3⟩ := T d hd
          by_cases wa : a = g <;> by_cases wd : d = g
          · rw [wa, wd]
          · subst wa; rw [hφg, hφ d wd] at w; exact absurd (R.R.ij x d hx'.2 v2 w).symm v1
          · subst wd; rw [hφg, hφ a wa] at w; exact absurd (R.R.ij a x w2 hx'.2 w) w1
          · rw [hφ a wa, hφ d wd] at w; exact R.R.ij a d w2 v2 w
        · obtain ⟨w1, w2, w3⟩ := T a ha
          rw [w3] at hk
          by_cases w : a = g
          · subst w; rw [hφg, e_v_set, if_neg (fun v => hne v.1), Iig]; exact R.R.vi x y hx'.2 (by rw [hxx]; rw [ut_lo (by omega)] at hk; exact hk)
          · rw [hφ a w, e_v_set, if_neg, Ii a w]
            · exact R.R.vi a y w2 hk
            · intro v; have v1 := R.R.ij a o w2 (by omega) (by rw [R.ob (a := o) (by omega)]; exact v.1)
              rw [v1, v.2, ht, ut_lo (by omega), hy] at hk; cases hk
        · obtain ⟨w1, w2, w3⟩ := T a ha
          rw [w3] at hk
          have w : a ≠ g := fun w => by
            subst w; rw [ut_lo (by omega)] at hk
            have := f_G_lt a hg
            rcases this with v | ⟨v, v2, v3⟩
            · subst v; rcases R.S.p with d | d
              · rw [d] at hk; cases hk
              · omega
            · exact f_T_J a hg (by rw [← R.S.t a (Nat.lt_of_lt_of_le v (f_lim_le m))]; exact hk)
          rw [hφ a w, e_v_set, if_neg, Ij]
          · exact R.R.vj a y w2 hk
          · intro v; have v1 := R.R.ij a o w2 (by omega) (by rw [R.ob (a := o) (by omega)]; exact v.1)
            rw [v1, v.2, ht, ut_lo (by omega), hy] at hk; cases hk
        · obtain ⟨w1, w2, w3⟩ := T a ha
          rw [w3] at hk
          by_cases w : a = g
          · subst w; rw [hφg, e_v_set, if_neg (fun v => hne v.1), Io]
            have := arr_o_none (t := s.t a) (k := y) hg1 (by have := f_G_lt a hg; rcases this with v | ⟨v, v2, v3⟩; (subst v; rcases R.S.p with d | d <;> omega); (rw [R.S.t a (Nat.lt_of_lt_of_le v (f_lim_le m))]; exact v3))
            rw [ut_lo (by omega)] at hk; rw [hk] at this; omega
          · rw [hφ a w, e_v_set, if_neg, Io]
            · rcases R.R.vo a y w2 hk with v | ⟨z, v1, v2, v3⟩
              · exact Or.inl v
              · exact Or.inr ⟨z, v1, v2, by rw [Tn z (by intro d; subst d; omega)]; exact v3⟩
            · intro v; have v1 := R.R.ij a o w2 (by omega) (by rw [R.ob (a := o) (by omega)]; exact v.1)
              rw [v1, v.2, ht, ut_lo (by omega), hy] at hk; cases hk
        · obtain ⟨w1, w2, w3⟩ := T a ha
          rw [w3] at hk
          have w : a ≠ g := fun w => by
            subst w
            have := arr_o_none (t := s.t a) (k := y) hg1 (by have := f_G_lt a hg; rcases this with v | ⟨v, v2, v3⟩; (subst v; rcases R.S.p with d | d <;> omega); (rw [R.S.t a (Nat.lt_of_lt_of_le v (f_lim_le m))]; exact v3))
            rw [ut_lo (by omega)] at hk; rw [hk] at this; omega
          rw [hφ a w, e_v_set, Io]
          by_cases v : φ a = o ∧ y = k
          · have v1 := R.R.ij a o w2 (by omega) (by rw [R.ob (a := o) (by omega)]; exact v.1)
            rw [if_pos v, v1, v.2, ho]
            exact Or.inr ⟨g, rfl, by rw [hφg], by rw [Tn g (fun d => e d.symm)]; exact hg1, by rw [Tn g (fun d => e d.symm)]; exact hg2⟩
          · rw [if_neg v]
            rcases R.R.va a y w2 hk with d | ⟨z, d1, d2, d3, d4⟩
            · exact Or.inl d
            · have hzx : z ≠ x := fun d => by subst d; omega
              have hzg : z ≠ g := fun d => by
                subst d; have := (R.S.w z hg a y d1).trans hW.symm
                injection this with f1 f2
                subst f1; exact v ⟨R.ob (by omega), f2⟩
              exact Or.inr ⟨z, d1, by rw [hφ z hzg]; exact d2, by rw [Tn z hzx]; exact d3, by rw [Tn z hzx]; exact d4⟩
      · refine ⟨fun a ha => ?_, ?_, fun a ha h1 h3 => ?_, fun a y z ha hz => ?_, fun g' hg' a y w => ?_, fun a w => ?_, by rw [es]; exact R.S.c⟩
        · rw [Tn a (by omega)]; exact R.S.t a ha
        · rw [Tn 1000288 (by intro w; subst w; rcases R.S.p with d | d <;> omega)]; exact R.S.p
        · rw [es]; show (if a = g then s.n x else if a = x then 0 else s.n a) = _; rw [if_neg (fun w : a = g => h3 (by rw [w]; exact hg)), if_neg (by omega)]; exact R.S.n a ha h1 h3
        · rw [Io]; exact R.S.o a y z ha hz
        · rw [Io] at w; exact R.S.w g' hg' a y w
        · refine R.S.l a ?_
          rw [← w]; refine (Tn a ?_).symm
          intro d; subst d; rw [es] at w; have w' : (if a = a then 200 else s.t a) = 33 := w; rw [if_pos rfl] at w'; omega
  · cases hF
end
section
variable {α β γ δ : Type} {m b c : Nat} {φ0 φ : Nat → Nat} {s0 s : fS} {h : eH} {rel : (Nat → Nat) → fS → α → β → Prop} {relc : (Nat → Nat) → fS → γ → δ → Prop} {q : β × fS}
theorem fC.pn (R : fC m b φ0 s0 φ h s) {a t : Nat} (ht : s.t a = t) (h1 : t < 128) (hg : a ∉ f_G) : a = φ a := (R.R.lo a (by omega) hg).symm
theorem s_gAs {a c k x : Nat} {k' : Nat → Option (α × eH)} (R : fC m b φ0 s0 φ h s) (ht : s.t a = c) (hc : c < 100) (hy : f_ty c k = 3) (hx : s.o a k = some x) (hp : x = φ x) (kk : gG m b φ0 s0 rel q (k' x)) : gG m b φ0 s0 rel q ((g_A c h a k).bind k') := s_gA R ht hc hy hx (fun _ _ => by rw [← hp]; exact kk)
theorem g_ret {r : α} {r' : β} (R : fC m b φ0 s0 φ h s) (hF : some (r', s) = some q) (hr : rel φ s r r') : gG m b φ0 s0 rel q (some (r, h)) := by cases hF; exact ⟨φ, r, h, rfl, R, hr⟩
theorem g_z {x' : Int32} {x : Int} {r : α} {r' : β} (R : fC m b φ0 s0 φ h s) (hx : x' = iI x) (hF : uZ x (r', s) = some q) (hr : rel φ s r r') : gG m b φ0 s0 rel q (z_r x' (r, h)) := by
  unfold uZ at hF; split at hF
  · rename_i e; unfold z_r; rw [if_pos (z01 hx e)]; exact g_ret R hF hr
  · cases hF
theorem g_b {x' : Int32} {x : Int} {r : α} {r' : β} (R : fC m b φ0 s0 φ h s) (hx : x' = iI x) (hF : uBr x (r', s) = some q) (hr : rel φ s r r') : gG m b φ0 s0 rel q (b_r x' (r, h)) := by
  unfold uBr at hF; split at hF
  · rename_i e; unfold b_r; rw [if_pos (by rw [hx, c_2b rfl, e])]; exact g_ret R hF hr
  · cases hF
theorem g_c {x' : Int32} {x : Int} {r : α} {r' : β} (R : fC m b φ0 s0 φ h s) (hx : x' = iI x) (hF : uCr x (r', s) = some q) (hr : rel φ s r r') : gG m b φ0 s0 rel q (c_r x' (r, h)) := by
  unfold uCr at hF; split at hF
  · rename_i e; unfold c_r; rw [if_pos (by rw [hx, c_2c rfl, e])]; exact g_ret R hF hr
  · cases hF
theorem s_if {P P' : Prop} [Decidable P] [Decidable P'] {A B : Option (α × eH)} {A' B' : Option (β × fS)} (hP : P ↔ P') (hF : (if P' then A' else B') = some q) (k1 : P' → A' = some q → gG m b φ0 s0 rel q A) (k2 : ¬ P' → B' = some q → gG m b φ0 s0 rel q B) : gG m b φ0 s0 rel q (if P then A else B) := by
  by_cases e : P'
  · rw [if_pos e] at hF; rw [if_pos (hP.mpr e)]; exact k1 e hF
  · rw [if_neg e] at hF; rw [if_neg (fun w => e (hP.mp w))]; exact k2 e hF
theorem s_div {P P' : Prop} [Decidable P] [Decidable P'] {B : Option (α × eH)} {B' : Option (β × fS)} (hP : P ↔ P') (hF : (if P' then none else B') = some q) (k2 : ¬ P' → B' = some q → gG m b φ0 s0 rel q B) : gG m b φ0 s0 rel q (if P then none else B) := s_if hP hF (fun _ w => by cases w) k2
theorem s_call {oc : Option (γ × eH)} {Oc : Option (δ × fS)} {k' : γ × eH → Option (α × eH)} {K : δ × fS → Option (β × fS)} (R : fC m b φ0 s0 φ h s) (hc : c ≤ b) (hS : ∀ q1, Oc = some q1 → gG m c φ s relc q1 oc) (hF : Oc.bind K = some q) (kk : ∀ ψ r h1 q1, fC m b φ0 s0 ψ h1 q1.2 → relc ψ q1.2 r q1.1 → fE c φ s ψ q1.2 → K q1 = some q → gG m b φ0 s0 rel q (k' (r, h1))) : gG m b φ0 s0 rel q (oc.bind k') := by
  obtain ⟨q1, e1, e2⟩ := Option.bind_eq_some_iff.mp hF
  obtain ⟨ψ, r, h1, e3, R1, hr⟩ := hS q1 e1
  rw [e3]; exact kk ψ r h1 q1 (R.then_ hc R1) hr R1.E e2
theorem s_tB {q : (β ⊕ Nat) × fS} {oc : Option ((γ ⊕ Nat) × eH)} {Oc : Option ((δ ⊕ Nat) × fS)} {k' : γ → eH → Option ((α ⊕ Nat) × eH)} {K : δ → fS → Option ((β ⊕ Nat) × fS)} (R : fC m b φ0 s0 φ h s) (hc : c ≤ b) (hS : ∀ q1, Oc = some q1 → gG m c φ s (lT relc) q1 oc) (hF : tB Oc K = some q) (kk : ∀ ψ r h1 r1 s1, fC m b φ0 s0 ψ h1 s1 → relc ψ s1 r r1 → fE c φ s ψ s1 → K r1 s1 = some q → gG m b φ0 s0 (lT rel) q (k' r h1)) : gG m b φ0 s0 (lT rel) q (t_B oc k') := by
  obtain ⟨q1, e1, e2⟩ := Option.bind_eq_some_iff.mp hF
  obtain ⟨ψ, r, h1, e3, R1, hr⟩ := hS q1 e1
  obtain ⟨r1, s1⟩ := q1
  unfold t_B; rw [e3]
  cases r with
  | inl x =>
    cases r1 with
    | inl y => exact kk ψ x h1 y s1 (R.then_ hc R1) hr R1.E e2
    | inr y => exact absurd hr (by simp [lT])
  | inr x =>
    cases r1 with
    | inl y => exact absurd hr (by simp [lT])
    | inr y =>
      cases e2
      exact ⟨ψ, .inr x, h1, rfl, R.then_ hc R1, hr⟩
theorem s_tC {ci : Nat} {oc : Option ((γ ⊕ Nat) × eH)} {Oc : Option ((δ ⊕ Nat) × fS)} {k' : γ → eH → Option (α × eH)} {kt' : Nat → eH → Option (α × eH)} {K : δ → fS → Option (β × fS)} {KT : Nat → fS → Option (β × fS)} (R : fC m b φ0 s0 φ h s) (hc : c ≤ b) (hci : ci < 100) (hS : ∀ q1, Oc = some q1 → gG m c φ s (lT relc) q1 oc) (hF : tC ci Oc K KT = some q)
    (kt : ∀ ψ x h1 s1, fC m b φ0 s0 ψ h1 s1 → fE c φ s ψ s1 → KT x s1 = some q → gG m b φ0 s0 rel q (kt' x h1)) (kk : ∀ ψ r h1 r1 s1, fC m b φ0 s0 ψ h1 s1 → relc ψ s1 r r1 → fE c φ s ψ s1 → K r1 s1 = some q → gG m b φ0 s0 rel q (k' r h1)) : gG m b φ0 s0 rel q (t_C ci oc k' kt') := by
  obtain ⟨q1, e1, e2⟩ := Option.bind_eq_some_iff.mp hF
  obtain ⟨ψ, r, h1, e3, R1, hr⟩ := hS q1 e1
  obtain ⟨r1, s1⟩ := q1
  unfold t_C; rw [e3]
  cases r with
  | inl x =>
    cases r1 with
    | inl y => exact kk ψ x h1 y s1 (R.then_ hc R1) hr R1.E e2
    | inr y => exact absurd hr (by simp [lT])
  | inr x =>
    cases r1 with
    | inl y => exact absurd hr (by simp [lT])
    | inr y =>
      obtain ⟨w1, w2, w3⟩ : x = y ∧ s1.t x < 128 ∧ s1.t x < 100 := hr
      subst w1
      have e2' : (if s1.t x = ci then KT x s1 else none) = some q := e2
      split at e2'
      · rename_i e
        have w4 := R1.ot e hci
        show gG m b φ0 s0 rel q (if x < h1.1 ∧ e_t h1 x = ci then kt' x h1 else none)
        rw [if_pos w4]; exact kt ψ x h1 s1 (R.then_ hc R1) R1.E e2'
      · cases e2'
def uNE (a g : Nat) : Option Unit := if a = g then none else some ()
theorem s_NE {a g : Nat} {K : Unit → Option (β × fS)} {P : Prop} (hF : (uNE a g).bind K = some q) (kk : a ≠ g → K () = some q → P) : P := by
  unfold uNE at hF; split at hF
  · cases hF
  · rename_i e; exact kk e hF
theorem nI_r {L : Nat} (h : L ≤ 384) : r32 (L : Int) := ⟨by omega, by omega⟩
theorem nI_iI {L : Nat} (h : L ≤ 384) : nI L = iI (L : Int) := Int32.toInt_inj.mp (by rw [to_iI (nI_r h)]; exact Int32.toInt_ofNat_of_lt (by omega))
theorem s_map {o : Option Int32} {k' : Int32 → Option (α × eH)} {K : Int → Option (β × fS)} (hF : (o.map Int32.toInt).bind K = some q) (kk : ∀ y, r32 y → K y = some q → gG m b φ0 s0 rel q (k' (iI y))) : gG m b φ0 s0 rel q (o.bind k') := by
  cases o with
  | none => cases hF
  | some x => have := kk x.toInt (rr_I x) hF; rw [iI_to] at this; exact this
theorem s_opt {o : Option γ} {k' : γ → Option (α × eH)} {K : γ → Option (β × fS)} (hF : o.bind K = some q) (kk : ∀ y, K y = some q → gG m b φ0 s0 rel q (k' y)) : gG m b φ0 s0 rel q (o.bind k') := by
  cases o with
  | none => cases hF
  | some x => exact kk x hF
theorem s_sg {L : Nat} {xs : Nat → Int32} {i' : Int32} {x : Int} {k' : Int32 → Option (α × eH)} {K : Int → Option (β × fS)} (hi : i' = iI x) (rx : r32 x) (hF : (uSG L xs x).bind K = some q) (kk : ∀ y, r32 y → K y = some q → gG m b φ0 s0 rel q (k' (iI y))) : gG m b φ0 s0 rel q ((s_get L xs i').bind k') := by
  unfold uSG at hF; split at hF
  · rename_i u
    have h0 : (0 : Int32) = iI 0 := rfl
    have e : i'.toNatClampNeg = x.toNat := by rw [hi]; exact cl rx u.1
    have : s_get L xs i' = some (xs x.toNat) := by unfold s_get; rw [e, if_pos ⟨fun w => absurd ((i_lt hi h0 rx ⟨by decide, by decide⟩).mp w) (by omega), u.2⟩]
    rw [this]; have := kk _ (rr_I (xs x.toNat)) hF; rw [iI_to] at this; exact this
  · cases hF
end
theorem t_0 {m : Nat} {s : fS} (S : sS m s) : s.t 0 = 0 := S.t 0 (Nat.lt_of_lt_of_le (Nat.le_of_ble_eq_true rfl) (f_lim_le m))
theorem t_1 {m : Nat} {s : fS} (S : sS m s) : s.t 1 = 102 := S.t 1 (Nat.lt_of_lt_of_le (Nat.le_of_ble_eq_true rfl) (f_lim_le m))
theorem u_1 {m : Nat} {s : fS} (S : sS m s) : s.t 1 < 128 ∧ ut (s.t 1) = 102 := by rw [t_1 S]; decide
theorem a_1 {m b : Nat} {φ0 φ : Nat → Nat} {s0 s : fS} {h : eH} (R : fC m b φ0 s0 φ h s) : 1 = φ 1 := R.pn (t_1 R.S) (Nat.le_of_ble_eq_true rfl) (by decide)
theorem n_1 {m : Nat} {s : fS} (S : sS m s) : s.n 1 = 65536 := S.n 1 (Nat.lt_of_lt_of_le (Nat.le_of_ble_eq_true rfl) (f_lim_le m)) (Nat.le_of_ble_eq_true rfl) (by decide)
theorem t_2 {m : Nat} {s : fS} (S : sS m s) : s.t 2 = 1 := S.t 2 (Nat.lt_of_lt_of_le (Nat.le_of_ble_eq_true rfl) (f_lim_le m))
theorem t_3 {m : Nat} {s : fS} (S : sS m s) : s.t 3 = 102 := S.t 3 (Nat.lt_of_lt_of_le (Nat.le_of_ble_eq_true rfl) (f_lim_le m))
theorem u_3 {m : Nat} {s : fS} (S : sS m s) : s.t 3 < 128 ∧ ut (s.t 3) = 102 := by rw [t_3 S]; decide
theorem a_3 {m b : Nat} {φ0 φ : Nat → Nat} {s0 s : fS} {h : eH} (R : fC m b φ0 s0 φ h s) : 3 = φ 3 := R.pn (t_3 R.S) (Nat.le_of_ble_eq_true rfl) (by decide)
theorem n_3 {m : Nat} {s : fS} (S : sS m s) : s.n 3 = 8192 := S.n 3 (Nat.lt_of_lt_of_le (Nat.le_of_ble_eq_true rfl) (f_lim_le m)) (Nat.le_of_ble_eq_true rfl) (by decide)
theorem t_4 {m : Nat} {s : fS} (S : sS m s) : s.t 4 = 2 := S.t 4 (Nat.lt_of_lt_of_le (Nat.le_of_ble_eq_true rfl) (f_lim_le m))
theorem t_5 {m : Nat} {s : fS} (S : sS m s) : s.t 5 = 3 := S.t 5 (Nat.lt_of_lt_of_le (Nat.le_of_ble_eq_true rfl) (f_lim_le m))
theorem t_6 {m : Nat} {s : fS} (S : sS m s) : s.t 6 = 4 := S.t 6 (Nat.lt_of_lt_of_le (Nat.le_of_ble_eq_true rfl) (f_lim_le m))
theorem t_7 {m : Nat} {s : fS} (S : sS m s) : s.t 7 = 106 := S.t 7 (Nat.lt_of_lt_of_le (Nat.le_of_ble_eq_true rfl) (f_lim_le m))
theorem u_7 {m : Nat} {s : fS} (S : sS m s) : s.t 7 < 128 ∧ ut (s.t 7) = 106 := by rw [t_7 S]; decide
theorem a_7 {m b : Nat} {φ0 φ : Nat → Nat} {s0 s : fS} {h : eH} (R : fC m b φ0 s0 φ h s) : 7 = φ 7 := R.pn (t_7 R.S) (Nat.le_of_ble_eq_true rfl) (by decide)
theorem n_7 {m : Nat} {s : fS} (S : sS m s) : s.n 7 = 16 := S.n 7 (Nat.lt_of_lt_of_le (Nat.le_of_ble_eq_true rfl) (f_lim_le m)) (Nat.le_of_ble_eq_true rfl) (by decide)
theorem t_8 {m : Nat} {s : fS} (S : sS m s) : s.t 8 = 105 := S.t 8 (Nat.lt_of_lt_of_le (Nat.le_of_ble_eq_true rfl) (f_lim_le m))
theorem u_8 {m : Nat} {s : fS} (S : sS m s) : s.t 8 < 128 ∧ ut (s.t 8) = 105 := by rw [t_8 S]; decide
theorem a_8 {m b : Nat} {φ0 φ : Nat → Nat} {s0 s : fS} {h : eH} (R : fC m b φ0 s0 φ h s) : 8 = φ 8 := R.pn (t_8 R.S) (Nat.le_of_ble_eq_true rfl) (by decide)
theorem n_8 {m : Nat} {s : fS} (S : sS m s) : s.n 8 = 100 := S.n 8 (Nat.lt_of_lt_of_le (Nat.le_of_ble_eq_true rfl) (f_lim_le m)) (Nat.le_of_ble_eq_true rfl) (by decide)
theorem t_9 {m : Nat} {s : fS} (S : sS m s) : s.t 9 = 100 := S.t 9 (Nat.lt_of_lt_of_le (Nat.le_of_ble_eq_true rfl) (f_lim_le m))
theorem u_9 {m : Nat} {s : fS} (S : sS m s) : s.t 9 < 128 ∧ ut (s.t 9) = 100 := by rw [t_9 S]; decide
theorem a_9 {m b : Nat} {φ0 φ : Nat → Nat} {s0 s : fS} {h : eH} (R : fC m b φ0 s0 φ h s) : 9 = φ 9 := R.pn (t_9 R.S) (Nat.le_of_ble_eq_true rfl) (by decide)
theorem n_9 {m : Nat} {s : fS} (S : sS m s) : s.n 9 = 100 := S.n 9 (Nat.lt_of_lt_of_le (Nat.le_of_ble_eq_true rfl) (f_lim_le m)) (Nat.le_of_ble_eq_true rfl) (by decide)
theorem t_10 {m : Nat} {s : fS} (S : sS m s) : s.t 10 = 103 := S.t 10 (Nat.lt_of_lt_of_le (Nat.le_of_ble_eq_true rfl) (f_lim_le m))
theorem u_10 {m : Nat} {s : fS} (S : sS m s) : s.t 10 < 128 ∧ ut (s.t 10) = 103 := by rw [t_10 S]; decide
theorem a_10 {m b : Nat} {φ0 φ : Nat → Nat} {s0 s : fS} {h : eH} (R : fC m b φ0 s0 φ h s) : 10 = φ 10 := R.pn (t_10 R.S) (Nat.le_of_ble_eq_true rfl) (by decide)
theorem n_10 {m : Nat} {s : fS} (S : sS m s) : s.n 10 = 100 := S.n 10 (Nat.lt_of_lt_of_le (Nat.le_of_ble_eq_true rfl) (f_lim_le m)) (Nat.le_of_ble_eq_true rfl) (by decide)
theorem t_11 {m : Nat} {s : fS} (S : sS m s) : s.t 11 = 100 := S.t 11 (Nat.lt_of_lt_of_le (Nat.le_of_ble_eq_true rfl) (f_lim_le m))
theorem u_11 {m : Nat} {s : fS} (S : sS m s) : s.t 11 < 128 ∧ ut (s.t 11) = 100 := by rw [t_11 S]; decide
theorem a_11 {m b : Nat} {φ0 φ : Nat → Nat} {s0 s : fS} {h : eH} (R : fC m b φ0 s0 φ h s) : 11 = φ 11 := R.pn (t_11 R.S) (Nat.le_of_ble_eq_true rfl) (by decide)
theorem n_11 {m : Nat} {s : fS} (S : sS m s) : s.n 11 = 100 := S.n 11 (Nat.lt_of_lt_of_le (Nat.le_of_ble_eq_true rfl) (f_lim_le m)) (Nat.le_of_ble_eq_true rfl) (by decide)
theorem t_12 {m : Nat} {s : fS} (S : sS m s) : s.t 12 = 5 := S.t 12 (Nat.lt_of_lt_of_le (Nat.le_of_ble_eq_true rfl) (f_lim_le m))
theorem t_13 {m : Nat} {s : fS} (S : sS m s) : s.t 13 = 100 := S.t 13 (Nat.lt_of_lt_of_le (Nat.le_of_ble_eq_true rfl) (f_lim_le m))
theorem u_13 {m : Nat} {s : fS} (S : sS m s) : s.t 13 < 128 ∧ ut (s.t 13) = 100 := by rw [t_13 S]; decide
theorem a_13 {m b : Nat} {φ0 φ : Nat → Nat} {s0 s : fS} {h : eH} (R : fC m b φ0 s0 φ h s) : 13 = φ 13 := R.pn (t_13 R.S) (Nat.le_of_ble_eq_true rfl) (by decide)
theorem n_13 {m : Nat} {s : fS} (S : sS m s) : s.n 13 = 2048 := S.n 13 (Nat.lt_of_lt_of_le (Nat.le_of_ble_eq_true rfl) (f_lim_le m)) (Nat.le_of_ble_eq_true rfl) (by decide)
theorem t_14 {m : Nat} {s : fS} (S : sS m s) : s.t 14 = 100 := S.t 14 (Nat.lt_of_lt_of_le (Nat.le_of_ble_eq_true rfl) (f_lim_le m))
theorem u_14 {m : Nat} {s : fS} (S : sS m s) : s.t 14 < 128 ∧ ut (s.t 14) = 100 := by rw [t_14 S]; decide
theorem a_14 {m b : Nat} {φ0 φ : Nat → Nat} {s0 s : fS} {h : eH} (R : fC m b φ0 s0 φ h s) : 14 = φ 14 := R.pn (t_14 R.S) (Nat.le_of_ble_eq_true rfl) (by decide)
theorem n_14 {m : Nat} {s : fS} (S : sS m s) : s.n 14 = 2048 := S.n 14 (Nat.lt_of_lt_of_le (Nat.le_of_ble_eq_true rfl) (f_lim_le m)) (Nat.le_of_ble_eq_true rfl) (by decide)
theorem t_15 {m : Nat} {s : fS} (S : sS m s) : s.t 15 = 100 := S.t 15 (Nat.lt_of_lt_of_le (Nat.le_of_ble_eq_true rfl) (f_lim_le m))
theorem u_15 {m : Nat} {s : fS} (S : sS m s) : s.t 15 < 128 ∧ ut (s.t 15) = 100 := by rw [t_15 S]; decide
theorem a_15 {m b : Nat} {φ0 φ : Nat → Nat} {s0 s : fS} {h : eH} (R : fC m b φ0 s0 φ h s) : 15 = φ 15 := R.pn (t_15 R.S) (Nat.le_of_ble_eq_true rfl) (by decide)
theorem n_15 {m : Nat} {s : fS} (S : sS m s) : s.n 15 = 10 := S.n 15 (Nat.lt_of_lt_of_le (Nat.le_of_ble_eq_true rfl) (f_lim_le m)) (Nat.le_of_ble_eq_true rfl) (by decide)
theorem t_16 {m : Nat} {s : fS} (S : sS m s) : s.t 16 = 100 := S.t 16 (Nat.lt_of_lt_of_le (Nat.le_of_ble_eq_true rfl) (f_lim_le m))
theorem u_16 {m : Nat} {s : fS} (S : sS m s) : s.t 16 < 128 ∧ ut (s.t 16) = 100 := by rw [t_16 S]; decide
theorem a_16 {m b : Nat} {φ0 φ : Nat → Nat} {s0 s : fS} {h : eH} (R : fC m b φ0 s0 φ h s) : 16 = φ 16 := R.pn (t_16 R.S) (Nat.le_of_ble_eq_true rfl) (by decide)
theorem n_16 {m : Nat} {s : fS} (S : sS m s) : s.n 16 = 10 := S.n 16 (Nat.lt_of_lt_of_le (Nat.le_of_ble_eq_true rfl) (f_lim_le m)) (Nat.le_of_ble_eq_true rfl) (by decide)
theorem t_17 {m : Nat} {s : fS} (S : sS m s) : s.t 17 = 6 := S.t 17 (Nat.lt_of_lt_of_le (Nat.le_of_ble_eq_true rfl) (f_lim_le m))
theorem t_18 {m : Nat} {s : fS} (S : sS m s) : s.t 18 = 102 := S.t 18 (Nat.lt_of_lt_of_le (Nat.le_of_ble_eq_true rfl) (f_lim_le m))
theorem u_18 {m : Nat} {s : fS} (S : sS m s) : s.t 18 < 128 ∧ ut (s.t 18) = 102 := by rw [t_18 S]; decide
theorem t_19 {m : Nat} {s : fS} (S : sS m s) : s.t 19 = 100 := S.t 19 (Nat.lt_of_lt_of_le (Nat.le_of_ble_eq_true rfl) (f_lim_le m))
theorem u_19 {m : Nat} {s : fS} (S : sS m s) : s.t 19 < 128 ∧ ut (s.t 19) = 100 := by rw [t_19 S]; decide
theorem t_20 {m : Nat} {s : fS} (S : sS m s) : s.t 20 = 100 := S.t 20 (Nat.lt_of_lt_of_le (Nat.le_of_ble_eq_true rfl) (f_lim_le m))
theorem u_20 {m : Nat} {s : fS} (S : sS m s) : s.t 20 < 128 ∧ ut (s.t 20) = 100 := by rw [t_20 S]; decide
theorem t_21 {m : Nat} {s : fS} (S : sS m s) : s.t 21 = 104 := S.t 21 (Nat.lt_of_lt_of_le (Nat.le_of_ble_eq_true rfl) (f_lim_le m))
theorem u_21 {m : Nat} {s : fS} (S : sS m s) : s.t 21 < 128 ∧ ut (s.t 21) = 104 := by rw [t_21 S]; decide
theorem a_21 {m b : Nat} {φ0 φ : Nat → Nat} {s0 s : fS} {h : eH} (R : fC m b φ0 s0 φ h s) : 21 = φ 21 := R.pn (t_21 R.S) (Nat.le_of_ble_eq_true rfl) (by decide)
theorem n_21 {m : Nat} {s : fS} (S : sS m s) : s.n 21 = 3000 := S.n 21 (Nat.lt_of_lt_of_le (Nat.le_of_ble_eq_true rfl) (f_lim_le m)) (Nat.le_of_ble_eq_true rfl) (by decide)
theorem t_22 {m : Nat} {s : fS} (S : sS m s) : s.t 22 = 7 := S.t 22 (Nat.lt_of_lt_of_le (Nat.le_of_ble_eq_true rfl) (f_lim_le m))
theorem t_23 {m : Nat} {s : fS} (S : sS m s) : s.t 23 = 8 := S.t 23 (Nat.lt_of_lt_of_le (Nat.le_of_ble_eq_true rfl) (f_lim_le m))
theorem t_24 {m : Nat} {s : fS} (S : sS m s) : s.t 24 = 100 := S.t 24 (Nat.lt_of_lt_of_le (Nat.le_of_ble_eq_true rfl) (f_lim_le m))
theorem u_24 {m : Nat} {s : fS} (S : sS m s) : s.t 24 < 128 ∧ ut (s.t 24) = 100 := by rw [t_24 S]; decide
theorem t_25 {m : Nat} {s : fS} (S : sS m s) : s.t 25 = 100 := S.t 25 (Nat.lt_of_lt_of_le (Nat.le_of_ble_eq_true rfl) (f_lim_le m))
theorem u_25 {m : Nat} {s : fS} (S : sS m s) : s.t 25 < 128 ∧ ut (s.t 25) = 100 := by rw [t_25 S]; decide
theorem t_26 {m : Nat} {s : fS} (S : sS m s) : s.t 26 = 100 := S.t 26 (Nat.lt_of_lt_of_le (Nat.le_of_ble_eq_true rfl) (f_lim_le m))
theorem u_26 {m : Nat} {s : fS} (S : sS m s) : s.t 26 < 128 ∧ ut (s.t 26) = 100 := by rw [t_26 S]; decide
theorem t_27 {m : Nat} {s : fS} (S : sS m s) : s.t 27 = 100 := S.t 27 (Nat.lt_of_lt_of_le (Nat.le_of_ble_eq_true rfl) (f_lim_le m))
theorem u_27 {m : Nat} {s : fS} (S : sS m s) : s.t 27 < 128 ∧ ut (s.t 27) = 100 := by rw [t_27 S]; decide
theorem a_27 {m b : Nat} {φ0 φ : Nat → Nat} {s0 s : fS} {h : eH} (R : fC m b φ0 s0 φ h s) : 27 = φ 27 := R.pn (t_27 R.S) (Nat.le_of_ble_eq_true rfl) (by decide)
theorem n_27 {m : Nat} {s : fS} (S : sS m s) : s.n 27 = 2096 := S.n 27 (Nat.lt_of_lt_of_le (Nat.le_of_ble_eq_true rfl) (f_lim_le m)) (Nat.le_of_ble_eq_true rfl) (by decide)
theorem t_28 {m : Nat} {s : fS} (S : sS m s) : s.t 28 = 100 := S.t 28 (Nat.lt_of_lt_of_le (Nat.le_of_ble_eq_true rfl) (f_lim_le m))
theorem u_28 {m : Nat} {s : fS} (S : sS m s) : s.t 28 < 128 ∧ ut (s.t 28) = 100 := by rw [t_28 S]; decide
theorem a_28 {m b : Nat} {φ0 φ : Nat → Nat} {s0 s : fS} {h : eH} (R : fC m b φ0 s0 φ h s) : 28 = φ 28 := R.pn (t_28 R.S) (Nat.le_of_ble_eq_true rfl) (by decide)
theorem n_28 {m : Nat} {s : fS} (S : sS m s) : s.n 28 = 2096 := S.n 28 (Nat.lt_of_lt_of_le (Nat.le_of_ble_eq_true rfl) (f_lim_le m)) (Nat.le_of_ble_eq_true rfl) (by decide)
theorem t_29 {m : Nat} {s : fS} (S : sS m s) : s.t 29 = 100 := S.t 29 (Nat.lt_of_lt_of_le (Nat.le_of_ble_eq_true rfl) (f_lim_le m))
theorem u_29 {m : Nat} {s : fS} (S : sS m s) : s.t 29 < 128 ∧ ut (s.t 29) = 100 := by rw [t_29 S]; decide
theorem t_30 {m : Nat} {s : fS} (S : sS m s) : s.t 30 = 100 := S.t 30 (Nat.lt_of_lt_of_le (Nat.le_of_ble_eq_true rfl) (f_lim_le m))
theorem u_30 {m : Nat} {s : fS} (S : sS m s) : s.t 30 < 128 ∧ ut (s.t 30) = 100 := by rw [t_30 S]; decide
theorem a_30 {m b : Nat} {φ0 φ : Nat → Nat} {s0 s : fS} {h : eH} (R : fC m b φ0 s0 φ h s) : 30 = φ 30 := R.pn (t_30 R.S) (Nat.le_of_ble_eq_true rfl) (by decide)
theorem n_30 {m : Nat} {s : fS} (S : sS m s) : s.n 30 = 2096 := S.n 30 (Nat.lt_of_lt_of_le (Nat.le_of_ble_eq_true rfl) (f_lim_le m)) (Nat.le_of_ble_eq_true rfl) (by decide)
theorem t_31 {m : Nat} {s : fS} (S : sS m s) : s.t 31 = 100 := S.t 31 (Nat.lt_of_lt_of_le (Nat.le_of_ble_eq_true rfl) (f_lim_le m))
theorem u_31 {m : Nat} {s : fS} (S : sS m s) : s.t 31 < 128 ∧ ut (s.t 31) = 100 := by rw [t_31 S]; decide
theorem t_32 {m : Nat} {s : fS} (S : sS m s) : s.t 32 = 100 := S.t 32 (Nat.lt_of_lt_of_le (Nat.le_of_ble_eq_true rfl) (f_lim_le m))
theorem u_32 {m : Nat} {s : fS} (S : sS m s) : s.t 32 < 128 ∧ ut (s.t 32) = 100 := by rw [t_32 S]; decide
theorem a_32 {m b : Nat} {φ0 φ : Nat → Nat} {s0 s : fS} {h : eH} (R : fC m b φ0 s0 φ h s) : 32 = φ 32 := R.pn (t_32 R.S) (Nat.le_of_ble_eq_true rfl) (by decide)
theorem n_32 {m : Nat} {s : fS} (S : sS m s) : s.n 32 = 100 := S.n 32 (Nat.lt_of_lt_of_le (Nat.le_of_ble_eq_true rfl) (f_lim_le m)) (Nat.le_of_ble_eq_true rfl) (by decide)
theorem t_33 {m : Nat} {s : fS} (S : sS m s) : s.t 33 = 100 := S.t 33 (Nat.lt_of_lt_of_le (Nat.le_of_ble_eq_true rfl) (f_lim_le m))
theorem u_33 {m : Nat} {s : fS} (S : sS m s) : s.t 33 < 128 ∧ ut (s.t 33) = 100 := by rw [t_33 S]; decide
theorem a_33 {m b : Nat} {φ0 φ : Nat → Nat} {s0 s : fS} {h : eH} (R : fC m b φ0 s0 φ h s) : 33 = φ 33 := R.pn (t_33 R.S) (Nat.le_of_ble_eq_true rfl) (by decide)
theorem n_33 {m : Nat} {s : fS} (S : sS m s) : s.n 33 = 100 := S.n 33 (Nat.lt_of_lt_of_le (Nat.le_of_ble_eq_true rfl) (f_lim_le m)) (Nat.le_of_ble_eq_true rfl) (by decide)
theorem t_34 {m : Nat} {s : fS} (S : sS m s) : s.t 34 = 103 := S.t 34 (Nat.lt_of_lt_of_le (Nat.le_of_ble_eq_true rfl) (f_lim_le m))
theorem u_34 {m : Nat} {s : fS} (S : sS m s) : s.t 34 < 128 ∧ ut (s.t 34) = 103 := by rw [t_34 S]; decide
theorem a_34 {m b : Nat} {φ0 φ : Nat → Nat} {s0 s : fS} {h : eH} (R : fC m b φ0 s0 φ h s) : 34 = φ 34 := R.pn (t_34 R.S) (Nat.le_of_ble_eq_true rfl) (by decide)
theorem n_34 {m : Nat} {s : fS} (S : sS m s) : s.n 34 = 100 := S.n 34 (Nat.lt_of_lt_of_le (Nat.le_of_ble_eq_true rfl) (f_lim_le m)) (Nat.le_of_ble_eq_true rfl) (by decide)
theorem t_35 {m : Nat} {s : fS} (S : sS m s) : s.t 35 = 103 := S.t 35 (Nat.lt_of_lt_of_le (Nat.le_of_ble_eq_true rfl) (f_lim_le m))
theorem u_35 {m : Nat} {s : fS} (S : sS m s) : s.t 35 < 128 ∧ ut (s.t 35) = 103 := by rw [t_35 S]; decide
theorem a_35 {m b : Nat} {φ0 φ : Nat → Nat} {s0 s : fS} {h : eH} (R : fC m b φ0 s0 φ h s) : 35 = φ 35 := R.pn (t_35 R.S) (Nat.le_of_ble_eq_true rfl) (by decide)
theorem n_35 {m : Nat} {s : fS} (S : sS m s) : s.n 35 = 100 := S.n 35 (Nat.lt_of_lt_of_le (Nat.le_of_ble_eq_true rfl) (f_lim_le m)) (Nat.le_of_ble_eq_true rfl) (by decide)
theorem t_36 {m : Nat} {s : fS} (S : sS m s) : s.t 36 = 103 := S.t 36 (Nat.lt_of_lt_of_le (Nat.le_of_ble_eq_true rfl) (f_lim_le m))
theorem u_36 {m : Nat} {s : fS} (S : sS m s) : s.t 36 < 128 ∧ ut (s.t 36) = 103 := by rw [t_36 S]; decide
theorem a_36 {m b : Nat} {φ0 φ : Nat → Nat} {s0 s : fS} {h : eH} (R : fC m b φ0 s0 φ h s) : 36 = φ 36 := R.pn (t_36 R.S) (Nat.le_of_ble_eq_true rfl) (by decide)
theorem n_36 {m : Nat} {s : fS} (S : sS m s) : s.n 36 = 100 := S.n 36 (Nat.lt_of_lt_of_le (Nat.le_of_ble_eq_true rfl) (f_lim_le m)) (Nat.le_of_ble_eq_true rfl) (by decide)
theorem t_37 {m : Nat} {s : fS} (S : sS m s) : s.t 37 = 100 := S.t 37 (Nat.lt_of_lt_of_le (Nat.le_of_ble_eq_true rfl) (f_lim_le m))
theorem u_37 {m : Nat} {s : fS} (S : sS m s) : s.t 37 < 128 ∧ ut (s.t 37) = 100 := by rw [t_37 S]; decide
theorem t_38 {m : Nat} {s : fS} (S : sS m s) : s.t 38 = 100 := S.t 38 (Nat.lt_of_lt_of_le (Nat.le_of_ble_eq_true rfl) (f_lim_le m))
theorem u_38 {m : Nat} {s : fS} (S : sS m s) : s.t 38 < 128 ∧ ut (s.t 38) = 100 := by rw [t_38 S]; decide
theorem a_38 {m b : Nat} {φ0 φ : Nat → Nat} {s0 s : fS} {h : eH} (R : fC m b φ0 s0 φ h s) : 38 = φ 38 := R.pn (t_38 R.S) (Nat.le_of_ble_eq_true rfl) (by decide)
theorem n_38 {m : Nat} {s : fS} (S : sS m s) : s.n 38 = 9 := S.n 38 (Nat.lt_of_lt_of_le (Nat.le_of_ble_eq_true rfl) (f_lim_le m)) (Nat.le_of_ble_eq_true rfl) (by decide)
theorem t_39 {m : Nat} {s : fS} (S : sS m s) : s.t 39 = 100 := S.t 39 (Nat.lt_of_lt_of_le (Nat.le_of_ble_eq_true rfl) (f_lim_le m))
theorem u_39 {m : Nat} {s : fS} (S : sS m s) : s.t 39 < 128 ∧ ut (s.t 39) = 100 := by rw [t_39 S]; decide
theorem a_39 {m b : Nat} {φ0 φ : Nat → Nat} {s0 s : fS} {h : eH} (R : fC m b φ0 s0 φ h s) : 39 = φ 39 := R.pn (t_39 R.S) (Nat.le_of_ble_eq_true rfl) (by decide)
theorem n_39 {m : Nat} {s : fS} (S : sS m s) : s.n 39 = 64 := S.n 39 (Nat.lt_of_lt_of_le (Nat.le_of_ble_eq_true rfl) (f_lim_le m)) (Nat.le_of_ble_eq_true rfl) (by decide)
theorem t_40 {m : Nat} {s : fS} (S : sS m s) : s.t 40 = 100 := S.t 40 (Nat.lt_of_lt_of_le (Nat.le_of_ble_eq_true rfl) (f_lim_le m))
theorem u_40 {m : Nat} {s : fS} (S : sS m s) : s.t 40 < 128 ∧ ut (s.t 40) = 100 := by rw [t_40 S]; decide
theorem a_40 {m b : Nat} {φ0 φ : Nat → Nat} {s0 s : fS} {h : eH} (R : fC m b φ0 s0 φ h s) : 40 = φ 40 := R.pn (t_40 R.S) (Nat.le_of_ble_eq_true rfl) (by decide)
theorem n_40 {m : Nat} {s : fS} (S : sS m s) : s.n 40 = 13 := S.n 40 (Nat.lt_of_lt_of_le (Nat.le_of_ble_eq_true rfl) (f_lim_le m)) (Nat.le_of_ble_eq_true rfl) (by decide)
theorem t_41 {m : Nat} {s : fS} (S : sS m s) : s.t 41 = 102 := S.t 41 (Nat.lt_of_lt_of_le (Nat.le_of_ble_eq_true rfl) (f_lim_le m))
theorem u_41 {m : Nat} {s : fS} (S : sS m s) : s.t 41 < 128 ∧ ut (s.t 41) = 102 := by rw [t_41 S]; decide
theorem a_41 {m b : Nat} {φ0 φ : Nat → Nat} {s0 s : fS} {h : eH} (R : fC m b φ0 s0 φ h s) : 41 = φ 41 := R.pn (t_41 R.S) (Nat.le_of_ble_eq_true rfl) (by decide)
theorem n_41 {m : Nat} {s : fS} (S : sS m s) : s.n 41 = 1640 := S.n 41 (Nat.lt_of_lt_of_le (Nat.le_of_ble_eq_true rfl) (f_lim_le m)) (Nat.le_of_ble_eq_true rfl) (by decide)
theorem t_42 {m : Nat} {s : fS} (S : sS m s) : s.t 42 = 100 := S.t 42 (Nat.lt_of_lt_of_le (Nat.le_of_ble_eq_true rfl) (f_lim_le m))
theorem u_42 {m : Nat} {s : fS} (S : sS m s) : s.t 42 < 128 ∧ ut (s.t 42) = 100 := by rw [t_42 S]; decide
theorem a_42 {m b : Nat} {φ0 φ : Nat → Nat} {s0 s : fS} {h : eH} (R : fC m b φ0 s0 φ h s) : 42 = φ 42 := R.pn (t_42 R.S) (Nat.le_of_ble_eq_true rfl) (by decide)
theorem n_42 {m : Nat} {s : fS} (S : sS m s) : s.n 42 = 336 := S.n 42 (Nat.lt_of_lt_of_le (Nat.le_of_ble_eq_true rfl) (f_lim_le m)) (Nat.le_of_ble_eq_true rfl) (by decide)
theorem t_43 {m : Nat} {s : fS} (S : sS m s) : s.t 43 = 100 := S.t 43 (Nat.lt_of_lt_of_le (Nat.le_of_ble_eq_true rfl) (f_lim_le m))
theorem u_43 {m : Nat} {s : fS} (S : sS m s) : s.t 43 < 128 ∧ ut (s.t 43) = 100 := by rw [t_43 S]; decide
theorem a_43 {m b : Nat} {φ0 φ : Nat → Nat} {s0 s : fS} {h : eH} (R : fC m b φ0 s0 φ h s) : 43 = φ 43 := R.pn (t_43 R.S) (Nat.le_of_ble_eq_true rfl) (by decide)
theorem n_43 {m : Nat} {s : fS} (S : sS m s) : s.n 43 = 4 := S.n 43 (Nat.lt_of_lt_of_le (Nat.le_of_ble_eq_true rfl) (f_lim_le m)) (Nat.le_of_ble_eq_true rfl) (by decide)
theorem t_44 {m : Nat} {s : fS} (S : sS m s) : s.t 44 = 9 := S.t 44 (Nat.lt_of_lt_of_le (Nat.le_of_ble_eq_true rfl) (f_lim_le m))
theorem t_45 {m : Nat} {s : fS} (S : sS m s) : s.t 45 = 100 := S.t 45 (Nat.lt_of_lt_of_le (Nat.le_of_ble_eq_true rfl) (f_lim_le m))
theorem u_45 {m : Nat} {s : fS} (S : sS m s) : s.t 45 < 128 ∧ ut (s.t 45) = 100 := by rw [t_45 S]; decide
theorem a_45 {m b : Nat} {φ0 φ : Nat → Nat} {s0 s : fS} {h : eH} (R : fC m b φ0 s0 φ h s) : 45 = φ 45 := R.pn (t_45 R.S) (Nat.le_of_ble_eq_true rfl) (by decide)
theorem n_45 {m : Nat} {s : fS} (S : sS m s) : s.n 45 = 4096 := S.n 45 (Nat.lt_of_lt_of_le (Nat.le_of_ble_eq_true rfl) (f_lim_le m)) (Nat.le_of_ble_eq_true rfl) (by decide)
theorem t_46 {m : Nat} {s : fS} (S : sS m s) : s.t 46 = 100 := S.t 46 (Nat.lt_of_lt_of_le (Nat.le_of_ble_eq_true rfl) (f_lim_le m))
theorem u_46 {m : Nat} {s : fS} (S : sS m s) : s.t 46 < 128 ∧ ut (s.t 46) = 100 := by rw [t_46 S]; decide
theorem t_47 {m : Nat} {s : fS} (S : sS m s) : s.t 47 = 100 := S.t 47 (Nat.lt_of_lt_of_le (Nat.le_of_ble_eq_true rfl) (f_lim_le m))
theorem u_47 {m : Nat} {s : fS} (S : sS m s) : s.t 47 < 128 ∧ ut (s.t 47) = 100 := by rw [t_47 S]; decide
theorem t_48 {m : Nat} {s : fS} (S : sS m s) : s.t 48 = 102 := S.t 48 (Nat.lt_of_lt_of_le (Nat.le_of_ble_eq_true rfl) (f_lim_le m))
theorem u_48 {m : Nat} {s : fS} (S : sS m s) : s.t 48 < 128 ∧ ut (s.t 48) = 102 := by rw [t_48 S]; decide
theorem t_49 {m : Nat} {s : fS} (S : sS m s) : s.t 49 = 102 := S.t 49 (Nat.lt_of_lt_of_le (Nat.le_of_ble_eq_true rfl) (f_lim_le m))
theorem u_49 {m : Nat} {s : fS} (S : sS m s) : s.t 49 < 128 ∧ ut (s.t 49) = 102 := by rw [t_49 S]; decide
theorem a_49 {m b : Nat} {φ0 φ : Nat → Nat} {s0 s : fS} {h : eH} (R : fC m b φ0 s0 φ h s) : 49 = φ 49 := R.pn (t_49 R.S) (Nat.le_of_ble_eq_true rfl) (by decide)
theorem n_49 {m : Nat} {s : fS} (S : sS m s) : s.n 49 = 40 := S.n 49 (Nat.lt_of_lt_of_le (Nat.le_of_ble_eq_true rfl) (f_lim_le m)) (Nat.le_of_ble_eq_true rfl) (by decide)
theorem t_50 {m : Nat} {s : fS} (S : sS m s) : s.t 50 = 10 := S.t 50 (Nat.lt_of_lt_of_le (Nat.le_of_ble_eq_true rfl) (f_lim_le m))
theorem t_51 {m : Nat} {s : fS} (S : sS m s) : s.t 51 = 102 := S.t 51 (Nat.lt_of_lt_of_le (Nat.le_of_ble_eq_true rfl) (f_lim_le m))
theorem u_51 {m : Nat} {s : fS} (S : sS m s) : s.t 51 < 128 ∧ ut (s.t 51) = 102 := by rw [t_51 S]; decide
theorem a_51 {m b : Nat} {φ0 φ : Nat → Nat} {s0 s : fS} {h : eH} (R : fC m b φ0 s0 φ h s) : 51 = φ 51 := R.pn (t_51 R.S) (Nat.le_of_ble_eq_true rfl) (by decide)
theorem n_51 {m : Nat} {s : fS} (S : sS m s) : s.n 51 = 65536 := S.n 51 (Nat.lt_of_lt_of_le (Nat.le_of_ble_eq_true rfl) (f_lim_le m)) (Nat.le_of_ble_eq_true rfl) (by decide)
theorem t_52 {m : Nat} {s : fS} (S : sS m s) : s.t 52 = 11 := S.t 52 (Nat.lt_of_lt_of_le (Nat.le_of_ble_eq_true rfl) (f_lim_le m))
theorem t_53 {m : Nat} {s : fS} (S : sS m s) : s.t 53 = 100 := S.t 53 (Nat.lt_of_lt_of_le (Nat.le_of_ble_eq_true rfl) (f_lim_le m))
theorem u_53 {m : Nat} {s : fS} (S : sS m s) : s.t 53 < 128 ∧ ut (s.t 53) = 100 := by rw [t_53 S]; decide
theorem a_53 {m b : Nat} {φ0 φ : Nat → Nat} {s0 s : fS} {h : eH} (R : fC m b φ0 s0 φ h s) : 53 = φ 53 := R.pn (t_53 R.S) (Nat.le_of_ble_eq_true rfl) (by decide)
theorem n_53 {m : Nat} {s : fS} (S : sS m s) : s.n 53 = 10000 := S.n 53 (Nat.lt_of_lt_of_le (Nat.le_of_ble_eq_true rfl) (f_lim_le m)) (Nat.le_of_ble_eq_true rfl) (by decide)
theorem t_54 {m : Nat} {s : fS} (S : sS m s) : s.t 54 = 100 := S.t 54 (Nat.lt_of_lt_of_le (Nat.le_of_ble_eq_true rfl) (f_lim_le m))
theorem u_54 {m : Nat} {s : fS} (S : sS m s) : s.t 54 < 128 ∧ ut (s.t 54) = 100 := by rw [t_54 S]; decide
theorem t_55 {m : Nat} {s : fS} (S : sS m s) : s.t 55 = 100 := S.t 55 (Nat.lt_of_lt_of_le (Nat.le_of_ble_eq_true rfl) (f_lim_le m))
theorem u_55 {m : Nat} {s : fS} (S : sS m s) : s.t 55 < 128 ∧ ut (s.t 55) = 100 := by rw [t_55 S]; decide
theorem t_56 {m : Nat} {s : fS} (S : sS m s) : s.t 56 = 100 := S.t 56 (Nat.lt_of_lt_of_le (Nat.le_of_ble_eq_true rfl) (f_lim_le m))
theorem u_56 {m : Nat} {s : fS} (S : sS m s) : s.t 56 < 128 ∧ ut (s.t 56) = 100 := by rw [t_56 S]; decide
theorem t_57 {m : Nat} {s : fS} (S : sS m s) : s.t 57 = 100 := S.t 57 (Nat.lt_of_lt_of_le (Nat.le_of_ble_eq_true rfl) (f_lim_le m))
theorem u_57 {m : Nat} {s : fS} (S : sS m s) : s.t 57 < 128 ∧ ut (s.t 57) = 100 := by rw [t_57 S]; decide
theorem t_58 {m : Nat} {s : fS} (S : sS m s) : s.t 58 = 12 := S.t 58 (Nat.lt_of_lt_of_le (Nat.le_of_ble_eq_true rfl) (f_lim_le m))
theorem t_59 {m : Nat} {s : fS} (S : sS m s) : s.t 59 = 100 := S.t 59 (Nat.lt_of_lt_of_le (Nat.le_of_ble_eq_true rfl) (f_lim_le m))
theorem u_59 {m : Nat} {s : fS} (S : sS m s) : s.t 59 < 128 ∧ ut (s.t 59) = 100 := by rw [t_59 S]; decide
theorem t_60 {m : Nat} {s : fS} (S : sS m s) : s.t 60 = 13 := S.t 60 (Nat.lt_of_lt_of_le (Nat.le_of_ble_eq_true rfl) (f_lim_le m))
theorem t_61 {m : Nat} {s : fS} (S : sS m s) : s.t 61 = 14 := S.t 61 (Nat.lt_of_lt_of_le (Nat.le_of_ble_eq_true rfl) (f_lim_le m))
theorem t_62 {m : Nat} {s : fS} (S : sS m s) : s.t 62 = 100 := S.t 62 (Nat.lt_of_lt_of_le (Nat.le_of_ble_eq_true rfl) (f_lim_le m))
theorem u_62 {m : Nat} {s : fS} (S : sS m s) : s.t 62 < 128 ∧ ut (s.t 62) = 100 := by rw [t_62 S]; decide
theorem t_63 {m : Nat} {s : fS} (S : sS m s) : s.t 63 = 100 := S.t 63 (Nat.lt_of_lt_of_le (Nat.le_of_ble_eq_true rfl) (f_lim_le m))
theorem u_63 {m : Nat} {s : fS} (S : sS m s) : s.t 63 < 128 ∧ ut (s.t 63) = 100 := by rw [t_63 S]; decide
theorem t_64 {m : Nat} {s : fS} (S : sS m s) : s.t 64 = 102 := S.t 64 (Nat.lt_of_lt_of_le (Nat.le_of_ble_eq_true rfl) (f_lim_le m))
theorem u_64 {m : Nat} {s : fS} (S : sS m s) : s.t 64 < 128 ∧ ut (s.t 64) = 102 := by rw [t_64 S]; decide
theorem t_65 {m : Nat} {s : fS} (S : sS m s) : s.t 65 = 100 := S.t 65 (Nat.lt_of_lt_of_le (Nat.le_of_ble_eq_true rfl) (f_lim_le m))
theorem u_65 {m : Nat} {s : fS} (S : sS m s) : s.t 65 < 128 ∧ ut (s.t 65) = 100 := by rw [t_65 S]; decide
theorem t_66 {m : Nat} {s : fS} (S : sS m s) : s.t 66 = 100 := S.t 66 (Nat.lt_of_lt_of_le (Nat.le_of_ble_eq_true rfl) (f_lim_le m))
theorem u_66 {m : Nat} {s : fS} (S : sS m s) : s.t 66 < 128 ∧ ut (s.t 66) = 100 := by rw [t_66 S]; decide
theorem t_67 {m : Nat} {s : fS} (S : sS m s) : s.t 67 = 100 := S.t 67 (Nat.lt_of_lt_of_le (Nat.le_of_ble_eq_true rfl) (f_lim_le m))
theorem u_67 {m : Nat} {s : fS} (S : sS m s) : s.t 67 < 128 ∧ ut (s.t 67) = 100 := by rw [t_67 S]; decide
theorem t_68 {m : Nat} {s : fS} (S : sS m s) : s.t 68 = 100 := S.t 68 (Nat.lt_of_lt_of_le (Nat.le_of_ble_eq_true rfl) (f_lim_le m))
theorem u_68 {m : Nat} {s : fS} (S : sS m s) : s.t 68 < 128 ∧ ut (s.t 68) = 100 := by rw [t_68 S]; decide
theorem t_69 {m : Nat} {s : fS} (S : sS m s) : s.t 69 = 100 := S.t 69 (Nat.lt_of_lt_of_le (Nat.le_of_ble_eq_true rfl) (f_lim_le m))
theorem u_69 {m : Nat} {s : fS} (S : sS m s) : s.t 69 < 128 ∧ ut (s.t 69) = 100 := by rw [t_69 S]; decide
theorem t_70 {m : Nat} {s : fS} (S : sS m s) : s.t 70 = 100 := S.t 70 (Nat.lt_of_lt_of_le (Nat.le_of_ble_eq_true rfl) (f_lim_le m))
theorem u_70 {m : Nat} {s : fS} (S : sS m s) : s.t 70 < 128 ∧ ut (s.t 70) = 100 := by rw [t_70 S]; decide
theorem t_71 {m : Nat} {s : fS} (S : sS m s) : s.t 71 = 100 := S.t 71 (Nat.lt_of_lt_of_le (Nat.le_of_ble_eq_true rfl) (f_lim_le m))
theorem u_71 {m : Nat} {s : fS} (S : sS m s) : s.t 71 < 128 ∧ ut (s.t 71) = 100 := by rw [t_71 S]; decide
theorem t_72 {m : Nat} {s : fS} (S : sS m s) : s.t 72 = 100 := S.t 72 (Nat.lt_of_lt_of_le (Nat.le_of_ble_eq_true rfl) (f_lim_le m))
theorem u_72 {m : Nat} {s : fS} (S : sS m s) : s.t 72 < 128 ∧ ut (s.t 72) = 100 := by rw [t_72 S]; decide
theorem t_73 {m : Nat} {s : fS} (S : sS m s) : s.t 73 = 103 := S.t 73 (Nat.lt_of_lt_of_le (Nat.le_of_ble_eq_true rfl) (f_lim_le m))
theorem u_73 {m : Nat} {s : fS} (S : sS m s) : s.t 73 < 128 ∧ ut (s.t 73) = 103 := by rw [t_73 S]; decide
theorem t_74 {m : Nat} {s : fS} (S : sS m s) : s.t 74 = 100 := S.t 74 (Nat.lt_of_lt_of_le (Nat.le_of_ble_eq_true rfl) (f_lim_le m))
theorem u_74 {m : Nat} {s : fS} (S : sS m s) : s.t 74 < 128 ∧ ut (s.t 74) = 100 := by rw [t_74 S]; decide
theorem a_74 {m b : Nat} {φ0 φ : Nat → Nat} {s0 s : fS} {h : eH} (R : fC m b φ0 s0 φ h s) : 74 = φ 74 := R.pn (t_74 R.S) (Nat.le_of_ble_eq_true rfl) (by decide)
theorem n_74 {m : Nat} {s : fS} (S : sS m s) : s.n 74 = 1000 := S.n 74 (Nat.lt_of_lt_of_le (Nat.le_of_ble_eq_true rfl) (f_lim_le m)) (Nat.le_of_ble_eq_true rfl) (by decide)
theorem t_75 {m : Nat} {s : fS} (S : sS m s) : s.t 75 = 15 := S.t 75 (Nat.lt_of_lt_of_le (Nat.le_of_ble_eq_true rfl) (f_lim_le m))
theorem t_76 {m : Nat} {s : fS} (S : sS m s) : s.t 76 = 100 := S.t 76 (Nat.lt_of_lt_of_le (Nat.le_of_ble_eq_true rfl) (f_lim_le m))
theorem u_76 {m : Nat} {s : fS} (S : sS m s) : s.t 76 < 128 ∧ ut (s.t 76) = 100 := by rw [t_76 S]; decide
theorem a_76 {m b : Nat} {φ0 φ : Nat → Nat} {s0 s : fS} {h : eH} (R : fC m b φ0 s0 φ h s) : 76 = φ 76 := R.pn (t_76 R.S) (Nat.le_of_ble_eq_true rfl) (by decide)
theorem n_76 {m : Nat} {s : fS} (S : sS m s) : s.n 76 = 512 := S.n 76 (Nat.lt_of_lt_of_le (Nat.le_of_ble_eq_true rfl) (f_lim_le m)) (Nat.le_of_ble_eq_true rfl) (by decide)
theorem t_77 {m : Nat} {s : fS} (S : sS m s) : s.t 77 = 100 := S.t 77 (Nat.lt_of_lt_of_le (Nat.le_of_ble_eq_true rfl) (f_lim_le m))
theorem u_77 {m : Nat} {s : fS} (S : sS m s) : s.t 77 < 128 ∧ ut (s.t 77) = 100 := by rw [t_77 S]; decide
theorem a_77 {m b : Nat} {φ0 φ : Nat → Nat} {s0 s : fS} {h : eH} (R : fC m b φ0 s0 φ h s) : 77 = φ 77 := R.pn (t_77 R.S) (Nat.le_of_ble_eq_true rfl) (by decide)
theorem n_77 {m : Nat} {s : fS} (S : sS m s) : s.n 77 = 300 := S.n 77 (Nat.lt_of_lt_of_le (Nat.le_of_ble_eq_true rfl) (f_lim_le m)) (Nat.le_of_ble_eq_true rfl) (by decide)
theorem t_78 {m : Nat} {s : fS} (S : sS m s) : s.t 78 = 100 := S.t 78 (Nat.lt_of_lt_of_le (Nat.le_of_ble_eq_true rfl) (f_lim_le m))
theorem u_78 {m : Nat} {s : fS} (S : sS m s) : s.t 78 < 128 ∧ ut (s.t 78) = 100 := by rw [t_78 S]; decide
theorem a_78 {m b : Nat} {φ0 φ : Nat → Nat} {s0 s : fS} {h : eH} (R : fC m b φ0 s0 φ h s) : 78 = φ 78 := R.pn (t_78 R.S) (Nat.le_of_ble_eq_true rfl) (by decide)
theorem n_78 {m : Nat} {s : fS} (S : sS m s) : s.n 78 = 300 := S.n 78 (Nat.lt_of_lt_of_le (Nat.le_of_ble_eq_true rfl) (f_lim_le m)) (Nat.le_of_ble_eq_true rfl) (by decide)
theorem t_79 {m : Nat} {s : fS} (S : sS m s) : s.t 79 = 101 := S.t 79 (Nat.lt_of_lt_of_le (Nat.le_of_ble_eq_true rfl) (f_lim_le m))
theorem u_79 {m : Nat} {s : fS} (S : sS m s) : s.t 79 < 128 ∧ ut (s.t 79) = 101 := by rw [t_79 S]; decide
theorem a_79 {m b : Nat} {φ0 φ : Nat → Nat} {s0 s : fS} {h : eH} (R : fC m b φ0 s0 φ h s) : 79 = φ 79 := R.pn (t_79 R.S) (Nat.le_of_ble_eq_true rfl) (by decide)
theorem n_79 {m : Nat} {s : fS} (S : sS m s) : s.n 79 = 300 := S.n 79 (Nat.lt_of_lt_of_le (Nat.le_of_ble_eq_true rfl) (f_lim_le m)) (Nat.le_of_ble_eq_true rfl) (by decide)
theorem t_80 {m : Nat} {s : fS} (S : sS m s) : s.t 80 = 102 := S.t 80 (Nat.lt_of_lt_of_le (Nat.le_of_ble_eq_true rfl) (f_lim_le m))
theorem u_80 {m : Nat} {s : fS} (S : sS m s) : s.t 80 < 128 ∧ ut (s.t 80) = 102 := by rw [t_80 S]; decide
theorem a_80 {m b : Nat} {φ0 φ : Nat → Nat} {s0 s : fS} {h : eH} (R : fC m b φ0 s0 φ h s) : 80 = φ 80 := R.pn (t_80 R.S) (Nat.le_of_ble_eq_true rfl) (by decide)
theorem n_80 {m : Nat} {s : fS} (S : sS m s) : s.n 80 = 8000 := S.n 80 (Nat.lt_of_lt_of_le (Nat.le_of_ble_eq_true rfl) (f_lim_le m)) (Nat.le_of_ble_eq_true rfl) (by decide)
theorem t_81 {m : Nat} {s : fS} (S : sS m s) : s.t 81 = 100 := S.t 81 (Nat.lt_of_lt_of_le (Nat.le_of_ble_eq_true rfl) (f_lim_le m))
theorem u_81 {m : Nat} {s : fS} (S : sS m s) : s.t 81 < 128 ∧ ut (s.t 81) = 100 := by rw [t_81 S]; decide
theorem a_81 {m b : Nat} {φ0 φ : Nat → Nat} {s0 s : fS} {h : eH} (R : fC m b φ0 s0 φ h s) : 81 = φ 81 := R.pn (t_81 R.S) (Nat.le_of_ble_eq_true rfl) (by decide)
theorem n_81 {m : Nat} {s : fS} (S : sS m s) : s.n 81 = 32769 := S.n 81 (Nat.lt_of_lt_of_le (Nat.le_of_ble_eq_true rfl) (f_lim_le m)) (Nat.le_of_ble_eq_true rfl) (by decide)
theorem t_82 {m : Nat} {s : fS} (S : sS m s) : s.t 82 = 101 := S.t 82 (Nat.lt_of_lt_of_le (Nat.le_of_ble_eq_true rfl) (f_lim_le m))
theorem u_82 {m : Nat} {s : fS} (S : sS m s) : s.t 82 < 128 ∧ ut (s.t 82) = 101 := by rw [t_82 S]; decide
theorem a_82 {m b : Nat} {φ0 φ : Nat → Nat} {s0 s : fS} {h : eH} (R : fC m b φ0 s0 φ h s) : 82 = φ 82 := R.pn (t_82 R.S) (Nat.le_of_ble_eq_true rfl) (by decide)
theorem n_82 {m : Nat} {s : fS} (S : sS m s) : s.n 82 = 32769 := S.n 82 (Nat.lt_of_lt_of_le (Nat.le_of_ble_eq_true rfl) (f_lim_le m)) (Nat.le_of_ble_eq_true rfl) (by decide)
theorem t_83 {m : Nat} {s : fS} (S : sS m s) : s.t 83 = 16 := S.t 83 (Nat.lt_of_lt_of_le (Nat.le_of_ble_eq_true rfl) (f_lim_le m))
theorem t_84 {m : Nat} {s : fS} (S : sS m s) : s.t 84 = 102 := S.t 84 (Nat.lt_of_lt_of_le (Nat.le_of_ble_eq_true rfl) (f_lim_le m))
theorem u_84 {m : Nat} {s : fS} (S : sS m s) : s.t 84 < 128 ∧ ut (s.t 84) = 102 := by rw [t_84 S]; decide
theorem a_84 {m b : Nat} {φ0 φ : Nat → Nat} {s0 s : fS} {h : eH} (R : fC m b φ0 s0 φ h s) : 84 = φ 84 := R.pn (t_84 R.S) (Nat.le_of_ble_eq_true rfl) (by decide)
theorem n_84 {m : Nat} {s : fS} (S : sS m s) : s.n 84 = 66 := S.n 84 (Nat.lt_of_lt_of_le (Nat.le_of_ble_eq_true rfl) (f_lim_le m)) (Nat.le_of_ble_eq_true rfl) (by decide)
theorem t_85 {m : Nat} {s : fS} (S : sS m s) : s.t 85 = 102 := S.t 85 (Nat.lt_of_lt_of_le (Nat.le_of_ble_eq_true rfl) (f_lim_le m))
theorem u_85 {m : Nat} {s : fS} (S : sS m s) : s.t 85 < 128 ∧ ut (s.t 85) = 102 := by rw [t_85 S]; decide
theorem a_85 {m b : Nat} {φ0 φ : Nat → Nat} {s0 s : fS} {h : eH} (R : fC m b φ0 s0 φ h s) : 85 = φ 85 := R.pn (t_85 R.S) (Nat.le_of_ble_eq_true rfl) (by decide)
theorem n_85 {m : Nat} {s : fS} (S : sS m s) : s.n 85 = 67 := S.n 85 (Nat.lt_of_lt_of_le (Nat.le_of_ble_eq_true rfl) (f_lim_le m)) (Nat.le_of_ble_eq_true rfl) (by decide)
theorem t_86 {m : Nat} {s : fS} (S : sS m s) : s.t 86 = 16 := S.t 86 (Nat.lt_of_lt_of_le (Nat.le_of_ble_eq_true rfl) (f_lim_le m))
theorem t_87 {m : Nat} {s : fS} (S : sS m s) : s.t 87 = 102 := S.t 87 (Nat.lt_of_lt_of_le (Nat.le_of_ble_eq_true rfl) (f_lim_le m))
theorem u_87 {m : Nat} {s : fS} (S : sS m s) : s.t 87 < 128 ∧ ut (s.t 87) = 102 := by rw [t_87 S]; decide
theorem a_87 {m b : Nat} {φ0 φ : Nat → Nat} {s0 s : fS} {h : eH} (R : fC m b φ0 s0 φ h s) : 87 = φ 87 := R.pn (t_87 R.S) (Nat.le_of_ble_eq_true rfl) (by decide)
theorem n_87 {m : Nat} {s : fS} (S : sS m s) : s.n 87 = 66 := S.n 87 (Nat.lt_of_lt_of_le (Nat.le_of_ble_eq_true rfl) (f_lim_le m)) (Nat.le_of_ble_eq_true rfl) (by decide)
theorem t_88 {m : Nat} {s : fS} (S : sS m s) : s.t 88 = 102 := S.t 88 (Nat.lt_of_lt_of_le (Nat.le_of_ble_eq_true rfl) (f_lim_le m))
theorem u_88 {m : Nat} {s : fS} (S : sS m s) : s.t 88 < 128 ∧ ut (s.t 88) = 102 := by rw [t_88 S]; decide
theorem a_88 {m b : Nat} {φ0 φ : Nat → Nat} {s0 s : fS} {h : eH} (R : fC m b φ0 s0 φ h s) : 88 = φ 88 := R.pn (t_88 R.S) (Nat.le_of_ble_eq_true rfl) (by decide)
theorem n_88 {m : Nat} {s : fS} (S : sS m s) : s.n 88 = 67 := S.n 88 (Nat.lt_of_lt_of_le (Nat.le_of_ble_eq_true rfl) (f_lim_le m)) (Nat.le_of_ble_eq_true rfl) (by decide)
theorem t_89 {m : Nat} {s : fS} (S : sS m s) : s.t 89 = 17 := S.t 89 (Nat.lt_of_lt_of_le (Nat.le_of_ble_eq_true rfl) (f_lim_le m))
theorem t_90 {m : Nat} {s : fS} (S : sS m s) : s.t 90 = 100 := S.t 90 (Nat.lt_of_lt_of_le (Nat.le_of_ble_eq_true rfl) (f_lim_le m))
theorem u_90 {m : Nat} {s : fS} (S : sS m s) : s.t 90 < 128 ∧ ut (s.t 90) = 100 := by rw [t_90 S]; decide
theorem a_90 {m b : Nat} {φ0 φ : Nat → Nat} {s0 s : fS} {h : eH} (R : fC m b φ0 s0 φ h s) : 90 = φ 90 := R.pn (t_90 R.S) (Nat.le_of_ble_eq_true rfl) (by decide)
theorem n_90 {m : Nat} {s : fS} (S : sS m s) : s.n 90 = 1132 := S.n 90 (Nat.lt_of_lt_of_le (Nat.le_of_ble_eq_true rfl) (f_lim_le m)) (Nat.le_of_ble_eq_true rfl) (by decide)
theorem t_91 {m : Nat} {s : fS} (S : sS m s) : s.t 91 = 100 := S.t 91 (Nat.lt_of_lt_of_le (Nat.le_of_ble_eq_true rfl) (f_lim_le m))
theorem u_91 {m : Nat} {s : fS} (S : sS m s) : s.t 91 < 128 ∧ ut (s.t 91) = 100 := by rw [t_91 S]; decide
theorem a_91 {m b : Nat} {φ0 φ : Nat → Nat} {s0 s : fS} {h : eH} (R : fC m b φ0 s0 φ h s) : 91 = φ 91 := R.pn (t_91 R.S) (Nat.le_of_ble_eq_true rfl) (by decide)
theorem n_91 {m : Nat} {s : fS} (S : sS m s) : s.n 91 = 1132 := S.n 91 (Nat.lt_of_lt_of_le (Nat.le_of_ble_eq_true rfl) (f_lim_le m)) (Nat.le_of_ble_eq_true rfl) (by decide)
theorem t_92 {m : Nat} {s : fS} (S : sS m s) : s.t 92 = 100 := S.t 92 (Nat.lt_of_lt_of_le (Nat.le_of_ble_eq_true rfl) (f_lim_le m))
theorem u_92 {m : Nat} {s : fS} (S : sS m s) : s.t 92 < 128 ∧ ut (s.t 92) = 100 := by rw [t_92 S]; decide
theorem a_92 {m b : Nat} {φ0 φ : Nat → Nat} {s0 s : fS} {h : eH} (R : fC m b φ0 s0 φ h s) : 92 = φ 92 := R.pn (t_92 R.S) (Nat.le_of_ble_eq_true rfl) (by decide)
theorem n_92 {m : Nat} {s : fS} (S : sS m s) : s.n 92 = 1132 := S.n 92 (Nat.lt_of_lt_of_le (Nat.le_of_ble_eq_true rfl) (f_lim_le m)) (Nat.le_of_ble_eq_true rfl) (by decide)
theorem t_93 {m : Nat} {s : fS} (S : sS m s) : s.t 93 = 100 := S.t 93 (Nat.lt_of_lt_of_le (Nat.le_of_ble_eq_true rfl) (f_lim_le m))
theorem u_93 {m : Nat} {s : fS} (S : sS m s) : s.t 93 < 128 ∧ ut (s.t 93) = 100 := by rw [t_93 S]; decide
theorem a_93 {m b : Nat} {φ0 φ : Nat → Nat} {s0 s : fS} {h : eH} (R : fC m b φ0 s0 φ h s) : 93 = φ 93 := R.pn (t_93 R.S) (Nat.le_of_ble_eq_true rfl) (by decide)
theorem n_93 {m : Nat} {s : fS} (S : sS m s) : s.n 93 = 1132 := S.n 93 (Nat.lt_of_lt_of_le (Nat.le_of_ble_eq_true rfl) (f_lim_le m)) (Nat.le_of_ble_eq_true rfl) (by decide)
theorem t_94 {m : Nat} {s : fS} (S : sS m s) : s.t 94 = 18 := S.t 94 (Nat.lt_of_lt_of_le (Nat.le_of_ble_eq_true rfl) (f_lim_le m))
theorem t_95 {m : Nat} {s : fS} (S : sS m s) : s.t 95 = 101 := S.t 95 (Nat.lt_of_lt_of_le (Nat.le_of_ble_eq_true rfl) (f_lim_le m))
theorem u_95 {m : Nat} {s : fS} (S : sS m s) : s.t 95 < 128 ∧ ut (s.t 95) = 101 := by rw [t_95 S]; decide
theorem a_95 {m b : Nat} {φ0 φ : Nat → Nat} {s0 s : fS} {h : eH} (R : fC m b φ0 s0 φ h s) : 95 = φ 95 := R.pn (t_95 R.S) (Nat.le_of_ble_eq_true rfl) (by decide)
theorem n_95 {m : Nat} {s : fS} (S : sS m s) : s.n 95 = 4 := S.n 95 (Nat.lt_of_lt_of_le (Nat.le_of_ble_eq_true rfl) (f_lim_le m)) (Nat.le_of_ble_eq_true rfl) (by decide)
theorem t_96 {m : Nat} {s : fS} (S : sS m s) : s.t 96 = 101 := S.t 96 (Nat.lt_of_lt_of_le (Nat.le_of_ble_eq_true rfl) (f_lim_le m))
theorem u_96 {m : Nat} {s : fS} (S : sS m s) : s.t 96 < 128 ∧ ut (s.t 96) = 101 := by rw [t_96 S]; decide
theorem a_96 {m b : Nat} {φ0 φ : Nat → Nat} {s0 s : fS} {h : eH} (R : fC m b φ0 s0 φ h s) : 96 = φ 96 := R.pn (t_96 R.S) (Nat.le_of_ble_eq_true rfl) (by decide)
theorem n_96 {m : Nat} {s : fS} (S : sS m s) : s.n 96 = 4 := S.n 96 (Nat.lt_of_lt_of_le (Nat.le_of_ble_eq_true rfl) (f_lim_le m)) (Nat.le_of_ble_eq_true rfl) (by decide)
theorem t_97 {m : Nat} {s : fS} (S : sS m s) : s.t 97 = 19 := S.t 97 (Nat.lt_of_lt_of_le (Nat.le_of_ble_eq_true rfl) (f_lim_le m))
theorem t_98 {m : Nat} {s : fS} (S : sS m s) : s.t 98 = 101 := S.t 98 (Nat.lt_of_lt_of_le (Nat.le_of_ble_eq_true rfl) (f_lim_le m))
theorem u_98 {m : Nat} {s : fS} (S : sS m s) : s.t 98 < 128 ∧ ut (s.t 98) = 101 := by rw [t_98 S]; decide
theorem a_98 {m b : Nat} {φ0 φ : Nat → Nat} {s0 s : fS} {h : eH} (R : fC m b φ0 s0 φ h s) : 98 = φ 98 := R.pn (t_98 R.S) (Nat.le_of_ble_eq_true rfl) (by decide)
theorem n_98 {m : Nat} {s : fS} (S : sS m s) : s.n 98 = 18000 := S.n 98 (Nat.lt_of_lt_of_le (Nat.le_of_ble_eq_true rfl) (f_lim_le m)) (Nat.le_of_ble_eq_true rfl) (by decide)
theorem t_99 {m : Nat} {s : fS} (S : sS m s) : s.t 99 = 104 := S.t 99 (Nat.lt_of_lt_of_le (Nat.le_of_ble_eq_true rfl) (f_lim_le m))
theorem u_99 {m : Nat} {s : fS} (S : sS m s) : s.t 99 < 128 ∧ ut (s.t 99) = 104 := by rw [t_99 S]; decide
theorem a_99 {m b : Nat} {φ0 φ : Nat → Nat} {s0 s : fS} {h : eH} (R : fC m b φ0 s0 φ h s) : 99 = φ 99 := R.pn (t_99 R.S) (Nat.le_of_ble_eq_true rfl) (by decide)
theorem n_99 {m : Nat} {s : fS} (S : sS m s) : s.n 99 = 10 := S.n 99 (Nat.lt_of_lt_of_le (Nat.le_of_ble_eq_true rfl) (f_lim_le m)) (Nat.le_of_ble_eq_true rfl) (by decide)
theorem t_100 {m : Nat} {s : fS} (S : sS m s) : s.t 100 = 101 := S.t 100 (Nat.lt_of_lt_of_le (Nat.le_of_ble_eq_true rfl) (f_lim_le m))
theorem u_100 {m : Nat} {s : fS} (S : sS m s) : s.t 100 < 128 ∧ ut (s.t 100) = 101 := by rw [t_100 S]; decide
theorem a_100 {m b : Nat} {φ0 φ : Nat → Nat} {s0 s : fS} {h : eH} (R : fC m b φ0 s0 φ h s) : 100 = φ 100 := R.pn (t_100 R.S) (Nat.le_of_ble_eq_true rfl) (by decide)
theorem n_100 {m : Nat} {s : fS} (S : sS m s) : s.n 100 = 10 := S.n 100 (Nat.lt_of_lt_of_le (Nat.le_of_ble_eq_true rfl) (f_lim_le m)) (Nat.le_of_ble_eq_true rfl) (by decide)
theorem t_101 {m : Nat} {s : fS} (S : sS m s) : s.t 101 = 101 := S.t 101 (Nat.lt_of_lt_of_le (Nat.le_of_ble_eq_true rfl) (f_lim_le m))
theorem u_101 {m : Nat} {s : fS} (S : sS m s) : s.t 101 < 128 ∧ ut (s.t 101) = 101 := by rw [t_101 S]; decide
theorem a_101 {m b : Nat} {φ0 φ : Nat → Nat} {s0 s : fS} {h : eH} (R : fC m b φ0 s0 φ h s) : 101 = φ 101 := R.pn (t_101 R.S) (Nat.le_of_ble_eq_true rfl) (by decide)
theorem n_101 {m : Nat} {s : fS} (S : sS m s) : s.n 101 = 10 := S.n 101 (Nat.lt_of_lt_of_le (Nat.le_of_ble_eq_true rfl) (f_lim_le m)) (Nat.le_of_ble_eq_true rfl) (by decide)
theorem t_102 {m : Nat} {s : fS} (S : sS m s) : s.t 102 = 100 := S.t 102 (Nat.lt_of_lt_of_le (Nat.le_of_ble_eq_true rfl) (f_lim_le m))
theorem u_102 {m : Nat} {s : fS} (S : sS m s) : s.t 102 < 128 ∧ ut (s.t 102) = 100 := by rw [t_102 S]; decide
theorem a_102 {m b : Nat} {φ0 φ : Nat → Nat} {s0 s : fS} {h : eH} (R : fC m b φ0 s0 φ h s) : 102 = φ 102 := R.pn (t_102 R.S) (Nat.le_of_ble_eq_true rfl) (by decide)
theorem n_102 {m : Nat} {s : fS} (S : sS m s) : s.n 102 = 10 := S.n 102 (Nat.lt_of_lt_of_le (Nat.le_of_ble_eq_true rfl) (f_lim_le m)) (Nat.le_of_ble_eq_true rfl) (by decide)
theorem t_103 {m : Nat} {s : fS} (S : sS m s) : s.t 103 = 20 := S.t 103 (Nat.lt_of_lt_of_le (Nat.le_of_ble_eq_true rfl) (f_lim_le m))
theorem t_104 {m : Nat} {s : fS} (S : sS m s) : s.t 104 = 21 := S.t 104 (Nat.lt_of_lt_of_le (Nat.le_of_ble_eq_true rfl) (f_lim_le m))
theorem t_105 {m : Nat} {s : fS} (S : sS m s) : s.t 105 = 102 := S.t 105 (Nat.lt_of_lt_of_le (Nat.le_of_ble_eq_true rfl) (f_lim_le m))
theorem u_105 {m : Nat} {s : fS} (S : sS m s) : s.t 105 < 128 ∧ ut (s.t 105) = 102 := by rw [t_105 S]; decide
theorem a_105 {m b : Nat} {φ0 φ : Nat → Nat} {s0 s : fS} {h : eH} (R : fC m b φ0 s0 φ h s) : 105 = φ 105 := R.pn (t_105 R.S) (Nat.le_of_ble_eq_true rfl) (by decide)
theorem n_105 {m : Nat} {s : fS} (S : sS m s) : s.n 105 = 2003 := S.n 105 (Nat.lt_of_lt_of_le (Nat.le_of_ble_eq_true rfl) (f_lim_le m)) (Nat.le_of_ble_eq_true rfl) (by decide)
theorem t_106 {m : Nat} {s : fS} (S : sS m s) : s.t 106 = 100 := S.t 106 (Nat.lt_of_lt_of_le (Nat.le_of_ble_eq_true rfl) (f_lim_le m))
theorem u_106 {m : Nat} {s : fS} (S : sS m s) : s.t 106 < 128 ∧ ut (s.t 106) = 100 := by rw [t_106 S]; decide
theorem a_106 {m b : Nat} {φ0 φ : Nat → Nat} {s0 s : fS} {h : eH} (R : fC m b φ0 s0 φ h s) : 106 = φ 106 := R.pn (t_106 R.S) (Nat.le_of_ble_eq_true rfl) (by decide)
theorem n_106 {m : Nat} {s : fS} (S : sS m s) : s.n 106 = 2003 := S.n 106 (Nat.lt_of_lt_of_le (Nat.le_of_ble_eq_true rfl) (f_lim_le m)) (Nat.le_of_ble_eq_true rfl) (by decide)
theorem t_107 {m : Nat} {s : fS} (S : sS m s) : s.t 107 = 100 := S.t 107 (Nat.lt_of_lt_of_le (Nat.le_of_ble_eq_true rfl) (f_lim_le m))
theorem u_107 {m : Nat} {s : fS} (S : sS m s) : s.t 107 < 128 ∧ ut (s.t 107) = 100 := by rw [t_107 S]; decide
theorem a_107 {m b : Nat} {φ0 φ : Nat → Nat} {s0 s : fS} {h : eH} (R : fC m b φ0 s0 φ h s) : 107 = φ 107 := R.pn (t_107 R.S) (Nat.le_of_ble_eq_true rfl) (by decide)
theorem n_107 {m : Nat} {s : fS} (S : sS m s) : s.n 107 = 2003 := S.n 107 (Nat.lt_of_lt_of_le (Nat.le_of_ble_eq_true rfl) (f_lim_le m)) (Nat.le_of_ble_eq_true rfl) (by decide)
theorem t_108 {m : Nat} {s : fS} (S : sS m s) : s.t 108 = 100 := S.t 108 (Nat.lt_of_lt_of_le (Nat.le_of_ble_eq_true rfl) (f_lim_le m))
theorem u_108 {m : Nat} {s : fS} (S : sS m s) : s.t 108 < 128 ∧ ut (s.t 108) = 100 := by rw [t_108 S]; decide
theorem a_108 {m b : Nat} {φ0 φ : Nat → Nat} {s0 s : fS} {h : eH} (R : fC m b φ0 s0 φ h s) : 108 = φ 108 := R.pn (t_108 R.S) (Nat.le_of_ble_eq_true rfl) (by decide)
theorem n_108 {m : Nat} {s : fS} (S : sS m s) : s.n 108 = 2003 := S.n 108 (Nat.lt_of_lt_of_le (Nat.le_of_ble_eq_true rfl) (f_lim_le m)) (Nat.le_of_ble_eq_true rfl) (by decide)
theorem t_109 {m : Nat} {s : fS} (S : sS m s) : s.t 109 = 100 := S.t 109 (Nat.lt_of_lt_of_le (Nat.le_of_ble_eq_true rfl) (f_lim_le m))
theorem u_109 {m : Nat} {s : fS} (S : sS m s) : s.t 109 < 128 ∧ ut (s.t 109) = 100 := by rw [t_109 S]; decide
theorem a_109 {m b : Nat} {φ0 φ : Nat → Nat} {s0 s : fS} {h : eH} (R : fC m b φ0 s0 φ h s) : 109 = φ 109 := R.pn (t_109 R.S) (Nat.le_of_ble_eq_true rfl) (by decide)
theorem n_109 {m : Nat} {s : fS} (S : sS m s) : s.n 109 = 2003 := S.n 109 (Nat.lt_of_lt_of_le (Nat.le_of_ble_eq_true rfl) (f_lim_le m)) (Nat.le_of_ble_eq_true rfl) (by decide)
theorem t_110 {m : Nat} {s : fS} (S : sS m s) : s.t 110 = 22 := S.t 110 (Nat.lt_of_lt_of_le (Nat.le_of_ble_eq_true rfl) (f_lim_le m))
theorem t_111 {m : Nat} {s : fS} (S : sS m s) : s.t 111 = 101 := S.t 111 (Nat.lt_of_lt_of_le (Nat.le_of_ble_eq_true rfl) (f_lim_le m))
theorem u_111 {m : Nat} {s : fS} (S : sS m s) : s.t 111 < 128 ∧ ut (s.t 111) = 101 := by rw [t_111 S]; decide
theorem a_111 {m b : Nat} {φ0 φ : Nat → Nat} {s0 s : fS} {h : eH} (R : fC m b φ0 s0 φ h s) : 111 = φ 111 := R.pn (t_111 R.S) (Nat.le_of_ble_eq_true rfl) (by decide)
theorem n_111 {m : Nat} {s : fS} (S : sS m s) : s.n 111 = 2004 := S.n 111 (Nat.lt_of_lt_of_le (Nat.le_of_ble_eq_true rfl) (f_lim_le m)) (Nat.le_of_ble_eq_true rfl) (by decide)
theorem t_112 {m : Nat} {s : fS} (S : sS m s) : s.t 112 = 101 := S.t 112 (Nat.lt_of_lt_of_le (Nat.le_of_ble_eq_true rfl) (f_lim_le m))
theorem u_112 {m : Nat} {s : fS} (S : sS m s) : s.t 112 < 128 ∧ ut (s.t 112) = 101 := by rw [t_112 S]; decide
theorem a_112 {m b : Nat} {φ0 φ : Nat → Nat} {s0 s : fS} {h : eH} (R : fC m b φ0 s0 φ h s) : 112 = φ 112 := R.pn (t_112 R.S) (Nat.le_of_ble_eq_true rfl) (by decide)
theorem n_112 {m : Nat} {s : fS} (S : sS m s) : s.n 112 = 2004 := S.n 112 (Nat.lt_of_lt_of_le (Nat.le_of_ble_eq_true rfl) (f_lim_le m)) (Nat.le_of_ble_eq_true rfl) (by decide)
theorem t_113 {m : Nat} {s : fS} (S : sS m s) : s.t 113 = 101 := S.t 113 (Nat.lt_of_lt_of_le (Nat.le_of_ble_eq_true rfl) (f_lim_le m))
theorem u_113 {m : Nat} {s : fS} (S : sS m s) : s.t 113 < 128 ∧ ut (s.t 113) = 101 := by rw [t_113 S]; decide
theorem a_113 {m b : Nat} {φ0 φ : Nat → Nat} {s0 s : fS} {h : eH} (R : fC m b φ0 s0 φ h s) : 113 = φ 113 := R.pn (t_113 R.S) (Nat.le_of_ble_eq_true rfl) (by decide)
theorem n_113 {m : Nat} {s : fS} (S : sS m s) : s.n 113 = 8016 := S.n 113 (Nat.lt_of_lt_of_le (Nat.le_of_ble_eq_true rfl) (f_lim_le m)) (Nat.le_of_ble_eq_true rfl) (by decide)
theorem t_114 {m : Nat} {s : fS} (S : sS m s) : s.t 114 = 103 := S.t 114 (Nat.lt_of_lt_of_le (Nat.le_of_ble_eq_true rfl) (f_lim_le m))
theorem u_114 {m : Nat} {s : fS} (S : sS m s) : s.t 114 < 128 ∧ ut (s.t 114) = 103 := by rw [t_114 S]; decide
theorem a_114 {m b : Nat} {φ0 φ : Nat → Nat} {s0 s : fS} {h : eH} (R : fC m b φ0 s0 φ h s) : 114 = φ 114 := R.pn (t_114 R.S) (Nat.le_of_ble_eq_true rfl) (by decide)
theorem n_114 {m : Nat} {s : fS} (S : sS m s) : s.n 114 = 2003 := S.n 114 (Nat.lt_of_lt_of_le (Nat.le_of_ble_eq_true rfl) (f_lim_le m)) (Nat.le_of_ble_eq_true rfl) (by decide)
theorem t_115 {m : Nat} {s : fS} (S : sS m s) : s.t 115 = 100 := S.t 115 (Nat.lt_of_lt_of_le (Nat.le_of_ble_eq_true rfl) (f_lim_le m))
theorem u_115 {m : Nat} {s : fS} (S : sS m s) : s.t 115 < 128 ∧ ut (s.t 115) = 100 := by rw [t_115 S]; decide
theorem a_115 {m b : Nat} {φ0 φ : Nat → Nat} {s0 s : fS} {h : eH} (R : fC m b φ0 s0 φ h s) : 115 = φ 115 := R.pn (t_115 R.S) (Nat.le_of_ble_eq_true rfl) (by decide)
theorem n_115 {m : Nat} {s : fS} (S : sS m s) : s.n 115 = 2003 := S.n 115 (Nat.lt_of_lt_of_le (Nat.le_of_ble_eq_true rfl) (f_lim_le m)) (Nat.le_of_ble_eq_true rfl) (by decide)
theorem t_116 {m : Nat} {s : fS} (S : sS m s) : s.t 116 = 101 := S.t 116 (Nat.lt_of_lt_of_le (Nat.le_of_ble_eq_true rfl) (f_lim_le m))
theorem u_116 {m : Nat} {s : fS} (S : sS m s) : s.t 116 < 128 ∧ ut (s.t 116) = 101 := by rw [t_116 S]; decide
theorem a_116 {m b : Nat} {φ0 φ : Nat → Nat} {s0 s : fS} {h : eH} (R : fC m b φ0 s0 φ h s) : 116 = φ 116 := R.pn (t_116 R.S) (Nat.le_of_ble_eq_true rfl) (by decide)
theorem n_116 {m : Nat} {s : fS} (S : sS m s) : s.n 116 = 4 := S.n 116 (Nat.lt_of_lt_of_le (Nat.le_of_ble_eq_true rfl) (f_lim_le m)) (Nat.le_of_ble_eq_true rfl) (by decide)
theorem t_117 {m : Nat} {s : fS} (S : sS m s) : s.t 117 = 100 := S.t 117 (Nat.lt_of_lt_of_le (Nat.le_of_ble_eq_true rfl) (f_lim_le m))
theorem u_117 {m : Nat} {s : fS} (S : sS m s) : s.t 117 < 128 ∧ ut (s.t 117) = 100 := by rw [t_117 S]; decide
theorem a_117 {m b : Nat} {φ0 φ : Nat → Nat} {s0 s : fS} {h : eH} (R : fC m b φ0 s0 φ h s) : 117 = φ 117 := R.pn (t_117 R.S) (Nat.le_of_ble_eq_true rfl) (by decide)
theorem n_117 {m : Nat} {s : fS} (S : sS m s) : s.n 117 = 10 := S.n 117 (Nat.lt_of_lt_of_le (Nat.le_of_ble_eq_true rfl) (f_lim_le m)) (Nat.le_of_ble_eq_true rfl) (by decide)
theorem t_118 {m : Nat} {s : fS} (S : sS m s) : s.t 118 = 100 := S.t 118 (Nat.lt_of_lt_of_le (Nat.le_of_ble_eq_true rfl) (f_lim_le m))
theorem u_118 {m : Nat} {s : fS} (S : sS m s) : s.t 118 < 128 ∧ ut (s.t 118) = 100 := by rw [t_118 S]; decide
theorem a_118 {m b : Nat} {φ0 φ : Nat → Nat} {s0 s : fS} {h : eH} (R : fC m b φ0 s0 φ h s) : 118 = φ 118 := R.pn (t_118 R.S) (Nat.le_of_ble_eq_true rfl) (by decide)
theorem n_118 {m : Nat} {s : fS} (S : sS m s) : s.n 118 = 20 := S.n 118 (Nat.lt_of_lt_of_le (Nat.le_of_ble_eq_true rfl) (f_lim_le m)) (Nat.le_of_ble_eq_true rfl) (by decide)
theorem t_119 {m : Nat} {s : fS} (S : sS m s) : s.t 119 = 100 := S.t 119 (Nat.lt_of_lt_of_le (Nat.le_of_ble_eq_true rfl) (f_lim_le m))
theorem u_119 {m : Nat} {s : fS} (S : sS m s) : s.t 119 < 128 ∧ ut (s.t 119) = 100 := by rw [t_119 S]; decide
theorem a_119 {m b : Nat} {φ0 φ : Nat → Nat} {s0 s : fS} {h : eH} (R : fC m b φ0 s0 φ h s) : 119 = φ 119 := R.pn (t_119 R.S) (Nat.le_of_ble_eq_true rfl) (by decide)
theorem n_119 {m : Nat} {s : fS} (S : sS m s) : s.n 119 = 12 := S.n 119 (Nat.lt_of_lt_of_le (Nat.le_of_ble_eq_true rfl) (f_lim_le m)) (Nat.le_of_ble_eq_true rfl) (by decide)
theorem t_120 {m : Nat} {s : fS} (S : sS m s) : s.t 120 = 23 := S.t 120 (Nat.lt_of_lt_of_le (Nat.le_of_ble_eq_true rfl) (f_lim_le m))
theorem t_121 {m : Nat} {s : fS} (S : sS m s) : s.t 121 = 24 := S.t 121 (Nat.lt_of_lt_of_le (Nat.le_of_ble_eq_true rfl) (f_lim_le m))
theorem t_122 {m : Nat} {s : fS} (S : sS m s) : s.t 122 = 100 := S.t 122 (Nat.lt_of_lt_of_le (Nat.le_of_ble_eq_true rfl) (f_lim_le m))
theorem u_122 {m : Nat} {s : fS} (S : sS m s) : s.t 122 < 128 ∧ ut (s.t 122) = 100 := by rw [t_122 S]; decide
theorem a_122 {m b : Nat} {φ0 φ : Nat → Nat} {s0 s : fS} {h : eH} (R : fC m b φ0 s0 φ h s) : 122 = φ 122 := R.pn (t_122 R.S) (Nat.le_of_ble_eq_true rfl) (by decide)
theorem n_122 {m : Nat} {s : fS} (S : sS m s) : s.n 122 = 8001 := S.n 122 (Nat.lt_of_lt_of_le (Nat.le_of_ble_eq_true rfl) (f_lim_le m)) (Nat.le_of_ble_eq_true rfl) (by decide)
theorem t_123 {m : Nat} {s : fS} (S : sS m s) : s.t 123 = 100 := S.t 123 (Nat.lt_of_lt_of_le (Nat.le_of_ble_eq_true rfl) (f_lim_le m))
theorem u_123 {m : Nat} {s : fS} (S : sS m s) : s.t 123 < 128 ∧ ut (s.t 123) = 100 := by rw [t_123 S]; decide
theorem a_123 {m b : Nat} {φ0 φ : Nat → Nat} {s0 s : fS} {h : eH} (R : fC m b φ0 s0 φ h s) : 123 = φ 123 := R.pn (t_123 R.S) (Nat.le_of_ble_eq_true rfl) (by decide)
theorem n_123 {m : Nat} {s : fS} (S : sS m s) : s.n 123 = 8001 := S.n 123 (Nat.lt_of_lt_of_le (Nat.le_of_ble_eq_true rfl) (f_lim_le m)) (Nat.le_of_ble_eq_true rfl) (by decide)
theorem t_124 {m : Nat} {s : fS} (S : sS m s) : s.t 124 = 102 := S.t 124 (Nat.lt_of_lt_of_le (Nat.le_of_ble_eq_true rfl) (f_lim_le m))
theorem u_124 {m : Nat} {s : fS} (S : sS m s) : s.t 124 < 128 ∧ ut (s.t 124) = 102 := by rw [t_124 S]; decide
theorem a_124 {m b : Nat} {φ0 φ : Nat → Nat} {s0 s : fS} {h : eH} (R : fC m b φ0 s0 φ h s) : 124 = φ 124 := R.pn (t_124 R.S) (Nat.le_of_ble_eq_true rfl) (by decide)
theorem n_124 {m : Nat} {s : fS} (S : sS m s) : s.n 124 = 8001 := S.n 124 (Nat.lt_of_lt_of_le (Nat.le_of_ble_eq_true rfl) (f_lim_le m)) (Nat.le_of_ble_eq_true rfl) (by decide)
theorem t_125 {m : Nat} {s : fS} (S : sS m s) : s.t 125 = 101 := S.t 125 (Nat.lt_of_lt_of_le (Nat.le_of_ble_eq_true rfl) (f_lim_le m))
theorem u_125 {m : Nat} {s : fS} (S : sS m s) : s.t 125 < 128 ∧ ut (s.t 125) = 101 := by rw [t_125 S]; decide
theorem a_125 {m b : Nat} {φ0 φ : Nat → Nat} {s0 s : fS} {h : eH} (R : fC m b φ0 s0 φ h s) : 125 = φ 125 := R.pn (t_125 R.S) (Nat.le_of_ble_eq_true rfl) (by decide)
theorem n_125 {m : Nat} {s : fS} (S : sS m s) : s.n 125 = 8001 := S.n 125 (Nat.lt_of_lt_of_le (Nat.le_of_ble_eq_true rfl) (f_lim_le m)) (Nat.le_of_ble_eq_true rfl) (by decide)
theorem t_126 {m : Nat} {s : fS} (S : sS m s) : s.t 126 = 100 := S.t 126 (Nat.lt_of_lt_of_le (Nat.le_of_ble_eq_true rfl) (f_lim_le m))
theorem u_126 {m : Nat} {s : fS} (S : sS m s) : s.t 126 < 128 ∧ ut (s.t 126) = 100 := by rw [t_126 S]; decide
theorem a_126 {m b : Nat} {φ0 φ : Nat → Nat} {s0 s : fS} {h : eH} (R : fC m b φ0 s0 φ h s) : 126 = φ 126 := R.pn (t_126 R.S) (Nat.le_of_ble_eq_true rfl) (by decide)
theorem n_126 {m : Nat} {s : fS} (S : sS m s) : s.n 126 = 8001 := S.n 126 (Nat.lt_of_lt_of_le (Nat.le_of_ble_eq_true rfl) (f_lim_le m)) (Nat.le_of_ble_eq_true rfl) (by decide)
theorem t_127 {m : Nat} {s : fS} (S : sS m s) : s.t 127 = 100 := S.t 127 (Nat.lt_of_lt_of_le (Nat.le_of_ble_eq_true rfl) (f_lim_le m))
theorem u_127 {m : Nat} {s : fS} (S : sS m s) : s.t 127 < 128 ∧ ut (s.t 127) = 100 := by rw [t_127 S]; decide
theorem a_127 {m b : Nat} {φ0 φ : Nat → Nat} {s0 s : fS} {h : eH} (R : fC m b φ0 s0 φ h s) : 127 = φ 127 := R.pn (t_127 R.S) (Nat.le_of_ble_eq_true rfl) (by decide)
theorem n_127 {m : Nat} {s : fS} (S : sS m s) : s.n 127 = 8001 := S.n 127 (Nat.lt_of_lt_of_le (Nat.le_of_ble_eq_true rfl) (f_lim_le m)) (Nat.le_of_ble_eq_true rfl) (by decide)
theorem t_128 {m : Nat} {s : fS} (S : sS m s) : s.t 128 = 25 := S.t 128 (Nat.lt_of_lt_of_le (Nat.le_of_ble_eq_true rfl) (f_lim_le m))
theorem t_129 {m : Nat} {s : fS} (S : sS m s) : s.t 129 = 100 := S.t 129 (Nat.lt_of_lt_of_le (Nat.le_of_ble_eq_true rfl) (f_lim_le m))
theorem u_129 {m : Nat} {s : fS} (S : sS m s) : s.t 129 < 128 ∧ ut (s.t 129) = 100 := by rw [t_129 S]; decide
theorem a_129 {m b : Nat} {φ0 φ : Nat → Nat} {s0 s : fS} {h : eH} (R : fC m b φ0 s0 φ h s) : 129 = φ 129 := R.pn (t_129 R.S) (Nat.le_of_ble_eq_true rfl) (by decide)
theorem n_129 {m : Nat} {s : fS} (S : sS m s) : s.n 129 = 8016 := S.n 129 (Nat.lt_of_lt_of_le (Nat.le_of_ble_eq_true rfl) (f_lim_le m)) (Nat.le_of_ble_eq_true rfl) (by decide)
theorem t_130 {m : Nat} {s : fS} (S : sS m s) : s.t 130 = 101 := S.t 130 (Nat.lt_of_lt_of_le (Nat.le_of_ble_eq_true rfl) (f_lim_le m))
theorem u_130 {m : Nat} {s : fS} (S : sS m s) : s.t 130 < 128 ∧ ut (s.t 130) = 101 := by rw [t_130 S]; decide
theorem a_130 {m b : Nat} {φ0 φ : Nat → Nat} {s0 s : fS} {h : eH} (R : fC m b φ0 s0 φ h s) : 130 = φ 130 := R.pn (t_130 R.S) (Nat.le_of_ble_eq_true rfl) (by decide)
theorem n_130 {m : Nat} {s : fS} (S : sS m s) : s.n 130 = 8016 := S.n 130 (Nat.lt_of_lt_of_le (Nat.le_of_ble_eq_true rfl) (f_lim_le m)) (Nat.le_of_ble_eq_true rfl) (by decide)
theorem t_131 {m : Nat} {s : fS} (S : sS m s) : s.t 131 = 100 := S.t 131 (Nat.lt_of_lt_of_le (Nat.le_of_ble_eq_true rfl) (f_lim_le m))
theorem u_131 {m : Nat} {s : fS} (S : sS m s) : s.t 131 < 128 ∧ ut (s.t 131) = 100 := by rw [t_131 S]; decide
theorem a_131 {m b : Nat} {φ0 φ : Nat → Nat} {s0 s : fS} {h : eH} (R : fC m b φ0 s0 φ h s) : 131 = φ 131 := R.pn (t_131 R.S) (Nat.le_of_ble_eq_true rfl) (by decide)
theorem n_131 {m : Nat} {s : fS} (S : sS m s) : s.n 131 = 2003 := S.n 131 (Nat.lt_of_lt_of_le (Nat.le_of_ble_eq_true rfl) (f_lim_le m)) (Nat.le_of_ble_eq_true rfl) (by decide)
theorem t_132 {m : Nat} {s : fS} (S : sS m s) : s.t 132 = 100 := S.t 132 (Nat.lt_of_lt_of_le (Nat.le_of_ble_eq_true rfl) (f_lim_le m))
theorem u_132 {m : Nat} {s : fS} (S : sS m s) : s.t 132 < 128 ∧ ut (s.t 132) = 100 := by rw [t_132 S]; decide
theorem a_132 {m b : Nat} {φ0 φ : Nat → Nat} {s0 s : fS} {h : eH} (R : fC m b φ0 s0 φ h s) : 132 = φ 132 := R.pn (t_132 R.S) (Nat.le_of_ble_eq_true rfl) (by decide)
theorem n_132 {m : Nat} {s : fS} (S : sS m s) : s.n 132 = 2003 := S.n 132 (Nat.lt_of_lt_of_le (Nat.le_of_ble_eq_true rfl) (f_lim_le m)) (Nat.le_of_ble_eq_true rfl) (by decide)
theorem t_133 {m : Nat} {s : fS} (S : sS m s) : s.t 133 = 26 := S.t 133 (Nat.lt_of_lt_of_le (Nat.le_of_ble_eq_true rfl) (f_lim_le m))
theorem t_134 {m : Nat} {s : fS} (S : sS m s) : s.t 134 = 102 := S.t 134 (Nat.lt_of_lt_of_le (Nat.le_of_ble_eq_true rfl) (f_lim_le m))
theorem u_134 {m : Nat} {s : fS} (S : sS m s) : s.t 134 < 128 ∧ ut (s.t 134) = 102 := by rw [t_134 S]; decide
theorem t_135 {m : Nat} {s : fS} (S : sS m s) : s.t 135 = 100 := S.t 135 (Nat.lt_of_lt_of_le (Nat.le_of_ble_eq_true rfl) (f_lim_le m))
theorem u_135 {m : Nat} {s : fS} (S : sS m s) : s.t 135 < 128 ∧ ut (s.t 135) = 100 := by rw [t_135 S]; decide
theorem t_136 {m : Nat} {s : fS} (S : sS m s) : s.t 136 = 100 := S.t 136 (Nat.lt_of_lt_of_le (Nat.le_of_ble_eq_true rfl) (f_lim_le m))
theorem u_136 {m : Nat} {s : fS} (S : sS m s) : s.t 136 < 128 ∧ ut (s.t 136) = 100 := by rw [t_136 S]; decide
theorem t_137 {m : Nat} {s : fS} (S : sS m s) : s.t 137 = 100 := S.t 137 (Nat.lt_of_lt_of_le (Nat.le_of_ble_eq_true rfl) (f_lim_le m))
theorem u_137 {m : Nat} {s : fS} (S : sS m s) : s.t 137 < 128 ∧ ut (s.t 137) = 100 := by rw [t_137 S]; decide
theorem t_138 {m : Nat} {s : fS} (S : sS m s) : s.t 138 = 102 := S.t 138 (Nat.lt_of_lt_of_le (Nat.le_of_ble_eq_true rfl) (f_lim_le m))
theorem u_138 {m : Nat} {s : fS} (S : sS m s) : s.t 138 < 128 ∧ ut (s.t 138) = 102 := by rw [t_138 S]; decide
theorem t_139 {m : Nat} {s : fS} (S : sS m s) : s.t 139 = 100 := S.t 139 (Nat.lt_of_lt_of_le (Nat.le_of_ble_eq_true rfl) (f_lim_le m))
theorem u_139 {m : Nat} {s : fS} (S : sS m s) : s.t 139 < 128 ∧ ut (s.t 139) = 100 := by rw [t_139 S]; decide
theorem t_140 {m : Nat} {s : fS} (S : sS m s) : s.t 140 = 27 := S.t 140 (Nat.lt_of_lt_of_le (Nat.le_of_ble_eq_true rfl) (f_lim_le m))
theorem t_141 {m : Nat} {s : fS} (S : sS m s) : s.t 141 = 28 := S.t 141 (Nat.lt_of_lt_of_le (Nat.le_of_ble_eq_true rfl) (f_lim_le m))
theorem t_142 {m : Nat} {s : fS} (S : sS m s) : s.t 142 = 101 := S.t 142 (Nat.lt_of_lt_of_le (Nat.le_of_ble_eq_true rfl) (f_lim_le m))
theorem u_142 {m : Nat} {s : fS} (S : sS m s) : s.t 142 < 128 ∧ ut (s.t 142) = 101 := by rw [t_142 S]; decide
theorem a_142 {m b : Nat} {φ0 φ : Nat → Nat} {s0 s : fS} {h : eH} (R : fC m b φ0 s0 φ h s) : 142 = φ 142 := R.pn (t_142 R.S) (Nat.le_of_ble_eq_true rfl) (by decide)
theorem n_142 {m : Nat} {s : fS} (S : sS m s) : s.n 142 = 4 := S.n 142 (Nat.lt_of_lt_of_le (Nat.le_of_ble_eq_true rfl) (f_lim_le m)) (Nat.le_of_ble_eq_true rfl) (by decide)
theorem t_143 {m : Nat} {s : fS} (S : sS m s) : s.t 143 = 28 := S.t 143 (Nat.lt_of_lt_of_le (Nat.le_of_ble_eq_true rfl) (f_lim_le m))
theorem t_144 {m : Nat} {s : fS} (S : sS m s) : s.t 144 = 101 := S.t 144 (Nat.lt_of_lt_of_le (Nat.le_of_ble_eq_true rfl) (f_lim_le m))
theorem u_144 {m : Nat} {s : fS} (S : sS m s) : s.t 144 < 128 ∧ ut (s.t 144) = 101 := by rw [t_144 S]; decide
theorem a_144 {m b : Nat} {φ0 φ : Nat → Nat} {s0 s : fS} {h : eH} (R : fC m b φ0 s0 φ h s) : 144 = φ 144 := R.pn (t_144 R.S) (Nat.le_of_ble_eq_true rfl) (by decide)
theorem n_144 {m : Nat} {s : fS} (S : sS m s) : s.n 144 = 4 := S.n 144 (Nat.lt_of_lt_of_le (Nat.le_of_ble_eq_true rfl) (f_lim_le m)) (Nat.le_of_ble_eq_true rfl) (by decide)
theorem t_145 {m : Nat} {s : fS} (S : sS m s) : s.t 145 = 29 := S.t 145 (Nat.lt_of_lt_of_le (Nat.le_of_ble_eq_true rfl) (f_lim_le m))
theorem t_146 {m : Nat} {s : fS} (S : sS m s) : s.t 146 = 28 := S.t 146 (Nat.lt_of_lt_of_le (Nat.le_of_ble_eq_true rfl) (f_lim_le m))
theorem t_147 {m : Nat} {s : fS} (S : sS m s) : s.t 147 = 101 := S.t 147 (Nat.lt_of_lt_of_le (Nat.le_of_ble_eq_true rfl) (f_lim_le m))
theorem u_147 {m : Nat} {s : fS} (S : sS m s) : s.t 147 < 128 ∧ ut (s.t 147) = 101 := by rw [t_147 S]; decide
theorem a_147 {m b : Nat} {φ0 φ : Nat → Nat} {s0 s : fS} {h : eH} (R : fC m b φ0 s0 φ h s) : 147 = φ 147 := R.pn (t_147 R.S) (Nat.le_of_ble_eq_true rfl) (by decide)
theorem n_147 {m : Nat} {s : fS} (S : sS m s) : s.n 147 = 4 := S.n 147 (Nat.lt_of_lt_of_le (Nat.le_of_ble_eq_true rfl) (f_lim_le m)) (Nat.le_of_ble_eq_true rfl) (by decide)
theorem t_148 {m : Nat} {s : fS} (S : sS m s) : s.t 148 = 29 := S.t 148 (Nat.lt_of_lt_of_le (Nat.le_of_ble_eq_true rfl) (f_lim_le m))
theorem t_149 {m : Nat} {s : fS} (S : sS m s) : s.t 149 = 28 := S.t 149 (Nat.lt_of_lt_of_le (Nat.le_of_ble_eq_true rfl) (f_lim_le m))
theorem t_150 {m : Nat} {s : fS} (S : sS m s) : s.t 150 = 101 := S.t 150 (Nat.lt_of_lt_of_le (Nat.le_of_ble_eq_true rfl) (f_lim_le m))
theorem u_150 {m : Nat} {s : fS} (S : sS m s) : s.t 150 < 128 ∧ ut (s.t 150) = 101 := by rw [t_150 S]; decide
theorem a_150 {m b : Nat} {φ0 φ : Nat → Nat} {s0 s : fS} {h : eH} (R : fC m b φ0 s0 φ h s) : 150 = φ 150 := R.pn (t_150 R.S) (Nat.le_of_ble_eq_true rfl) (by decide)
theorem n_150 {m : Nat} {s : fS} (S : sS m s) : s.n 150 = 4 := S.n 150 (Nat.lt_of_lt_of_le (Nat.le_of_ble_eq_true rfl) (f_lim_le m)) (Nat.le_of_ble_eq_true rfl) (by decide)
theorem t_151 {m : Nat} {s : fS} (S : sS m s) : s.t 151 = 28 := S.t 151 (Nat.lt_of_lt_of_le (Nat.le_of_ble_eq_true rfl) (f_lim_le m))
theorem t_152 {m : Nat} {s : fS} (S : sS m s) : s.t 152 = 101 := S.t 152 (Nat.lt_of_lt_of_le (Nat.le_of_ble_eq_true rfl) (f_lim_le m))
theorem u_152 {m : Nat} {s : fS} (S : sS m s) : s.t 152 < 128 ∧ ut (s.t 152) = 101 := by rw [t_152 S]; decide
theorem a_152 {m b : Nat} {φ0 φ : Nat → Nat} {s0 s : fS} {h : eH} (R : fC m b φ0 s0 φ h s) : 152 = φ 152 := R.pn (t_152 R.S) (Nat.le_of_ble_eq_true rfl) (by decide)
theorem n_152 {m : Nat} {s : fS} (S : sS m s) : s.n 152 = 4 := S.n 152 (Nat.lt_of_lt_of_le (Nat.le_of_ble_eq_true rfl) (f_lim_le m)) (Nat.le_of_ble_eq_true rfl) (by decide)
theorem t_153 {m : Nat} {s : fS} (S : sS m s) : s.t 153 = 30 := S.t 153 (Nat.lt_of_lt_of_le (Nat.le_of_ble_eq_true rfl) (f_lim_le m))
theorem t_154 {m : Nat} {s : fS} (S : sS m s) : s.t 154 = 31 := S.t 154 (Nat.lt_of_lt_of_le (Nat.le_of_ble_eq_true rfl) (f_lim_le m))
theorem t_155 {m : Nat} {s : fS} (S : sS m s) : s.t 155 = 102 := S.t 155 (Nat.lt_of_lt_of_le (Nat.le_of_ble_eq_true rfl) (f_lim_le m))
theorem u_155 {m : Nat} {s : fS} (S : sS m s) : s.t 155 < 128 ∧ ut (s.t 155) = 102 := by rw [t_155 S]; decide
theorem a_155 {m b : Nat} {φ0 φ : Nat → Nat} {s0 s : fS} {h : eH} (R : fC m b φ0 s0 φ h s) : 155 = φ 155 := R.pn (t_155 R.S) (Nat.le_of_ble_eq_true rfl) (by decide)
theorem n_155 {m : Nat} {s : fS} (S : sS m s) : s.n 155 = 300000 := S.n 155 (Nat.lt_of_lt_of_le (Nat.le_of_ble_eq_true rfl) (f_lim_le m)) (Nat.le_of_ble_eq_true rfl) (by decide)
theorem t_156 {m : Nat} {s : fS} (S : sS m s) : s.t 156 = 100 := S.t 156 (Nat.lt_of_lt_of_le (Nat.le_of_ble_eq_true rfl) (f_lim_le m))
theorem u_156 {m : Nat} {s : fS} (S : sS m s) : s.t 156 < 128 ∧ ut (s.t 156) = 100 := by rw [t_156 S]; decide
theorem a_156 {m b : Nat} {φ0 φ : Nat → Nat} {s0 s : fS} {h : eH} (R : fC m b φ0 s0 φ h s) : 156 = φ 156 := R.pn (t_156 R.S) (Nat.le_of_ble_eq_true rfl) (by decide)
theorem n_156 {m : Nat} {s : fS} (S : sS m s) : s.n 156 = 10 := S.n 156 (Nat.lt_of_lt_of_le (Nat.le_of_ble_eq_true rfl) (f_lim_le m)) (Nat.le_of_ble_eq_true rfl) (by decide)
theorem t_157 {m : Nat} {s : fS} (S : sS m s) : s.t 157 = 100 := S.t 157 (Nat.lt_of_lt_of_le (Nat.le_of_ble_eq_true rfl) (f_lim_le m))
theorem u_157 {m : Nat} {s : fS} (S : sS m s) : s.t 157 < 128 ∧ ut (s.t 157) = 100 := by rw [t_157 S]; decide
theorem a_157 {m b : Nat} {φ0 φ : Nat → Nat} {s0 s : fS} {h : eH} (R : fC m b φ0 s0 φ h s) : 157 = φ 157 := R.pn (t_157 R.S) (Nat.le_of_ble_eq_true rfl) (by decide)
theorem n_157 {m : Nat} {s : fS} (S : sS m s) : s.n 157 = 3000 := S.n 157 (Nat.lt_of_lt_of_le (Nat.le_of_ble_eq_true rfl) (f_lim_le m)) (Nat.le_of_ble_eq_true rfl) (by decide)
theorem t_158 {m : Nat} {s : fS} (S : sS m s) : s.t 158 = 100 := S.t 158 (Nat.lt_of_lt_of_le (Nat.le_of_ble_eq_true rfl) (f_lim_le m))
theorem u_158 {m : Nat} {s : fS} (S : sS m s) : s.t 158 < 128 ∧ ut (s.t 158) = 100 := by rw [t_158 S]; decide
theorem a_158 {m b : Nat} {φ0 φ : Nat → Nat} {s0 s : fS} {h : eH} (R : fC m b φ0 s0 φ h s) : 158 = φ 158 := R.pn (t_158 R.S) (Nat.le_of_ble_eq_true rfl) (by decide)
theorem n_158 {m : Nat} {s : fS} (S : sS m s) : s.n 158 = 3000 := S.n 158 (Nat.lt_of_lt_of_le (Nat.le_of_ble_eq_true rfl) (f_lim_le m)) (Nat.le_of_ble_eq_true rfl) (by decide)
theorem t_159 {m : Nat} {s : fS} (S : sS m s) : s.t 159 = 100 := S.t 159 (Nat.lt_of_lt_of_le (Nat.le_of_ble_eq_true rfl) (f_lim_le m))
theorem u_159 {m : Nat} {s : fS} (S : sS m s) : s.t 159 < 128 ∧ ut (s.t 159) = 100 := by rw [t_159 S]; decide
theorem a_159 {m b : Nat} {φ0 φ : Nat → Nat} {s0 s : fS} {h : eH} (R : fC m b φ0 s0 φ h s) : 159 = φ 159 := R.pn (t_159 R.S) (Nat.le_of_ble_eq_true rfl) (by decide)
theorem n_159 {m : Nat} {s : fS} (S : sS m s) : s.n 159 = 3000 := S.n 159 (Nat.lt_of_lt_of_le (Nat.le_of_ble_eq_true rfl) (f_lim_le m)) (Nat.le_of_ble_eq_true rfl) (by decide)
theorem t_160 {m : Nat} {s : fS} (S : sS m s) : s.t 160 = 100 := S.t 160 (Nat.lt_of_lt_of_le (Nat.le_of_ble_eq_true rfl) (f_lim_le m))
theorem u_160 {m : Nat} {s : fS} (S : sS m s) : s.t 160 < 128 ∧ ut (s.t 160) = 100 := by rw [t_160 S]; decide
theorem a_160 {m b : Nat} {φ0 φ : Nat → Nat} {s0 s : fS} {h : eH} (R : fC m b φ0 s0 φ h s) : 160 = φ 160 := R.pn (t_160 R.S) (Nat.le_of_ble_eq_true rfl) (by decide)
theorem n_160 {m : Nat} {s : fS} (S : sS m s) : s.n 160 = 3000 := S.n 160 (Nat.lt_of_lt_of_le (Nat.le_of_ble_eq_true rfl) (f_lim_le m)) (Nat.le_of_ble_eq_true rfl) (by decide)
theorem t_161 {m : Nat} {s : fS} (S : sS m s) : s.t 161 = 100 := S.t 161 (Nat.lt_of_lt_of_le (Nat.le_of_ble_eq_true rfl) (f_lim_le m))
theorem u_161 {m : Nat} {s : fS} (S : sS m s) : s.t 161 < 128 ∧ ut (s.t 161) = 100 := by rw [t_161 S]; decide
theorem a_161 {m b : Nat} {φ0 φ : Nat → Nat} {s0 s : fS} {h : eH} (R : fC m b φ0 s0 φ h s) : 161 = φ 161 := R.pn (t_161 R.S) (Nat.le_of_ble_eq_true rfl) (by decide)
theorem n_161 {m : Nat} {s : fS} (S : sS m s) : s.n 161 = 3000 := S.n 161 (Nat.lt_of_lt_of_le (Nat.le_of_ble_eq_true rfl) (f_lim_le m)) (Nat.le_of_ble_eq_true rfl) (by decide)
theorem t_162 {m : Nat} {s : fS} (S : sS m s) : s.t 162 = 32 := S.t 162 (Nat.lt_of_lt_of_le (Nat.le_of_ble_eq_true rfl) (f_lim_le m))
theorem t_163 {m : Nat} {s : fS} (S : sS m s) : s.t 163 = 100 := S.t 163 (Nat.lt_of_lt_of_le (Nat.le_of_ble_eq_true rfl) (f_lim_le m))
theorem u_163 {m : Nat} {s : fS} (S : sS m s) : s.t 163 < 128 ∧ ut (s.t 163) = 100 := by rw [t_163 S]; decide
theorem a_163 {m b : Nat} {φ0 φ : Nat → Nat} {s0 s : fS} {h : eH} (R : fC m b φ0 s0 φ h s) : 163 = φ 163 := R.pn (t_163 R.S) (Nat.le_of_ble_eq_true rfl) (by decide)
theorem n_163 {m : Nat} {s : fS} (S : sS m s) : s.n 163 = 3000 := S.n 163 (Nat.lt_of_lt_of_le (Nat.le_of_ble_eq_true rfl) (f_lim_le m)) (Nat.le_of_ble_eq_true rfl) (by decide)
theorem t_164 {m : Nat} {s : fS} (S : sS m s) : s.t 164 = 100 := S.t 164 (Nat.lt_of_lt_of_le (Nat.le_of_ble_eq_true rfl) (f_lim_le m))
theorem u_164 {m : Nat} {s : fS} (S : sS m s) : s.t 164 < 128 ∧ ut (s.t 164) = 100 := by rw [t_164 S]; decide
theorem a_164 {m b : Nat} {φ0 φ : Nat → Nat} {s0 s : fS} {h : eH} (R : fC m b φ0 s0 φ h s) : 164 = φ 164 := R.pn (t_164 R.S) (Nat.le_of_ble_eq_true rfl) (by decide)
theorem n_164 {m : Nat} {s : fS} (S : sS m s) : s.n 164 = 3000 := S.n 164 (Nat.lt_of_lt_of_le (Nat.le_of_ble_eq_true rfl) (f_lim_le m)) (Nat.le_of_ble_eq_true rfl) (by decide)
theorem t_165 {m : Nat} {s : fS} (S : sS m s) : s.t 165 = 100 := S.t 165 (Nat.lt_of_lt_of_le (Nat.le_of_ble_eq_true rfl) (f_lim_le m))
theorem u_165 {m : Nat} {s : fS} (S : sS m s) : s.t 165 < 128 ∧ ut (s.t 165) = 100 := by rw [t_165 S]; decide
theorem a_165 {m b : Nat} {φ0 φ : Nat → Nat} {s0 s : fS} {h : eH} (R : fC m b φ0 s0 φ h s) : 165 = φ 165 := R.pn (t_165 R.S) (Nat.le_of_ble_eq_true rfl) (by decide)
theorem n_165 {m : Nat} {s : fS} (S : sS m s) : s.n 165 = 8192 := S.n 165 (Nat.lt_of_lt_of_le (Nat.le_of_ble_eq_true rfl) (f_lim_le m)) (Nat.le_of_ble_eq_true rfl) (by decide)
theorem t_166 {m : Nat} {s : fS} (S : sS m s) : s.t 166 = 32 := S.t 166 (Nat.lt_of_lt_of_le (Nat.le_of_ble_eq_true rfl) (f_lim_le m))
theorem t_167 {m : Nat} {s : fS} (S : sS m s) : s.t 167 = 100 := S.t 167 (Nat.lt_of_lt_of_le (Nat.le_of_ble_eq_true rfl) (f_lim_le m))
theorem u_167 {m : Nat} {s : fS} (S : sS m s) : s.t 167 < 128 ∧ ut (s.t 167) = 100 := by rw [t_167 S]; decide
theorem a_167 {m b : Nat} {φ0 φ : Nat → Nat} {s0 s : fS} {h : eH} (R : fC m b φ0 s0 φ h s) : 167 = φ 167 := R.pn (t_167 R.S) (Nat.le_of_ble_eq_true rfl) (by decide)
theorem n_167 {m : Nat} {s : fS} (S : sS m s) : s.n 167 = 3000 := S.n 167 (Nat.lt_of_lt_of_le (Nat.le_of_ble_eq_true rfl) (f_lim_le m)) (Nat.le_of_ble_eq_true rfl) (by decide)
theorem t_168 {m : Nat} {s : fS} (S : sS m s) : s.t 168 = 100 := S.t 168 (Nat.lt_of_lt_of_le (Nat.le_of_ble_eq_true rfl) (f_lim_le m))
theorem u_168 {m : Nat} {s : fS} (S : sS m s) : s.t 168 < 128 ∧ ut (s.t 168) = 100 := by rw [t_168 S]; decide
theorem a_168 {m b : Nat} {φ0 φ : Nat → Nat} {s0 s : fS} {h : eH} (R : fC m b φ0 s0 φ h s) : 168 = φ 168 := R.pn (t_168 R.S) (Nat.le_of_ble_eq_true rfl) (by decide)
theorem n_168 {m : Nat} {s : fS} (S : sS m s) : s.n 168 = 3000 := S.n 168 (Nat.lt_of_lt_of_le (Nat.le_of_ble_eq_true rfl) (f_lim_le m)) (Nat.le_of_ble_eq_true rfl) (by decide)
theorem t_169 {m : Nat} {s : fS} (S : sS m s) : s.t 169 = 100 := S.t 169 (Nat.lt_of_lt_of_le (Nat.le_of_ble_eq_true rfl) (f_lim_le m))
theorem u_169 {m : Nat} {s : fS} (S : sS m s) : s.t 169 < 128 ∧ ut (s.t 169) = 100 := by rw [t_169 S]; decide
theorem a_169 {m b : Nat} {φ0 φ : Nat → Nat} {s0 s : fS} {h : eH} (R : fC m b φ0 s0 φ h s) : 169 = φ 169 := R.pn (t_169 R.S) (Nat.le_of_ble_eq_true rfl) (by decide)
theorem n_169 {m : Nat} {s : fS} (S : sS m s) : s.n 169 = 8192 := S.n 169 (Nat.lt_of_lt_of_le (Nat.le_of_ble_eq_true rfl) (f_lim_le m)) (Nat.le_of_ble_eq_true rfl) (by decide)
theorem t_170 {m : Nat} {s : fS} (S : sS m s) : s.t 170 = 33 := S.t 170 (Nat.lt_of_lt_of_le (Nat.le_of_ble_eq_true rfl) (f_lim_le m))
theorem t_171 {m : Nat} {s : fS} (S : sS m s) : s.t 171 = 100 := S.t 171 (Nat.lt_of_lt_of_le (Nat.le_of_ble_eq_true rfl) (f_lim_le m))
theorem u_171 {m : Nat} {s : fS} (S : sS m s) : s.t 171 < 128 ∧ ut (s.t 171) = 100 := by rw [t_171 S]; decide
theorem t_172 {m : Nat} {s : fS} (S : sS m s) : s.t 172 = 33 := S.t 172 (Nat.lt_of_lt_of_le (Nat.le_of_ble_eq_true rfl) (f_lim_le m))
theorem t_173 {m : Nat} {s : fS} (S : sS m s) : s.t 173 = 100 := S.t 173 (Nat.lt_of_lt_of_le (Nat.le_of_ble_eq_true rfl) (f_lim_le m))
theorem u_173 {m : Nat} {s : fS} (S : sS m s) : s.t 173 < 128 ∧ ut (s.t 173) = 100 := by rw [t_173 S]; decide
theorem t_174 {m : Nat} {s : fS} (S : sS m s) : s.t 174 = 33 := S.t 174 (Nat.lt_of_lt_of_le (Nat.le_of_ble_eq_true rfl) (f_lim_le m))
theorem t_175 {m : Nat} {s : fS} (S : sS m s) : s.t 175 = 100 := S.t 175 (Nat.lt_of_lt_of_le (Nat.le_of_ble_eq_true rfl) (f_lim_le m))
theorem u_175 {m : Nat} {s : fS} (S : sS m s) : s.t 175 < 128 ∧ ut (s.t 175) = 100 := by rw [t_175 S]; decide
theorem t_176 {m : Nat} {s : fS} (S : sS m s) : s.t 176 = 100 := S.t 176 (Nat.lt_of_lt_of_le (Nat.le_of_ble_eq_true rfl) (f_lim_le m))
theorem u_176 {m : Nat} {s : fS} (S : sS m s) : s.t 176 < 128 ∧ ut (s.t 176) = 100 := by rw [t_176 S]; decide
theorem a_176 {m b : Nat} {φ0 φ : Nat → Nat} {s0 s : fS} {h : eH} (R : fC m b φ0 s0 φ h s) : 176 = φ 176 := R.pn (t_176 R.S) (Nat.le_of_ble_eq_true rfl) (by decide)
theorem n_176 {m : Nat} {s : fS} (S : sS m s) : s.n 176 = 256 := S.n 176 (Nat.lt_of_lt_of_le (Nat.le_of_ble_eq_true rfl) (f_lim_le m)) (Nat.le_of_ble_eq_true rfl) (by decide)
theorem t_177 {m : Nat} {s : fS} (S : sS m s) : s.t 177 = 100 := S.t 177 (Nat.lt_of_lt_of_le (Nat.le_of_ble_eq_true rfl) (f_lim_le m))
theorem u_177 {m : Nat} {s : fS} (S : sS m s) : s.t 177 < 128 ∧ ut (s.t 177) = 100 := by rw [t_177 S]; decide
theorem a_177 {m b : Nat} {φ0 φ : Nat → Nat} {s0 s : fS} {h : eH} (R : fC m b φ0 s0 φ h s) : 177 = φ 177 := R.pn (t_177 R.S) (Nat.le_of_ble_eq_true rfl) (by decide)
theorem n_177 {m : Nat} {s : fS} (S : sS m s) : s.n 177 = 256 := S.n 177 (Nat.lt_of_lt_of_le (Nat.le_of_ble_eq_true rfl) (f_lim_le m)) (Nat.le_of_ble_eq_true rfl) (by decide)
theorem t_178 {m : Nat} {s : fS} (S : sS m s) : s.t 178 = 100 := S.t 178 (Nat.lt_of_lt_of_le (Nat.le_of_ble_eq_true rfl) (f_lim_le m))
theorem u_178 {m : Nat} {s : fS} (S : sS m s) : s.t 178 < 128 ∧ ut (s.t 178) = 100 := by rw [t_178 S]; decide
theorem a_178 {m b : Nat} {φ0 φ : Nat → Nat} {s0 s : fS} {h : eH} (R : fC m b φ0 s0 φ h s) : 178 = φ 178 := R.pn (t_178 R.S) (Nat.le_of_ble_eq_true rfl) (by decide)
theorem n_178 {m : Nat} {s : fS} (S : sS m s) : s.n 178 = 256 := S.n 178 (Nat.lt_of_lt_of_le (Nat.le_of_ble_eq_true rfl) (f_lim_le m)) (Nat.le_of_ble_eq_true rfl) (by decide)
theorem t_179 {m : Nat} {s : fS} (S : sS m s) : s.t 179 = 100 := S.t 179 (Nat.lt_of_lt_of_le (Nat.le_of_ble_eq_true rfl) (f_lim_le m))
theorem u_179 {m : Nat} {s : fS} (S : sS m s) : s.t 179 < 128 ∧ ut (s.t 179) = 100 := by rw [t_179 S]; decide
theorem a_179 {m b : Nat} {φ0 φ : Nat → Nat} {s0 s : fS} {h : eH} (R : fC m b φ0 s0 φ h s) : 179 = φ 179 := R.pn (t_179 R.S) (Nat.le_of_ble_eq_true rfl) (by decide)
theorem n_179 {m : Nat} {s : fS} (S : sS m s) : s.n 179 = 256 := S.n 179 (Nat.lt_of_lt_of_le (Nat.le_of_ble_eq_true rfl) (f_lim_le m)) (Nat.le_of_ble_eq_true rfl) (by decide)
theorem t_180 {m : Nat} {s : fS} (S : sS m s) : s.t 180 = 100 := S.t 180 (Nat.lt_of_lt_of_le (Nat.le_of_ble_eq_true rfl) (f_lim_le m))
theorem u_180 {m : Nat} {s : fS} (S : sS m s) : s.t 180 < 128 ∧ ut (s.t 180) = 100 := by rw [t_180 S]; decide
theorem a_180 {m b : Nat} {φ0 φ : Nat → Nat} {s0 s : fS} {h : eH} (R : fC m b φ0 s0 φ h s) : 180 = φ 180 := R.pn (t_180 R.S) (Nat.le_of_ble_eq_true rfl) (by decide)
theorem n_180 {m : Nat} {s : fS} (S : sS m s) : s.n 180 = 256 := S.n 180 (Nat.lt_of_lt_of_le (Nat.le_of_ble_eq_true rfl) (f_lim_le m)) (Nat.le_of_ble_eq_true rfl) (by decide)
theorem t_181 {m : Nat} {s : fS} (S : sS m s) : s.t 181 = 100 := S.t 181 (Nat.lt_of_lt_of_le (Nat.le_of_ble_eq_true rfl) (f_lim_le m))
theorem u_181 {m : Nat} {s : fS} (S : sS m s) : s.t 181 < 128 ∧ ut (s.t 181) = 100 := by rw [t_181 S]; decide
theorem a_181 {m b : Nat} {φ0 φ : Nat → Nat} {s0 s : fS} {h : eH} (R : fC m b φ0 s0 φ h s) : 181 = φ 181 := R.pn (t_181 R.S) (Nat.le_of_ble_eq_true rfl) (by decide)
theorem n_181 {m : Nat} {s : fS} (S : sS m s) : s.n 181 = 256 := S.n 181 (Nat.lt_of_lt_of_le (Nat.le_of_ble_eq_true rfl) (f_lim_le m)) (Nat.le_of_ble_eq_true rfl) (by decide)
theorem t_182 {m : Nat} {s : fS} (S : sS m s) : s.t 182 = 100 := S.t 182 (Nat.lt_of_lt_of_le (Nat.le_of_ble_eq_true rfl) (f_lim_le m))
theorem u_182 {m : Nat} {s : fS} (S : sS m s) : s.t 182 < 128 ∧ ut (s.t 182) = 100 := by rw [t_182 S]; decide
theorem a_182 {m b : Nat} {φ0 φ : Nat → Nat} {s0 s : fS} {h : eH} (R : fC m b φ0 s0 φ h s) : 182 = φ 182 := R.pn (t_182 R.S) (Nat.le_of_ble_eq_true rfl) (by decide)
theorem n_182 {m : Nat} {s : fS} (S : sS m s) : s.n 182 = 256 := S.n 182 (Nat.lt_of_lt_of_le (Nat.le_of_ble_eq_true rfl) (f_lim_le m)) (Nat.le_of_ble_eq_true rfl) (by decide)
theorem t_183 {m : Nat} {s : fS} (S : sS m s) : s.t 183 = 103 := S.t 183 (Nat.lt_of_lt_of_le (Nat.le_of_ble_eq_true rfl) (f_lim_le m))
theorem u_183 {m : Nat} {s : fS} (S : sS m s) : s.t 183 < 128 ∧ ut (s.t 183) = 103 := by rw [t_183 S]; decide
theorem a_183 {m b : Nat} {φ0 φ : Nat → Nat} {s0 s : fS} {h : eH} (R : fC m b φ0 s0 φ h s) : 183 = φ 183 := R.pn (t_183 R.S) (Nat.le_of_ble_eq_true rfl) (by decide)
theorem n_183 {m : Nat} {s : fS} (S : sS m s) : s.n 183 = 256 := S.n 183 (Nat.lt_of_lt_of_le (Nat.le_of_ble_eq_true rfl) (f_lim_le m)) (Nat.le_of_ble_eq_true rfl) (by decide)
theorem t_184 {m : Nat} {s : fS} (S : sS m s) : s.t 184 = 102 := S.t 184 (Nat.lt_of_lt_of_le (Nat.le_of_ble_eq_true rfl) (f_lim_le m))
theorem u_184 {m : Nat} {s : fS} (S : sS m s) : s.t 184 < 128 ∧ ut (s.t 184) = 102 := by rw [t_184 S]; decide
theorem a_184 {m b : Nat} {φ0 φ : Nat → Nat} {s0 s : fS} {h : eH} (R : fC m b φ0 s0 φ h s) : 184 = φ 184 := R.pn (t_184 R.S) (Nat.le_of_ble_eq_true rfl) (by decide)
theorem n_184 {m : Nat} {s : fS} (S : sS m s) : s.n 184 = 64 := S.n 184 (Nat.lt_of_lt_of_le (Nat.le_of_ble_eq_true rfl) (f_lim_le m)) (Nat.le_of_ble_eq_true rfl) (by decide)
theorem t_185 {m : Nat} {s : fS} (S : sS m s) : s.t 185 = 102 := S.t 185 (Nat.lt_of_lt_of_le (Nat.le_of_ble_eq_true rfl) (f_lim_le m))
theorem u_185 {m : Nat} {s : fS} (S : sS m s) : s.t 185 < 128 ∧ ut (s.t 185) = 102 := by rw [t_185 S]; decide
theorem a_185 {m b : Nat} {φ0 φ : Nat → Nat} {s0 s : fS} {h : eH} (R : fC m b φ0 s0 φ h s) : 185 = φ 185 := R.pn (t_185 R.S) (Nat.le_of_ble_eq_true rfl) (by decide)
theorem n_185 {m : Nat} {s : fS} (S : sS m s) : s.n 185 = 64 := S.n 185 (Nat.lt_of_lt_of_le (Nat.le_of_ble_eq_true rfl) (f_lim_le m)) (Nat.le_of_ble_eq_true rfl) (by decide)
theorem t_186 {m : Nat} {s : fS} (S : sS m s) : s.t 186 = 33 := S.t 186 (Nat.lt_of_lt_of_le (Nat.le_of_ble_eq_true rfl) (f_lim_le m))
theorem t_187 {m : Nat} {s : fS} (S : sS m s) : s.t 187 = 100 := S.t 187 (Nat.lt_of_lt_of_le (Nat.le_of_ble_eq_true rfl) (f_lim_le m))
theorem u_187 {m : Nat} {s : fS} (S : sS m s) : s.t 187 < 128 ∧ ut (s.t 187) = 100 := by rw [t_187 S]; decide
theorem t_188 {m : Nat} {s : fS} (S : sS m s) : s.t 188 = 33 := S.t 188 (Nat.lt_of_lt_of_le (Nat.le_of_ble_eq_true rfl) (f_lim_le m))
theorem t_189 {m : Nat} {s : fS} (S : sS m s) : s.t 189 = 100 := S.t 189 (Nat.lt_of_lt_of_le (Nat.le_of_ble_eq_true rfl) (f_lim_le m))
theorem u_189 {m : Nat} {s : fS} (S : sS m s) : s.t 189 < 128 ∧ ut (s.t 189) = 100 := by rw [t_189 S]; decide
theorem t_190 {m : Nat} {s : fS} (S : sS m s) : s.t 190 = 100 := S.t 190 (Nat.lt_of_lt_of_le (Nat.le_of_ble_eq_true rfl) (f_lim_le m))
theorem u_190 {m : Nat} {s : fS} (S : sS m s) : s.t 190 < 128 ∧ ut (s.t 190) = 100 := by rw [t_190 S]; decide
theorem a_190 {m b : Nat} {φ0 φ : Nat → Nat} {s0 s : fS} {h : eH} (R : fC m b φ0 s0 φ h s) : 190 = φ 190 := R.pn (t_190 R.S) (Nat.le_of_ble_eq_true rfl) (by decide)
theorem n_190 {m : Nat} {s : fS} (S : sS m s) : s.n 190 = 1132 := S.n 190 (Nat.lt_of_lt_of_le (Nat.le_of_ble_eq_true rfl) (f_lim_le m)) (Nat.le_of_ble_eq_true rfl) (by decide)
theorem t_191 {m : Nat} {s : fS} (S : sS m s) : s.t 191 = 100 := S.t 191 (Nat.lt_of_lt_of_le (Nat.le_of_ble_eq_true rfl) (f_lim_le m))
theorem u_191 {m : Nat} {s : fS} (S : sS m s) : s.t 191 < 128 ∧ ut (s.t 191) = 100 := by rw [t_191 S]; decide
theorem a_191 {m b : Nat} {φ0 φ : Nat → Nat} {s0 s : fS} {h : eH} (R : fC m b φ0 s0 φ h s) : 191 = φ 191 := R.pn (t_191 R.S) (Nat.le_of_ble_eq_true rfl) (by decide)
theorem n_191 {m : Nat} {s : fS} (S : sS m s) : s.n 191 = 8 := S.n 191 (Nat.lt_of_lt_of_le (Nat.le_of_ble_eq_true rfl) (f_lim_le m)) (Nat.le_of_ble_eq_true rfl) (by decide)
theorem t_192 {m : Nat} {s : fS} (hm : 1 ≤ m) (S : sS m s) : s.t 192 = 34 := S.t 192 (Nat.lt_of_lt_of_le (Nat.le_of_ble_eq_true rfl) (f_lim_1 hm))
theorem t_193 {m : Nat} {s : fS} (hm : 1 ≤ m) (S : sS m s) : s.t 193 = 102 := S.t 193 (Nat.lt_of_lt_of_le (Nat.le_of_ble_eq_true rfl) (f_lim_1 hm))
theorem u_193 {m : Nat} {s : fS} (hm : 1 ≤ m) (S : sS m s) : s.t 193 < 128 ∧ ut (s.t 193) = 102 := by rw [t_193 hm S]; decide
theorem a_193 {m b : Nat} {φ0 φ : Nat → Nat} {s0 s : fS} {h : eH} (hm : 1 ≤ m) (R : fC m b φ0 s0 φ h s) : 193 = φ 193 := R.pn (t_193 hm R.S) (Nat.le_of_ble_eq_true rfl) (by decide)
theorem n_193 {m : Nat} {s : fS} (hm : 1 ≤ m) (S : sS m s) : s.n 193 = 65536 := S.n 193 (Nat.lt_of_lt_of_le (Nat.le_of_ble_eq_true rfl) (f_lim_1 hm)) (Nat.le_of_ble_eq_true rfl) (by decide)
theorem t_194 {m : Nat} {s : fS} (hm : 1 ≤ m) (S : sS m s) : s.t 194 = 107 := S.t 194 (Nat.lt_of_lt_of_le (Nat.le_of_ble_eq_true rfl) (f_lim_1 hm))
theorem u_194 {m : Nat} {s : fS} (hm : 1 ≤ m) (S : sS m s) : s.t 194 < 128 ∧ ut (s.t 194) = 107 := by rw [t_194 hm S]; decide
theorem a_194 {m b : Nat} {φ0 φ : Nat → Nat} {s0 s : fS} {h : eH} (hm : 1 ≤ m) (R : fC m b φ0 s0 φ h s) : 194 = φ 194 := R.pn (t_194 hm R.S) (Nat.le_of_ble_eq_true rfl) (by decide)
theorem n_194 {m : Nat} {s : fS} (hm : 1 ≤ m) (S : sS m s) : s.n 194 = 16 := S.n 194 (Nat.lt_of_lt_of_le (Nat.le_of_ble_eq_true rfl) (f_lim_1 hm)) (Nat.le_of_ble_eq_true rfl) (by decide)
theorem t_195 {m : Nat} {s : fS} (hm : 1 ≤ m) (S : sS m s) : s.t 195 = 35 := S.t 195 (Nat.lt_of_lt_of_le (Nat.le_of_ble_eq_true rfl) (f_lim_1 hm))
theorem t_196 {m : Nat} {s : fS} (hm : 1 ≤ m) (S : sS m s) : s.t 196 = 100 := S.t 196 (Nat.lt_of_lt_of_le (Nat.le_of_ble_eq_true rfl) (f_lim_1 hm))
theorem u_196 {m : Nat} {s : fS} (hm : 1 ≤ m) (S : sS m s) : s.t 196 < 128 ∧ ut (s.t 196) = 100 := by rw [t_196 hm S]; decide
theorem a_196 {m b : Nat} {φ0 φ : Nat → Nat} {s0 s : fS} {h : eH} (hm : 1 ≤ m) (R : fC m b φ0 s0 φ h s) : 196 = φ 196 := R.pn (t_196 hm R.S) (Nat.le_of_ble_eq_true rfl) (by decide)
theorem n_196 {m : Nat} {s : fS} (hm : 1 ≤ m) (S : sS m s) : s.n 196 = 256 := S.n 196 (Nat.lt_of_lt_of_le (Nat.le_of_ble_eq_true rfl) (f_lim_1 hm)) (Nat.le_of_ble_eq_true rfl) (by decide)
theorem t_197 {m : Nat} {s : fS} (hm : 1 ≤ m) (S : sS m s) : s.t 197 = 100 := S.t 197 (Nat.lt_of_lt_of_le (Nat.le_of_ble_eq_true rfl) (f_lim_1 hm))
theorem u_197 {m : Nat} {s : fS} (hm : 1 ≤ m) (S : sS m s) : s.t 197 < 128 ∧ ut (s.t 197) = 100 := by rw [t_197 hm S]; decide
theorem a_197 {m b : Nat} {φ0 φ : Nat → Nat} {s0 s : fS} {h : eH} (hm : 1 ≤ m) (R : fC m b φ0 s0 φ h s) : 197 = φ 197 := R.pn (t_197 hm R.S) (Nat.le_of_ble_eq_true rfl) (by decide)
theorem n_197 {m : Nat} {s : fS} (hm : 1 ≤ m) (S : sS m s) : s.n 197 = 65536 := S.n 197 (Nat.lt_of_lt_of_le (Nat.le_of_ble_eq_true rfl) (f_lim_1 hm)) (Nat.le_of_ble_eq_true rfl) (by decide)
theorem t_198 {m : Nat} {s : fS} (hm : 1 ≤ m) (S : sS m s) : s.t 198 = 100 := S.t 198 (Nat.lt_of_lt_of_le (Nat.le_of_ble_eq_true rfl) (f_lim_1 hm))
theorem u_198 {m : Nat} {s : fS} (hm : 1 ≤ m) (S : sS m s) : s.t 198 < 128 ∧ ut (s.t 198) = 100 := by rw [t_198 hm S]; decide
theorem a_198 {m b : Nat} {φ0 φ : Nat → Nat} {s0 s : fS} {h : eH} (hm : 1 ≤ m) (R : fC m b φ0 s0 φ h s) : 198 = φ 198 := R.pn (t_198 hm R.S) (Nat.le_of_ble_eq_true rfl) (by decide)
theorem n_198 {m : Nat} {s : fS} (hm : 1 ≤ m) (S : sS m s) : s.n 198 = 1001 := S.n 198 (Nat.lt_of_lt_of_le (Nat.le_of_ble_eq_true rfl) (f_lim_1 hm)) (Nat.le_of_ble_eq_true rfl) (by decide)
theorem t_199 {m : Nat} {s : fS} (hm : 1 ≤ m) (S : sS m s) : s.t 199 = 100 := S.t 199 (Nat.lt_of_lt_of_le (Nat.le_of_ble_eq_true rfl) (f_lim_1 hm))
theorem u_199 {m : Nat} {s : fS} (hm : 1 ≤ m) (S : sS m s) : s.t 199 < 128 ∧ ut (s.t 199) = 100 := by rw [t_199 hm S]; decide
theorem a_199 {m b : Nat} {φ0 φ : Nat → Nat} {s0 s : fS} {h : eH} (hm : 1 ≤ m) (R : fC m b φ0 s0 φ h s) : 199 = φ 199 := R.pn (t_199 hm R.S) (Nat.le_of_ble_eq_true rfl) (by decide)
theorem n_199 {m : Nat} {s : fS} (hm : 1 ≤ m) (S : sS m s) : s.n 199 = 1001 := S.n 199 (Nat.lt_of_lt_of_le (Nat.le_of_ble_eq_true rfl) (f_lim_1 hm)) (Nat.le_of_ble_eq_true rfl) (by decide)
theorem t_200 {m : Nat} {s : fS} (hm : 1 ≤ m) (S : sS m s) : s.t 200 = 103 := S.t 200 (Nat.lt_of_lt_of_le (Nat.le_of_ble_eq_true rfl) (f_lim_1 hm))
theorem u_200 {m : Nat} {s : fS} (hm : 1 ≤ m) (S : sS m s) : s.t 200 < 128 ∧ ut (s.t 200) = 103 := by rw [t_200 hm S]; decide
theorem a_200 {m b : Nat} {φ0 φ : Nat → Nat} {s0 s : fS} {h : eH} (hm : 1 ≤ m) (R : fC m b φ0 s0 φ h s) : 200 = φ 200 := R.pn (t_200 hm R.S) (Nat.le_of_ble_eq_true rfl) (by decide)
theorem n_200 {m : Nat} {s : fS} (hm : 1 ≤ m) (S : sS m s) : s.n 200 = 1001 := S.n 200 (Nat.lt_of_lt_of_le (Nat.le_of_ble_eq_true rfl) (f_lim_1 hm)) (Nat.le_of_ble_eq_true rfl) (by decide)
theorem t_201 {m : Nat} {s : fS} (hm : 1 ≤ m) (S : sS m s) : s.t 201 = 103 := S.t 201 (Nat.lt_of_lt_of_le (Nat.le_of_ble_eq_true rfl) (f_lim_1 hm))
theorem u_201 {m : Nat} {s : fS} (hm : 1 ≤ m) (S : sS m s) : s.t 201 < 128 ∧ ut (s.t 201) = 103 := by rw [t_201 hm S]; decide
theorem a_201 {m b : Nat} {φ0 φ : Nat → Nat} {s0 s : fS} {h : eH} (hm : 1 ≤ m) (R : fC m b φ0 s0 φ h s) : 201 = φ 201 := R.pn (t_201 hm R.S) (Nat.le_of_ble_eq_true rfl) (by decide)
theorem n_201 {m : Nat} {s : fS} (hm : 1 ≤ m) (S : sS m s) : s.n 201 = 1001 := S.n 201 (Nat.lt_of_lt_of_le (Nat.le_of_ble_eq_true rfl) (f_lim_1 hm)) (Nat.le_of_ble_eq_true rfl) (by decide)
theorem t_202 {m : Nat} {s : fS} (hm : 1 ≤ m) (S : sS m s) : s.t 202 = 100 := S.t 202 (Nat.lt_of_lt_of_le (Nat.le_of_ble_eq_true rfl) (f_lim_1 hm))
theorem u_202 {m : Nat} {s : fS} (hm : 1 ≤ m) (S : sS m s) : s.t 202 < 128 ∧ ut (s.t 202) = 100 := by rw [t_202 hm S]; decide
theorem a_202 {m b : Nat} {φ0 φ : Nat → Nat} {s0 s : fS} {h : eH} (hm : 1 ≤ m) (R : fC m b φ0 s0 φ h s) : 202 = φ 202 := R.pn (t_202 hm R.S) (Nat.le_of_ble_eq_true rfl) (by decide)
theorem n_202 {m : Nat} {s : fS} (hm : 1 ≤ m) (S : sS m s) : s.n 202 = 8064 := S.n 202 (Nat.lt_of_lt_of_le (Nat.le_of_ble_eq_true rfl) (f_lim_1 hm)) (Nat.le_of_ble_eq_true rfl) (by decide)
theorem t_203 {m : Nat} {s : fS} (hm : 1 ≤ m) (S : sS m s) : s.t 203 = 100 := S.t 203 (Nat.lt_of_lt_of_le (Nat.le_of_ble_eq_true rfl) (f_lim_1 hm))
theorem u_203 {m : Nat} {s : fS} (hm : 1 ≤ m) (S : sS m s) : s.t 203 < 128 ∧ ut (s.t 203) = 100 := by rw [t_203 hm S]; decide
theorem a_203 {m b : Nat} {φ0 φ : Nat → Nat} {s0 s : fS} {h : eH} (hm : 1 ≤ m) (R : fC m b φ0 s0 φ h s) : 203 = φ 203 := R.pn (t_203 hm R.S) (Nat.le_of_ble_eq_true rfl) (by decide)
theorem n_203 {m : Nat} {s : fS} (hm : 1 ≤ m) (S : sS m s) : s.n 203 = 9100 := S.n 203 (Nat.lt_of_lt_of_le (Nat.le_of_ble_eq_true rfl) (f_lim_1 hm)) (Nat.le_of_ble_eq_true rfl) (by decide)
theorem t_204 {m : Nat} {s : fS} (hm : 1 ≤ m) (S : sS m s) : s.t 204 = 100 := S.t 204 (Nat.lt_of_lt_of_le (Nat.le_of_ble_eq_true rfl) (f_lim_1 hm))
theorem u_204 {m : Nat} {s : fS} (hm : 1 ≤ m) (S : sS m s) : s.t 204 < 128 ∧ ut (s.t 204) = 100 := by rw [t_204 hm S]; decide
theorem a_204 {m b : Nat} {φ0 φ : Nat → Nat} {s0 s : fS} {h : eH} (hm : 1 ≤ m) (R : fC m b φ0 s0 φ h s) : 204 = φ 204 := R.pn (t_204 hm R.S) (Nat.le_of_ble_eq_true rfl) (by decide)
theorem n_204 {m : Nat} {s : fS} (hm : 1 ≤ m) (S : sS m s) : s.n 204 = 301 := S.n 204 (Nat.lt_of_lt_of_le (Nat.le_of_ble_eq_true rfl) (f_lim_1 hm)) (Nat.le_of_ble_eq_true rfl) (by decide)
theorem t_205 {m : Nat} {s : fS} (hm : 1 ≤ m) (S : sS m s) : s.t 205 = 100 := S.t 205 (Nat.lt_of_lt_of_le (Nat.le_of_ble_eq_true rfl) (f_lim_1 hm))
theorem u_205 {m : Nat} {s : fS} (hm : 1 ≤ m) (S : sS m s) : s.t 205 < 128 ∧ ut (s.t 205) = 100 := by rw [t_205 hm S]; decide
theorem a_205 {m b : Nat} {φ0 φ : Nat → Nat} {s0 s : fS} {h : eH} (hm : 1 ≤ m) (R : fC m b φ0 s0 φ h s) : 205 = φ 205 := R.pn (t_205 hm R.S) (Nat.le_of_ble_eq_true rfl) (by decide)
theorem n_205 {m : Nat} {s : fS} (hm : 1 ≤ m) (S : sS m s) : s.n 205 = 8064 := S.n 205 (Nat.lt_of_lt_of_le (Nat.le_of_ble_eq_true rfl) (f_lim_1 hm)) (Nat.le_of_ble_eq_true rfl) (by decide)
theorem t_206 {m : Nat} {s : fS} (hm : 1 ≤ m) (S : sS m s) : s.t 206 = 103 := S.t 206 (Nat.lt_of_lt_of_le (Nat.le_of_ble_eq_true rfl) (f_lim_1 hm))
theorem u_206 {m : Nat} {s : fS} (hm : 1 ≤ m) (S : sS m s) : s.t 206 < 128 ∧ ut (s.t 206) = 103 := by rw [t_206 hm S]; decide
theorem a_206 {m b : Nat} {φ0 φ : Nat → Nat} {s0 s : fS} {h : eH} (hm : 1 ≤ m) (R : fC m b φ0 s0 φ h s) : 206 = φ 206 := R.pn (t_206 hm R.S) (Nat.le_of_ble_eq_true rfl) (by decide)
theorem n_206 {m : Nat} {s : fS} (hm : 1 ≤ m) (S : sS m s) : s.n 206 = 8064 := S.n 206 (Nat.lt_of_lt_of_le (Nat.le_of_ble_eq_true rfl) (f_lim_1 hm)) (Nat.le_of_ble_eq_true rfl) (by decide)
theorem t_207 {m : Nat} {s : fS} (hm : 1 ≤ m) (S : sS m s) : s.t 207 = 100 := S.t 207 (Nat.lt_of_lt_of_le (Nat.le_of_ble_eq_true rfl) (f_lim_1 hm))
theorem u_207 {m : Nat} {s : fS} (hm : 1 ≤ m) (S : sS m s) : s.t 207 < 128 ∧ ut (s.t 207) = 100 := by rw [t_207 hm S]; decide
theorem a_207 {m b : Nat} {φ0 φ : Nat → Nat} {s0 s : fS} {h : eH} (hm : 1 ≤ m) (R : fC m b φ0 s0 φ h s) : 207 = φ 207 := R.pn (t_207 hm R.S) (Nat.le_of_ble_eq_true rfl) (by decide)
theorem n_207 {m : Nat} {s : fS} (hm : 1 ≤ m) (S : sS m s) : s.n 207 = 65536 := S.n 207 (Nat.lt_of_lt_of_le (Nat.le_of_ble_eq_true rfl) (f_lim_1 hm)) (Nat.le_of_ble_eq_true rfl) (by decide)
theorem t_208 {m : Nat} {s : fS} (hm : 1 ≤ m) (S : sS m s) : s.t 208 = 100 := S.t 208 (Nat.lt_of_lt_of_le (Nat.le_of_ble_eq_true rfl) (f_lim_1 hm))
theorem u_208 {m : Nat} {s : fS} (hm : 1 ≤ m) (S : sS m s) : s.t 208 < 128 ∧ ut (s.t 208) = 100 := by rw [t_208 hm S]; decide
theorem a_208 {m b : Nat} {φ0 φ : Nat → Nat} {s0 s : fS} {h : eH} (hm : 1 ≤ m) (R : fC m b φ0 s0 φ h s) : 208 = φ 208 := R.pn (t_208 hm R.S) (Nat.le_of_ble_eq_true rfl) (by decide)
theorem n_208 {m : Nat} {s : fS} (hm : 1 ≤ m) (S : sS m s) : s.n 208 = 65537 := S.n 208 (Nat.lt_of_lt_of_le (Nat.le_of_ble_eq_true rfl) (f_lim_1 hm)) (Nat.le_of_ble_eq_true rfl) (by decide)
theorem t_209 {m : Nat} {s : fS} (hm : 1 ≤ m) (S : sS m s) : s.t 209 = 103 := S.t 209 (Nat.lt_of_lt_of_le (Nat.le_of_ble_eq_true rfl) (f_lim_1 hm))
theorem u_209 {m : Nat} {s : fS} (hm : 1 ≤ m) (S : sS m s) : s.t 209 < 128 ∧ ut (s.t 209) = 103 := by rw [t_209 hm S]; decide
theorem a_209 {m b : Nat} {φ0 φ : Nat → Nat} {s0 s : fS} {h : eH} (hm : 1 ≤ m) (R : fC m b φ0 s0 φ h s) : 209 = φ 209 := R.pn (t_209 hm R.S) (Nat.le_of_ble_eq_true rfl) (by decide)
theorem n_209 {m : Nat} {s : fS} (hm : 1 ≤ m) (S : sS m s) : s.n 209 = 65536 := S.n 209 (Nat.lt_of_lt_of_le (Nat.le_of_ble_eq_true rfl) (f_lim_1 hm)) (Nat.le_of_ble_eq_true rfl) (by decide)
theorem t_210 {m : Nat} {s : fS} (hm : 1 ≤ m) (S : sS m s) : s.t 210 = 100 := S.t 210 (Nat.lt_of_lt_of_le (Nat.le_of_ble_eq_true rfl) (f_lim_1 hm))
theorem u_210 {m : Nat} {s : fS} (hm : 1 ≤ m) (S : sS m s) : s.t 210 < 128 ∧ ut (s.t 210) = 100 := by rw [t_210 hm S]; decide
theorem a_210 {m b : Nat} {φ0 φ : Nat → Nat} {s0 s : fS} {h : eH} (hm : 1 ≤ m) (R : fC m b φ0 s0 φ h s) : 210 = φ 210 := R.pn (t_210 hm R.S) (Nat.le_of_ble_eq_true rfl) (by decide)
theorem n_210 {m : Nat} {s : fS} (hm : 1 ≤ m) (S : sS m s) : s.n 210 = 64 := S.n 210 (Nat.lt_of_lt_of_le (Nat.le_of_ble_eq_true rfl) (f_lim_1 hm)) (Nat.le_of_ble_eq_true rfl) (by decide)
theorem t_211 {m : Nat} {s : fS} (hm : 1 ≤ m) (S : sS m s) : s.t 211 = 100 := S.t 211 (Nat.lt_of_lt_of_le (Nat.le_of_ble_eq_true rfl) (f_lim_1 hm))
theorem u_211 {m : Nat} {s : fS} (hm : 1 ≤ m) (S : sS m s) : s.t 211 < 128 ∧ ut (s.t 211) = 100 := by rw [t_211 hm S]; decide
theorem a_211 {m b : Nat} {φ0 φ : Nat → Nat} {s0 s : fS} {h : eH} (hm : 1 ≤ m) (R : fC m b φ0 s0 φ h s) : 211 = φ 211 := R.pn (t_211 hm R.S) (Nat.le_of_ble_eq_true rfl) (by decide)
theorem n_211 {m : Nat} {s : fS} (hm : 1 ≤ m) (S : sS m s) : s.n 211 = 64 := S.n 211 (Nat.lt_of_lt_of_le (Nat.le_of_ble_eq_true rfl) (f_lim_1 hm)) (Nat.le_of_ble_eq_true rfl) (by decide)
theorem t_212 {m : Nat} {s : fS} (hm : 1 ≤ m) (S : sS m s) : s.t 212 = 100 := S.t 212 (Nat.lt_of_lt_of_le (Nat.le_of_ble_eq_true rfl) (f_lim_1 hm))
theorem u_212 {m : Nat} {s : fS} (hm : 1 ≤ m) (S : sS m s) : s.t 212 < 128 ∧ ut (s.t 212) = 100 := by rw [t_212 hm S]; decide
theorem a_212 {m b : Nat} {φ0 φ : Nat → Nat} {s0 s : fS} {h : eH} (hm : 1 ≤ m) (R : fC m b φ0 s0 φ h s) : 212 = φ 212 := R.pn (t_212 hm R.S) (Nat.le_of_ble_eq_true rfl) (by decide)
theorem n_212 {m : Nat} {s : fS} (hm : 1 ≤ m) (S : sS m s) : s.n 212 = 64 := S.n 212 (Nat.lt_of_lt_of_le (Nat.le_of_ble_eq_true rfl) (f_lim_1 hm)) (Nat.le_of_ble_eq_true rfl) (by decide)
theorem t_213 {m : Nat} {s : fS} (hm : 1 ≤ m) (S : sS m s) : s.t 213 = 36 := S.t 213 (Nat.lt_of_lt_of_le (Nat.le_of_ble_eq_true rfl) (f_lim_1 hm))
theorem t_214 {m : Nat} {s : fS} (hm : 1 ≤ m) (S : sS m s) : s.t 214 = 100 := S.t 214 (Nat.lt_of_lt_of_le (Nat.le_of_ble_eq_true rfl) (f_lim_1 hm))
theorem u_214 {m : Nat} {s : fS} (hm : 1 ≤ m) (S : sS m s) : s.t 214 < 128 ∧ ut (s.t 214) = 100 := by rw [t_214 hm S]; decide
theorem a_214 {m b : Nat} {φ0 φ : Nat → Nat} {s0 s : fS} {h : eH} (hm : 1 ≤ m) (R : fC m b φ0 s0 φ h s) : 214 = φ 214 := R.pn (t_214 hm R.S) (Nat.le_of_ble_eq_true rfl) (by decide)
theorem n_214 {m : Nat} {s : fS} (hm : 1 ≤ m) (S : sS m s) : s.n 214 = 2010 := S.n 214 (Nat.lt_of_lt_of_le (Nat.le_of_ble_eq_true rfl) (f_lim_1 hm)) (Nat.le_of_ble_eq_true rfl) (by decide)
theorem t_215 {m : Nat} {s : fS} (hm : 1 ≤ m) (S : sS m s) : s.t 215 = 100 := S.t 215 (Nat.lt_of_lt_of_le (Nat.le_of_ble_eq_true rfl) (f_lim_1 hm))
theorem u_215 {m : Nat} {s : fS} (hm : 1 ≤ m) (S : sS m s) : s.t 215 < 128 ∧ ut (s.t 215) = 100 := by rw [t_215 hm S]; decide
theorem a_215 {m b : Nat} {φ0 φ : Nat → Nat} {s0 s : fS} {h : eH} (hm : 1 ≤ m) (R : fC m b φ0 s0 φ h s) : 215 = φ 215 := R.pn (t_215 hm R.S) (Nat.le_of_ble_eq_true rfl) (by decide)
theorem n_215 {m : Nat} {s : fS} (hm : 1 ≤ m) (S : sS m s) : s.n 215 = 2010 := S.n 215 (Nat.lt_of_lt_of_le (Nat.le_of_ble_eq_true rfl) (f_lim_1 hm)) (Nat.le_of_ble_eq_true rfl) (by decide)
theorem t_216 {m : Nat} {s : fS} (hm : 1 ≤ m) (S : sS m s) : s.t 216 = 100 := S.t 216 (Nat.lt_of_lt_of_le (Nat.le_of_ble_eq_true rfl) (f_lim_1 hm))
theorem u_216 {m : Nat} {s : fS} (hm : 1 ≤ m) (S : sS m s) : s.t 216 < 128 ∧ ut (s.t 216) = 100 := by rw [t_216 hm S]; decide
theorem a_216 {m b : Nat} {φ0 φ : Nat → Nat} {s0 s : fS} {h : eH} (hm : 1 ≤ m) (R : fC m b φ0 s0 φ h s) : 216 = φ 216 := R.pn (t_216 hm R.S) (Nat.le_of_ble_eq_true rfl) (by decide)
theorem n_216 {m : Nat} {s : fS} (hm : 1 ≤ m) (S : sS m s) : s.n 216 = 2010 := S.n 216 (Nat.lt_of_lt_of_le (Nat.le_of_ble_eq_true rfl) (f_lim_1 hm)) (Nat.le_of_ble_eq_true rfl) (by decide)
theorem t_217 {m : Nat} {s : fS} (hm : 1 ≤ m) (S : sS m s) : s.t 217 = 100 := S.t 217 (Nat.lt_of_lt_of_le (Nat.le_of_ble_eq_true rfl) (f_lim_1 hm))
theorem u_217 {m : Nat} {s : fS} (hm : 1 ≤ m) (S : sS m s) : s.t 217 < 128 ∧ ut (s.t 217) = 100 := by rw [t_217 hm S]; decide
theorem a_217 {m b : Nat} {φ0 φ : Nat → Nat} {s0 s : fS} {h : eH} (hm : 1 ≤ m) (R : fC m b φ0 s0 φ h s) : 217 = φ 217 := R.pn (t_217 hm R.S) (Nat.le_of_ble_eq_true rfl) (by decide)
theorem n_217 {m : Nat} {s : fS} (hm : 1 ≤ m) (S : sS m s) : s.n 217 = 2010 := S.n 217 (Nat.lt_of_lt_of_le (Nat.le_of_ble_eq_true rfl) (f_lim_1 hm)) (Nat.le_of_ble_eq_true rfl) (by decide)
theorem t_218 {m : Nat} {s : fS} (hm : 1 ≤ m) (S : sS m s) : s.t 218 = 100 := S.t 218 (Nat.lt_of_lt_of_le (Nat.le_of_ble_eq_true rfl) (f_lim_1 hm))
theorem u_218 {m : Nat} {s : fS} (hm : 1 ≤ m) (S : sS m s) : s.t 218 < 128 ∧ ut (s.t 218) = 100 := by rw [t_218 hm S]; decide
theorem a_218 {m b : Nat} {φ0 φ : Nat → Nat} {s0 s : fS} {h : eH} (hm : 1 ≤ m) (R : fC m b φ0 s0 φ h s) : 218 = φ 218 := R.pn (t_218 hm R.S) (Nat.le_of_ble_eq_true rfl) (by decide)
theorem n_218 {m : Nat} {s : fS} (hm : 1 ≤ m) (S : sS m s) : s.n 218 = 2010 := S.n 218 (Nat.lt_of_lt_of_le (Nat.le_of_ble_eq_true rfl) (f_lim_1 hm)) (Nat.le_of_ble_eq_true rfl) (by decide)
theorem t_219 {m : Nat} {s : fS} (hm : 1 ≤ m) (S : sS m s) : s.t 219 = 100 := S.t 219 (Nat.lt_of_lt_of_le (Nat.le_of_ble_eq_true rfl) (f_lim_1 hm))
theorem u_219 {m : Nat} {s : fS} (hm : 1 ≤ m) (S : sS m s) : s.t 219 < 128 ∧ ut (s.t 219) = 100 := by rw [t_219 hm S]; decide
theorem a_219 {m b : Nat} {φ0 φ : Nat → Nat} {s0 s : fS} {h : eH} (hm : 1 ≤ m) (R : fC m b φ0 s0 φ h s) : 219 = φ 219 := R.pn (t_219 hm R.S) (Nat.le_of_ble_eq_true rfl) (by decide)
theorem n_219 {m : Nat} {s : fS} (hm : 1 ≤ m) (S : sS m s) : s.n 219 = 2010 := S.n 219 (Nat.lt_of_lt_of_le (Nat.le_of_ble_eq_true rfl) (f_lim_1 hm)) (Nat.le_of_ble_eq_true rfl) (by decide)
theorem t_220 {m : Nat} {s : fS} (hm : 1 ≤ m) (S : sS m s) : s.t 220 = 100 := S.t 220 (Nat.lt_of_lt_of_le (Nat.le_of_ble_eq_true rfl) (f_lim_1 hm))
theorem u_220 {m : Nat} {s : fS} (hm : 1 ≤ m) (S : sS m s) : s.t 220 < 128 ∧ ut (s.t 220) = 100 := by rw [t_220 hm S]; decide
theorem a_220 {m b : Nat} {φ0 φ : Nat → Nat} {s0 s : fS} {h : eH} (hm : 1 ≤ m) (R : fC m b φ0 s0 φ h s) : 220 = φ 220 := R.pn (t_220 hm R.S) (Nat.le_of_ble_eq_true rfl) (by decide)
theorem n_220 {m : Nat} {s : fS} (hm : 1 ≤ m) (S : sS m s) : s.n 220 = 2010 := S.n 220 (Nat.lt_of_lt_of_le (Nat.le_of_ble_eq_true rfl) (f_lim_1 hm)) (Nat.le_of_ble_eq_true rfl) (by decide)
theorem t_221 {m : Nat} {s : fS} (hm : 1 ≤ m) (S : sS m s) : s.t 221 = 100 := S.t 221 (Nat.lt_of_lt_of_le (Nat.le_of_ble_eq_true rfl) (f_lim_1 hm))
theorem u_221 {m : Nat} {s : fS} (hm : 1 ≤ m) (S : sS m s) : s.t 221 < 128 ∧ ut (s.t 221) = 100 := by rw [t_221 hm S]; decide
theorem a_221 {m b : Nat} {φ0 φ : Nat → Nat} {s0 s : fS} {h : eH} (hm : 1 ≤ m) (R : fC m b φ0 s0 φ h s) : 221 = φ 221 := R.pn (t_221 hm R.S) (Nat.le_of_ble_eq_true rfl) (by decide)
theorem n_221 {m : Nat} {s : fS} (hm : 1 ≤ m) (S : sS m s) : s.n 221 = 2010 := S.n 221 (Nat.lt_of_lt_of_le (Nat.le_of_ble_eq_true rfl) (f_lim_1 hm)) (Nat.le_of_ble_eq_true rfl) (by decide)
theorem t_222 {m : Nat} {s : fS} (hm : 1 ≤ m) (S : sS m s) : s.t 222 = 100 := S.t 222 (Nat.lt_of_lt_of_le (Nat.le_of_ble_eq_true rfl) (f_lim_1 hm))
theorem u_222 {m : Nat} {s : fS} (hm : 1 ≤ m) (S : sS m s) : s.t 222 < 128 ∧ ut (s.t 222) = 100 := by rw [t_222 hm S]; decide
theorem a_222 {m b : Nat} {φ0 φ : Nat → Nat} {s0 s : fS} {h : eH} (hm : 1 ≤ m) (R : fC m b φ0 s0 φ h s) : 222 = φ 222 := R.pn (t_222 hm R.S) (Nat.le_of_ble_eq_true rfl) (by decide)
theorem n_222 {m : Nat} {s : fS} (hm : 1 ≤ m) (S : sS m s) : s.n 222 = 10 := S.n 222 (Nat.lt_of_lt_of_le (Nat.le_of_ble_eq_true rfl) (f_lim_1 hm)) (Nat.le_of_ble_eq_true rfl) (by decide)
theorem t_223 {m : Nat} {s : fS} (hm : 1 ≤ m) (S : sS m s) : s.t 223 = 100 := S.t 223 (Nat.lt_of_lt_of_le (Nat.le_of_ble_eq_true rfl) (f_lim_1 hm))
theorem u_223 {m : Nat} {s : fS} (hm : 1 ≤ m) (S : sS m s) : s.t 223 < 128 ∧ ut (s.t 223) = 100 := by rw [t_223 hm S]; decide
theorem a_223 {m b : Nat} {φ0 φ : Nat → Nat} {s0 s : fS} {h : eH} (hm : 1 ≤ m) (R : fC m b φ0 s0 φ h s) : 223 = φ 223 := R.pn (t_223 hm R.S) (Nat.le_of_ble_eq_true rfl) (by decide)
theorem n_223 {m : Nat} {s : fS} (hm : 1 ≤ m) (S : sS m s) : s.n 223 = 3 := S.n 223 (Nat.lt_of_lt_of_le (Nat.le_of_ble_eq_true rfl) (f_lim_1 hm)) (Nat.le_of_ble_eq_true rfl) (by decide)
theorem t_224 {m : Nat} {s : fS} (hm : 1 ≤ m) (S : sS m s) : s.t 224 = 100 := S.t 224 (Nat.lt_of_lt_of_le (Nat.le_of_ble_eq_true rfl) (f_lim_1 hm))
theorem u_224 {m : Nat} {s : fS} (hm : 1 ≤ m) (S : sS m s) : s.t 224 < 128 ∧ ut (s.t 224) = 100 := by rw [t_224 hm S]; decide
theorem a_224 {m b : Nat} {φ0 φ : Nat → Nat} {s0 s : fS} {h : eH} (hm : 1 ≤ m) (R : fC m b φ0 s0 φ h s) : 224 = φ 224 := R.pn (t_224 hm R.S) (Nat.le_of_ble_eq_true rfl) (by decide)
theorem n_224 {m : Nat} {s : fS} (hm : 1 ≤ m) (S : sS m s) : s.n 224 = 3 := S.n 224 (Nat.lt_of_lt_of_le (Nat.le_of_ble_eq_true rfl) (f_lim_1 hm)) (Nat.le_of_ble_eq_true rfl) (by decide)
theorem t_225 {m : Nat} {s : fS} (hm : 1 ≤ m) (S : sS m s) : s.t 225 = 100 := S.t 225 (Nat.lt_of_lt_of_le (Nat.le_of_ble_eq_true rfl) (f_lim_1 hm))
theorem u_225 {m : Nat} {s : fS} (hm : 1 ≤ m) (S : sS m s) : s.t 225 < 128 ∧ ut (s.t 225) = 100 := by rw [t_225 hm S]; decide
theorem a_225 {m b : Nat} {φ0 φ : Nat → Nat} {s0 s : fS} {h : eH} (hm : 1 ≤ m) (R : fC m b φ0 s0 φ h s) : 225 = φ 225 := R.pn (t_225 hm R.S) (Nat.le_of_ble_eq_true rfl) (by decide)
theorem n_225 {m : Nat} {s : fS} (hm : 1 ≤ m) (S : sS m s) : s.n 225 = 3 := S.n 225 (Nat.lt_of_lt_of_le (Nat.le_of_ble_eq_true rfl) (f_lim_1 hm)) (Nat.le_of_ble_eq_true rfl) (by decide)
theorem t_226 {m : Nat} {s : fS} (hm : 1 ≤ m) (S : sS m s) : s.t 226 = 100 := S.t 226 (Nat.lt_of_lt_of_le (Nat.le_of_ble_eq_true rfl) (f_lim_1 hm))
theorem u_226 {m : Nat} {s : fS} (hm : 1 ≤ m) (S : sS m s) : s.t 226 < 128 ∧ ut (s.t 226) = 100 := by rw [t_226 hm S]; decide
theorem a_226 {m b : Nat} {φ0 φ : Nat → Nat} {s0 s : fS} {h : eH} (hm : 1 ≤ m) (R : fC m b φ0 s0 φ h s) : 226 = φ 226 := R.pn (t_226 hm R.S) (Nat.le_of_ble_eq_true rfl) (by decide)
theorem n_226 {m : Nat} {s : fS} (hm : 1 ≤ m) (S : sS m s) : s.n 226 = 3 := S.n 226 (Nat.lt_of_lt_of_le (Nat.le_of_ble_eq_true rfl) (f_lim_1 hm)) (Nat.le_of_ble_eq_true rfl) (by decide)
theorem t_227 {m : Nat} {s : fS} (hm : 1 ≤ m) (S : sS m s) : s.t 227 = 100 := S.t 227 (Nat.lt_of_lt_of_le (Nat.le_of_ble_eq_true rfl) (f_lim_1 hm))
theorem u_227 {m : Nat} {s : fS} (hm : 1 ≤ m) (S : sS m s) : s.t 227 < 128 ∧ ut (s.t 227) = 100 := by rw [t_227 hm S]; decide
theorem a_227 {m b : Nat} {φ0 φ : Nat → Nat} {s0 s : fS} {h : eH} (hm : 1 ≤ m) (R : fC m b φ0 s0 φ h s) : 227 = φ 227 := R.pn (t_227 hm R.S) (Nat.le_of_ble_eq_true rfl) (by decide)
theorem n_227 {m : Nat} {s : fS} (hm : 1 ≤ m) (S : sS m s) : s.n 227 = 8001 := S.n 227 (Nat.lt_of_lt_of_le (Nat.le_of_ble_eq_true rfl) (f_lim_1 hm)) (Nat.le_of_ble_eq_true rfl) (by decide)
theorem t_228 {m : Nat} {s : fS} (hm : 1 ≤ m) (S : sS m s) : s.t 228 = 100 := S.t 228 (Nat.lt_of_lt_of_le (Nat.le_of_ble_eq_true rfl) (f_lim_1 hm))
theorem u_228 {m : Nat} {s : fS} (hm : 1 ≤ m) (S : sS m s) : s.t 228 < 128 ∧ ut (s.t 228) = 100 := by rw [t_228 hm S]; decide
theorem a_228 {m b : Nat} {φ0 φ : Nat → Nat} {s0 s : fS} {h : eH} (hm : 1 ≤ m) (R : fC m b φ0 s0 φ h s) : 228 = φ 228 := R.pn (t_228 hm R.S) (Nat.le_of_ble_eq_true rfl) (by decide)
theorem n_228 {m : Nat} {s : fS} (hm : 1 ≤ m) (S : sS m s) : s.n 228 = 8001 := S.n 228 (Nat.lt_of_lt_of_le (Nat.le_of_ble_eq_true rfl) (f_lim_1 hm)) (Nat.le_of_ble_eq_true rfl) (by decide)
theorem t_229 {m : Nat} {s : fS} (hm : 1 ≤ m) (S : sS m s) : s.t 229 = 100 := S.t 229 (Nat.lt_of_lt_of_le (Nat.le_of_ble_eq_true rfl) (f_lim_1 hm))
theorem u_229 {m : Nat} {s : fS} (hm : 1 ≤ m) (S : sS m s) : s.t 229 < 128 ∧ ut (s.t 229) = 100 := by rw [t_229 hm S]; decide
theorem a_229 {m b : Nat} {φ0 φ : Nat → Nat} {s0 s : fS} {h : eH} (hm : 1 ≤ m) (R : fC m b φ0 s0 φ h s) : 229 = φ 229 := R.pn (t_229 hm R.S) (Nat.le_of_ble_eq_true rfl) (by decide)
theorem n_229 {m : Nat} {s : fS} (hm : 1 ≤ m) (S : sS m s) : s.n 229 = 8001 := S.n 229 (Nat.lt_of_lt_of_le (Nat.le_of_ble_eq_true rfl) (f_lim_1 hm)) (Nat.le_of_ble_eq_true rfl) (by decide)
theorem t_230 {m : Nat} {s : fS} (hm : 1 ≤ m) (S : sS m s) : s.t 230 = 101 := S.t 230 (Nat.lt_of_lt_of_le (Nat.le_of_ble_eq_true rfl) (f_lim_1 hm))
theorem u_230 {m : Nat} {s : fS} (hm : 1 ≤ m) (S : sS m s) : s.t 230 < 128 ∧ ut (s.t 230) = 101 := by rw [t_230 hm S]; decide
theorem a_230 {m b : Nat} {φ0 φ : Nat → Nat} {s0 s : fS} {h : eH} (hm : 1 ≤ m) (R : fC m b φ0 s0 φ h s) : 230 = φ 230 := R.pn (t_230 hm R.S) (Nat.le_of_ble_eq_true rfl) (by decide)
theorem n_230 {m : Nat} {s : fS} (hm : 1 ≤ m) (S : sS m s) : s.n 230 = 8001 := S.n 230 (Nat.lt_of_lt_of_le (Nat.le_of_ble_eq_true rfl) (f_lim_1 hm)) (Nat.le_of_ble_eq_true rfl) (by decide)
theorem t_231 {m : Nat} {s : fS} (hm : 1 ≤ m) (S : sS m s) : s.t 231 = 100 := S.t 231 (Nat.lt_of_lt_of_le (Nat.le_of_ble_eq_true rfl) (f_lim_1 hm))
theorem u_231 {m : Nat} {s : fS} (hm : 1 ≤ m) (S : sS m s) : s.t 231 < 128 ∧ ut (s.t 231) = 100 := by rw [t_231 hm S]; decide
theorem a_231 {m b : Nat} {φ0 φ : Nat → Nat} {s0 s : fS} {h : eH} (hm : 1 ≤ m) (R : fC m b φ0 s0 φ h s) : 231 = φ 231 := R.pn (t_231 hm R.S) (Nat.le_of_ble_eq_true rfl) (by decide)
theorem n_231 {m : Nat} {s : fS} (hm : 1 ≤ m) (S : sS m s) : s.n 231 = 8001 := S.n 231 (Nat.lt_of_lt_of_le (Nat.le_of_ble_eq_true rfl) (f_lim_1 hm)) (Nat.le_of_ble_eq_true rfl) (by decide)
theorem t_232 {m : Nat} {s : fS} (hm : 1 ≤ m) (S : sS m s) : s.t 232 = 103 := S.t 232 (Nat.lt_of_lt_of_le (Nat.le_of_ble_eq_true rfl) (f_lim_1 hm))
theorem u_232 {m : Nat} {s : fS} (hm : 1 ≤ m) (S : sS m s) : s.t 232 < 128 ∧ ut (s.t 232) = 103 := by rw [t_232 hm S]; decide
theorem a_232 {m b : Nat} {φ0 φ : Nat → Nat} {s0 s : fS} {h : eH} (hm : 1 ≤ m) (R : fC m b φ0 s0 φ h s) : 232 = φ 232 := R.pn (t_232 hm R.S) (Nat.le_of_ble_eq_true rfl) (by decide)
theorem n_232 {m : Nat} {s : fS} (hm : 1 ≤ m) (S : sS m s) : s.n 232 = 8001 := S.n 232 (Nat.lt_of_lt_of_le (Nat.le_of_ble_eq_true rfl) (f_lim_1 hm)) (Nat.le_of_ble_eq_true rfl) (by decide)
theorem t_233 {m : Nat} {s : fS} (hm : 1 ≤ m) (S : sS m s) : s.t 233 = 100 := S.t 233 (Nat.lt_of_lt_of_le (Nat.le_of_ble_eq_true rfl) (f_lim_1 hm))
theorem u_233 {m : Nat} {s : fS} (hm : 1 ≤ m) (S : sS m s) : s.t 233 < 128 ∧ ut (s.t 233) = 100 := by rw [t_233 hm S]; decide
theorem a_233 {m b : Nat} {φ0 φ : Nat → Nat} {s0 s : fS} {h : eH} (hm : 1 ≤ m) (R : fC m b φ0 s0 φ h s) : 233 = φ 233 := R.pn (t_233 hm R.S) (Nat.le_of_ble_eq_true rfl) (by decide)
theorem n_233 {m : Nat} {s : fS} (hm : 1 ≤ m) (S : sS m s) : s.n 233 = 4 := S.n 233 (Nat.lt_of_lt_of_le (Nat.le_of_ble_eq_true rfl) (f_lim_1 hm)) (Nat.le_of_ble_eq_true rfl) (by decide)
theorem t_234 {m : Nat} {s : fS} (hm : 1 ≤ m) (S : sS m s) : s.t 234 = 100 := S.t 234 (Nat.lt_of_lt_of_le (Nat.le_of_ble_eq_true rfl) (f_lim_1 hm))
theorem u_234 {m : Nat} {s : fS} (hm : 1 ≤ m) (S : sS m s) : s.t 234 < 128 ∧ ut (s.t 234) = 100 := by rw [t_234 hm S]; decide
theorem a_234 {m b : Nat} {φ0 φ : Nat → Nat} {s0 s : fS} {h : eH} (hm : 1 ≤ m) (R : fC m b φ0 s0 φ h s) : 234 = φ 234 := R.pn (t_234 hm R.S) (Nat.le_of_ble_eq_true rfl) (by decide)
theorem n_234 {m : Nat} {s : fS} (hm : 1 ≤ m) (S : sS m s) : s.n 234 = 2010 := S.n 234 (Nat.lt_of_lt_of_le (Nat.le_of_ble_eq_true rfl) (f_lim_1 hm)) (Nat.le_of_ble_eq_true rfl) (by decide)
theorem t_235 {m : Nat} {s : fS} (hm : 1 ≤ m) (S : sS m s) : s.t 235 = 100 := S.t 235 (Nat.lt_of_lt_of_le (Nat.le_of_ble_eq_true rfl) (f_lim_1 hm))
theorem u_235 {m : Nat} {s : fS} (hm : 1 ≤ m) (S : sS m s) : s.t 235 < 128 ∧ ut (s.t 235) = 100 := by rw [t_235 hm S]; decide
theorem a_235 {m b : Nat} {φ0 φ : Nat → Nat} {s0 s : fS} {h : eH} (hm : 1 ≤ m) (R : fC m b φ0 s0 φ h s) : 235 = φ 235 := R.pn (t_235 hm R.S) (Nat.le_of_ble_eq_true rfl) (by decide)
theorem n_235 {m : Nat} {s : fS} (hm : 1 ≤ m) (S : sS m s) : s.n 235 = 2010 := S.n 235 (Nat.lt_of_lt_of_le (Nat.le_of_ble_eq_true rfl) (f_lim_1 hm)) (Nat.le_of_ble_eq_true rfl) (by decide)
theorem t_236 {m : Nat} {s : fS} (hm : 1 ≤ m) (S : sS m s) : s.t 236 = 100 := S.t 236 (Nat.lt_of_lt_of_le (Nat.le_of_ble_eq_true rfl) (f_lim_1 hm))
theorem u_236 {m : Nat} {s : fS} (hm : 1 ≤ m) (S : sS m s) : s.t 236 < 128 ∧ ut (s.t 236) = 100 := by rw [t_236 hm S]; decide
theorem a_236 {m b : Nat} {φ0 φ : Nat → Nat} {s0 s : fS} {h : eH} (hm : 1 ≤ m) (R : fC m b φ0 s0 φ h s) : 236 = φ 236 := R.pn (t_236 hm R.S) (Nat.le_of_ble_eq_true rfl) (by decide)
theorem n_236 {m : Nat} {s : fS} (hm : 1 ≤ m) (S : sS m s) : s.n 236 = 2010 := S.n 236 (Nat.lt_of_lt_of_le (Nat.le_of_ble_eq_true rfl) (f_lim_1 hm)) (Nat.le_of_ble_eq_true rfl) (by decide)
theorem t_237 {m : Nat} {s : fS} (hm : 1 ≤ m) (S : sS m s) : s.t 237 = 100 := S.t 237 (Nat.lt_of_lt_of_le (Nat.le_of_ble_eq_true rfl) (f_lim_1 hm))
theorem u_237 {m : Nat} {s : fS} (hm : 1 ≤ m) (S : sS m s) : s.t 237 < 128 ∧ ut (s.t 237) = 100 := by rw [t_237 hm S]; decide
theorem a_237 {m b : Nat} {φ0 φ : Nat → Nat} {s0 s : fS} {h : eH} (hm : 1 ≤ m) (R : fC m b φ0 s0 φ h s) : 237 = φ 237 := R.pn (t_237 hm R.S) (Nat.le_of_ble_eq_true rfl) (by decide)
theorem n_237 {m : Nat} {s : fS} (hm : 1 ≤ m) (S : sS m s) : s.n 237 = 2010 := S.n 237 (Nat.lt_of_lt_of_le (Nat.le_of_ble_eq_true rfl) (f_lim_1 hm)) (Nat.le_of_ble_eq_true rfl) (by decide)
theorem t_238 {m : Nat} {s : fS} (hm : 1 ≤ m) (S : sS m s) : s.t 238 = 100 := S.t 238 (Nat.lt_of_lt_of_le (Nat.le_of_ble_eq_true rfl) (f_lim_1 hm))
theorem u_238 {m : Nat} {s : fS} (hm : 1 ≤ m) (S : sS m s) : s.t 238 < 128 ∧ ut (s.t 238) = 100 := by rw [t_238 hm S]; decide
theorem a_238 {m b : Nat} {φ0 φ : Nat → Nat} {s0 s : fS} {h : eH} (hm : 1 ≤ m) (R : fC m b φ0 s0 φ h s) : 238 = φ 238 := R.pn (t_238 hm R.S) (Nat.le_of_ble_eq_true rfl) (by decide)
theorem n_238 {m : Nat} {s : fS} (hm : 1 ≤ m) (S : sS m s) : s.n 238 = 2010 := S.n 238 (Nat.lt_of_lt_of_le (Nat.le_of_ble_eq_true rfl) (f_lim_1 hm)) (Nat.le_of_ble_eq_true rfl) (by decide)
theorem t_239 {m : Nat} {s : fS} (hm : 1 ≤ m) (S : sS m s) : s.t 239 = 101 := S.t 239 (Nat.lt_of_lt_of_le (Nat.le_of_ble_eq_true rfl) (f_lim_1 hm))
theorem u_239 {m : Nat} {s : fS} (hm : 1 ≤ m) (S : sS m s) : s.t 239 < 128 ∧ ut (s.t 239) = 101 := by rw [t_239 hm S]; decide
theorem a_239 {m b : Nat} {φ0 φ : Nat → Nat} {s0 s : fS} {h : eH} (hm : 1 ≤ m) (R : fC m b φ0 s0 φ h s) : 239 = φ 239 := R.pn (t_239 hm R.S) (Nat.le_of_ble_eq_true rfl) (by decide)
theorem n_239 {m : Nat} {s : fS} (hm : 1 ≤ m) (S : sS m s) : s.n 239 = 2010 := S.n 239 (Nat.lt_of_lt_of_le (Nat.le_of_ble_eq_true rfl) (f_lim_1 hm)) (Nat.le_of_ble_eq_true rfl) (by decide)
theorem t_240 {m : Nat} {s : fS} (hm : 1 ≤ m) (S : sS m s) : s.t 240 = 100 := S.t 240 (Nat.lt_of_lt_of_le (Nat.le_of_ble_eq_true rfl) (f_lim_1 hm))
theorem u_240 {m : Nat} {s : fS} (hm : 1 ≤ m) (S : sS m s) : s.t 240 < 128 ∧ ut (s.t 240) = 100 := by rw [t_240 hm S]; decide
theorem a_240 {m b : Nat} {φ0 φ : Nat → Nat} {s0 s : fS} {h : eH} (hm : 1 ≤ m) (R : fC m b φ0 s0 φ h s) : 240 = φ 240 := R.pn (t_240 hm R.S) (Nat.le_of_ble_eq_true rfl) (by decide)
theorem n_240 {m : Nat} {s : fS} (hm : 1 ≤ m) (S : sS m s) : s.n 240 = 2011 := S.n 240 (Nat.lt_of_lt_of_le (Nat.le_of_ble_eq_true rfl) (f_lim_1 hm)) (Nat.le_of_ble_eq_true rfl) (by decide)
theorem t_241 {m : Nat} {s : fS} (hm : 1 ≤ m) (S : sS m s) : s.t 241 = 100 := S.t 241 (Nat.lt_of_lt_of_le (Nat.le_of_ble_eq_true rfl) (f_lim_1 hm))
theorem u_241 {m : Nat} {s : fS} (hm : 1 ≤ m) (S : sS m s) : s.t 241 < 128 ∧ ut (s.t 241) = 100 := by rw [t_241 hm S]; decide
theorem a_241 {m b : Nat} {φ0 φ : Nat → Nat} {s0 s : fS} {h : eH} (hm : 1 ≤ m) (R : fC m b φ0 s0 φ h s) : 241 = φ 241 := R.pn (t_241 hm R.S) (Nat.le_of_ble_eq_true rfl) (by decide)
theorem n_241 {m : Nat} {s : fS} (hm : 1 ≤ m) (S : sS m s) : s.n 241 = 8044 := S.n 241 (Nat.lt_of_lt_of_le (Nat.le_of_ble_eq_true rfl) (f_lim_1 hm)) (Nat.le_of_ble_eq_true rfl) (by decide)
theorem t_242 {m : Nat} {s : fS} (hm : 1 ≤ m) (S : sS m s) : s.t 242 = 100 := S.t 242 (Nat.lt_of_lt_of_le (Nat.le_of_ble_eq_true rfl) (f_lim_1 hm))
theorem u_242 {m : Nat} {s : fS} (hm : 1 ≤ m) (S : sS m s) : s.t 242 < 128 ∧ ut (s.t 242) = 100 := by rw [t_242 hm S]; decide
theorem a_242 {m b : Nat} {φ0 φ : Nat → Nat} {s0 s : fS} {h : eH} (hm : 1 ≤ m) (R : fC m b φ0 s0 φ h s) : 242 = φ 242 := R.pn (t_242 hm R.S) (Nat.le_of_ble_eq_true rfl) (by decide)
theorem n_242 {m : Nat} {s : fS} (hm : 1 ≤ m) (S : sS m s) : s.n 242 = 2011 := S.n 242 (Nat.lt_of_lt_of_le (Nat.le_of_ble_eq_true rfl) (f_lim_1 hm)) (Nat.le_of_ble_eq_true rfl) (by decide)
theorem t_243 {m : Nat} {s : fS} (hm : 1 ≤ m) (S : sS m s) : s.t 243 = 37 := S.t 243 (Nat.lt_of_lt_of_le (Nat.le_of_ble_eq_true rfl) (f_lim_1 hm))
theorem t_244 {m : Nat} {s : fS} (hm : 1 ≤ m) (S : sS m s) : s.t 244 = 100 := S.t 244 (Nat.lt_of_lt_of_le (Nat.le_of_ble_eq_true rfl) (f_lim_1 hm))
theorem u_244 {m : Nat} {s : fS} (hm : 1 ≤ m) (S : sS m s) : s.t 244 < 128 ∧ ut (s.t 244) = 100 := by rw [t_244 hm S]; decide
theorem a_244 {m b : Nat} {φ0 φ : Nat → Nat} {s0 s : fS} {h : eH} (hm : 1 ≤ m) (R : fC m b φ0 s0 φ h s) : 244 = φ 244 := R.pn (t_244 hm R.S) (Nat.le_of_ble_eq_true rfl) (by decide)
theorem n_244 {m : Nat} {s : fS} (hm : 1 ≤ m) (S : sS m s) : s.n 244 = 100 := S.n 244 (Nat.lt_of_lt_of_le (Nat.le_of_ble_eq_true rfl) (f_lim_1 hm)) (Nat.le_of_ble_eq_true rfl) (by decide)
theorem t_245 {m : Nat} {s : fS} (hm : 1 ≤ m) (S : sS m s) : s.t 245 = 100 := S.t 245 (Nat.lt_of_lt_of_le (Nat.le_of_ble_eq_true rfl) (f_lim_1 hm))
theorem u_245 {m : Nat} {s : fS} (hm : 1 ≤ m) (S : sS m s) : s.t 245 < 128 ∧ ut (s.t 245) = 100 := by rw [t_245 hm S]; decide
theorem a_245 {m b : Nat} {φ0 φ : Nat → Nat} {s0 s : fS} {h : eH} (hm : 1 ≤ m) (R : fC m b φ0 s0 φ h s) : 245 = φ 245 := R.pn (t_245 hm R.S) (Nat.le_of_ble_eq_true rfl) (by decide)
theorem n_245 {m : Nat} {s : fS} (hm : 1 ≤ m) (S : sS m s) : s.n 245 = 100 := S.n 245 (Nat.lt_of_lt_of_le (Nat.le_of_ble_eq_true rfl) (f_lim_1 hm)) (Nat.le_of_ble_eq_true rfl) (by decide)
theorem t_246 {m : Nat} {s : fS} (hm : 1 ≤ m) (S : sS m s) : s.t 246 = 100 := S.t 246 (Nat.lt_of_lt_of_le (Nat.le_of_ble_eq_true rfl) (f_lim_1 hm))
theorem u_246 {m : Nat} {s : fS} (hm : 1 ≤ m) (S : sS m s) : s.t 246 < 128 ∧ ut (s.t 246) = 100 := by rw [t_246 hm S]; decide
theorem a_246 {m b : Nat} {φ0 φ : Nat → Nat} {s0 s : fS} {h : eH} (hm : 1 ≤ m) (R : fC m b φ0 s0 φ h s) : 246 = φ 246 := R.pn (t_246 hm R.S) (Nat.le_of_ble_eq_true rfl) (by decide)
theorem n_246 {m : Nat} {s : fS} (hm : 1 ≤ m) (S : sS m s) : s.n 246 = 100 := S.n 246 (Nat.lt_of_lt_of_le (Nat.le_of_ble_eq_true rfl) (f_lim_1 hm)) (Nat.le_of_ble_eq_true rfl) (by decide)
theorem t_247 {m : Nat} {s : fS} (hm : 1 ≤ m) (S : sS m s) : s.t 247 = 100 := S.t 247 (Nat.lt_of_lt_of_le (Nat.le_of_ble_eq_true rfl) (f_lim_1 hm))
theorem u_247 {m : Nat} {s : fS} (hm : 1 ≤ m) (S : sS m s) : s.t 247 < 128 ∧ ut (s.t 247) = 100 := by rw [t_247 hm S]; decide
theorem a_247 {m b : Nat} {φ0 φ : Nat → Nat} {s0 s : fS} {h : eH} (hm : 1 ≤ m) (R : fC m b φ0 s0 φ h s) : 247 = φ 247 := R.pn (t_247 hm R.S) (Nat.le_of_ble_eq_true rfl) (by decide)
theorem n_247 {m : Nat} {s : fS} (hm : 1 ≤ m) (S : sS m s) : s.n 247 = 100 := S.n 247 (Nat.lt_of_lt_of_le (Nat.le_of_ble_eq_true rfl) (f_lim_1 hm)) (Nat.le_of_ble_eq_true rfl) (by decide)
theorem t_248 {m : Nat} {s : fS} (hm : 1 ≤ m) (S : sS m s) : s.t 248 = 100 := S.t 248 (Nat.lt_of_lt_of_le (Nat.le_of_ble_eq_true rfl) (f_lim_1 hm))
theorem u_248 {m : Nat} {s : fS} (hm : 1 ≤ m) (S : sS m s) : s.t 248 < 128 ∧ ut (s.t 248) = 100 := by rw [t_248 hm S]; decide
theorem a_248 {m b : Nat} {φ0 φ : Nat → Nat} {s0 s : fS} {h : eH} (hm : 1 ≤ m) (R : fC m b φ0 s0 φ h s) : 248 = φ 248 := R.pn (t_248 hm R.S) (Nat.le_of_ble_eq_true rfl) (by decide)
theorem n_248 {m : Nat} {s : fS} (hm : 1 ≤ m) (S : sS m s) : s.n 248 = 10 := S.n 248 (Nat.lt_of_lt_of_le (Nat.le_of_ble_eq_true rfl) (f_lim_1 hm)) (Nat.le_of_ble_eq_true rfl) (by decide)
theorem t_249 {m : Nat} {s : fS} (hm : 1 ≤ m) (S : sS m s) : s.t 249 = 102 := S.t 249 (Nat.lt_of_lt_of_le (Nat.le_of_ble_eq_true rfl) (f_lim_1 hm))
theorem u_249 {m : Nat} {s : fS} (hm : 1 ≤ m) (S : sS m s) : s.t 249 < 128 ∧ ut (s.t 249) = 102 := by rw [t_249 hm S]; decide
theorem a_249 {m b : Nat} {φ0 φ : Nat → Nat} {s0 s : fS} {h : eH} (hm : 1 ≤ m) (R : fC m b φ0 s0 φ h s) : 249 = φ 249 := R.pn (t_249 hm R.S) (Nat.le_of_ble_eq_true rfl) (by decide)
theorem n_249 {m : Nat} {s : fS} (hm : 1 ≤ m) (S : sS m s) : s.n 249 = 360000 := S.n 249 (Nat.lt_of_lt_of_le (Nat.le_of_ble_eq_true rfl) (f_lim_1 hm)) (Nat.le_of_ble_eq_true rfl) (by decide)
theorem t_250 {m : Nat} {s : fS} (hm : 1 ≤ m) (S : sS m s) : s.t 250 = 100 := S.t 250 (Nat.lt_of_lt_of_le (Nat.le_of_ble_eq_true rfl) (f_lim_1 hm))
theorem u_250 {m : Nat} {s : fS} (hm : 1 ≤ m) (S : sS m s) : s.t 250 < 128 ∧ ut (s.t 250) = 100 := by rw [t_250 hm S]; decide
theorem a_250 {m b : Nat} {φ0 φ : Nat → Nat} {s0 s : fS} {h : eH} (hm : 1 ≤ m) (R : fC m b φ0 s0 φ h s) : 250 = φ 250 := R.pn (t_250 hm R.S) (Nat.le_of_ble_eq_true rfl) (by decide)
theorem n_250 {m : Nat} {s : fS} (hm : 1 ≤ m) (S : sS m s) : s.n 250 = 100 := S.n 250 (Nat.lt_of_lt_of_le (Nat.le_of_ble_eq_true rfl) (f_lim_1 hm)) (Nat.le_of_ble_eq_true rfl) (by decide)
theorem t_251 {m : Nat} {s : fS} (hm : 1 ≤ m) (S : sS m s) : s.t 251 = 100 := S.t 251 (Nat.lt_of_lt_of_le (Nat.le_of_ble_eq_true rfl) (f_lim_1 hm))
theorem u_251 {m : Nat} {s : fS} (hm : 1 ≤ m) (S : sS m s) : s.t 251 < 128 ∧ ut (s.t 251) = 100 := by rw [t_251 hm S]; decide
theorem a_251 {m b : Nat} {φ0 φ : Nat → Nat} {s0 s : fS} {h : eH} (hm : 1 ≤ m) (R : fC m b φ0 s0 φ h s) : 251 = φ 251 := R.pn (t_251 hm R.S) (Nat.le_of_ble_eq_true rfl) (by decide)
theorem n_251 {m : Nat} {s : fS} (hm : 1 ≤ m) (S : sS m s) : s.n 251 = 3000 := S.n 251 (Nat.lt_of_lt_of_le (Nat.le_of_ble_eq_true rfl) (f_lim_1 hm)) (Nat.le_of_ble_eq_true rfl) (by decide)
theorem t_252 {m : Nat} {s : fS} (hm : 1 ≤ m) (S : sS m s) : s.t 252 = 100 := S.t 252 (Nat.lt_of_lt_of_le (Nat.le_of_ble_eq_true rfl) (f_lim_1 hm))
theorem u_252 {m : Nat} {s : fS} (hm : 1 ≤ m) (S : sS m s) : s.t 252 < 128 ∧ ut (s.t 252) = 100 := by rw [t_252 hm S]; decide
theorem a_252 {m b : Nat} {φ0 φ : Nat → Nat} {s0 s : fS} {h : eH} (hm : 1 ≤ m) (R : fC m b φ0 s0 φ h s) : 252 = φ 252 := R.pn (t_252 hm R.S) (Nat.le_of_ble_eq_true rfl) (by decide)
theorem n_252 {m : Nat} {s : fS} (hm : 1 ≤ m) (S : sS m s) : s.n 252 = 3000 := S.n 252 (Nat.lt_of_lt_of_le (Nat.le_of_ble_eq_true rfl) (f_lim_1 hm)) (Nat.le_of_ble_eq_true rfl) (by decide)
theorem t_253 {m : Nat} {s : fS} (hm : 1 ≤ m) (S : sS m s) : s.t 253 = 100 := S.t 253 (Nat.lt_of_lt_of_le (Nat.le_of_ble_eq_true rfl) (f_lim_1 hm))
theorem u_253 {m : Nat} {s : fS} (hm : 1 ≤ m) (S : sS m s) : s.t 253 < 128 ∧ ut (s.t 253) = 100 := by rw [t_253 hm S]; decide
theorem a_253 {m b : Nat} {φ0 φ : Nat → Nat} {s0 s : fS} {h : eH} (hm : 1 ≤ m) (R : fC m b φ0 s0 φ h s) : 253 = φ 253 := R.pn (t_253 hm R.S) (Nat.le_of_ble_eq_true rfl) (by decide)
theorem n_253 {m : Nat} {s : fS} (hm : 1 ≤ m) (S : sS m s) : s.n 253 = 3000 := S.n 253 (Nat.lt_of_lt_of_le (Nat.le_of_ble_eq_true rfl) (f_lim_1 hm)) (Nat.le_of_ble_eq_true rfl) (by decide)
theorem t_254 {m : Nat} {s : fS} (hm : 1 ≤ m) (S : sS m s) : s.t 254 = 100 := S.t 254 (Nat.lt_of_lt_of_le (Nat.le_of_ble_eq_true rfl) (f_lim_1 hm))
theorem u_254 {m : Nat} {s : fS} (hm : 1 ≤ m) (S : sS m s) : s.t 254 < 128 ∧ ut (s.t 254) = 100 := by rw [t_254 hm S]; decide
theorem a_254 {m b : Nat} {φ0 φ : Nat → Nat} {s0 s : fS} {h : eH} (hm : 1 ≤ m) (R : fC m b φ0 s0 φ h s) : 254 = φ 254 := R.pn (t_254 hm R.S) (Nat.le_of_ble_eq_true rfl) (by decide)
theorem n_254 {m : Nat} {s : fS} (hm : 1 ≤ m) (S : sS m s) : s.n 254 = 3000 := S.n 254 (Nat.lt_of_lt_of_le (Nat.le_of_ble_eq_true rfl) (f_lim_1 hm)) (Nat.le_of_ble_eq_true rfl) (by decide)
theorem t_255 {m : Nat} {s : fS} (hm : 1 ≤ m) (S : sS m s) : s.t 255 = 100 := S.t 255 (Nat.lt_of_lt_of_le (Nat.le_of_ble_eq_true rfl) (f_lim_1 hm))
theorem u_255 {m : Nat} {s : fS} (hm : 1 ≤ m) (S : sS m s) : s.t 255 < 128 ∧ ut (s.t 255) = 100 := by rw [t_255 hm S]; decide
theorem a_255 {m b : Nat} {φ0 φ : Nat → Nat} {s0 s : fS} {h : eH} (hm : 1 ≤ m) (R : fC m b φ0 s0 φ h s) : 255 = φ 255 := R.pn (t_255 hm R.S) (Nat.le_of_ble_eq_true rfl) (by decide)
theorem n_255 {m : Nat} {s : fS} (hm : 1 ≤ m) (S : sS m s) : s.n 255 = 3000 := S.n 255 (Nat.lt_of_lt_of_le (Nat.le_of_ble_eq_true rfl) (f_lim_1 hm)) (Nat.le_of_ble_eq_true rfl) (by decide)
theorem t_256 {m : Nat} {s : fS} (hm : 1 ≤ m) (S : sS m s) : s.t 256 = 100 := S.t 256 (Nat.lt_of_lt_of_le (Nat.le_of_ble_eq_true rfl) (f_lim_1 hm))
theorem u_256 {m : Nat} {s : fS} (hm : 1 ≤ m) (S : sS m s) : s.t 256 < 128 ∧ ut (s.t 256) = 100 := by rw [t_256 hm S]; decide
theorem a_256 {m b : Nat} {φ0 φ : Nat → Nat} {s0 s : fS} {h : eH} (hm : 1 ≤ m) (R : fC m b φ0 s0 φ h s) : 256 = φ 256 := R.pn (t_256 hm R.S) (Nat.le_of_ble_eq_true rfl) (by decide)
theorem n_256 {m : Nat} {s : fS} (hm : 1 ≤ m) (S : sS m s) : s.n 256 = 3000 := S.n 256 (Nat.lt_of_lt_of_le (Nat.le_of_ble_eq_true rfl) (f_lim_1 hm)) (Nat.le_of_ble_eq_true rfl) (by decide)
theorem t_257 {m : Nat} {s : fS} (hm : 1 ≤ m) (S : sS m s) : s.t 257 = 100 := S.t 257 (Nat.lt_of_lt_of_le (Nat.le_of_ble_eq_true rfl) (f_lim_1 hm))
theorem u_257 {m : Nat} {s : fS} (hm : 1 ≤ m) (S : sS m s) : s.t 257 < 128 ∧ ut (s.t 257) = 100 := by rw [t_257 hm S]; decide
theorem a_257 {m b : Nat} {φ0 φ : Nat → Nat} {s0 s : fS} {h : eH} (hm : 1 ≤ m) (R : fC m b φ0 s0 φ h s) : 257 = φ 257 := R.pn (t_257 hm R.S) (Nat.le_of_ble_eq_true rfl) (by decide)
theorem n_257 {m : Nat} {s : fS} (hm : 1 ≤ m) (S : sS m s) : s.n 257 = 3000 := S.n 257 (Nat.lt_of_lt_of_le (Nat.le_of_ble_eq_true rfl) (f_lim_1 hm)) (Nat.le_of_ble_eq_true rfl) (by decide)
theorem t_258 {m : Nat} {s : fS} (hm : 1 ≤ m) (S : sS m s) : s.t 258 = 100 := S.t 258 (Nat.lt_of_lt_of_le (Nat.le_of_ble_eq_true rfl) (f_lim_1 hm))
theorem u_258 {m : Nat} {s : fS} (hm : 1 ≤ m) (S : sS m s) : s.t 258 < 128 ∧ ut (s.t 258) = 100 := by rw [t_258 hm S]; decide
theorem a_258 {m b : Nat} {φ0 φ : Nat → Nat} {s0 s : fS} {h : eH} (hm : 1 ≤ m) (R : fC m b φ0 s0 φ h s) : 258 = φ 258 := R.pn (t_258 hm R.S) (Nat.le_of_ble_eq_true rfl) (by decide)
theorem n_258 {m : Nat} {s : fS} (hm : 1 ≤ m) (S : sS m s) : s.n 258 = 3000 := S.n 258 (Nat.lt_of_lt_of_le (Nat.le_of_ble_eq_true rfl) (f_lim_1 hm)) (Nat.le_of_ble_eq_true rfl) (by decide)
theorem t_259 {m : Nat} {s : fS} (hm : 1 ≤ m) (S : sS m s) : s.t 259 = 100 := S.t 259 (Nat.lt_of_lt_of_le (Nat.le_of_ble_eq_true rfl) (f_lim_1 hm))
theorem u_259 {m : Nat} {s : fS} (hm : 1 ≤ m) (S : sS m s) : s.t 259 < 128 ∧ ut (s.t 259) = 100 := by rw [t_259 hm S]; decide
theorem a_259 {m b : Nat} {φ0 φ : Nat → Nat} {s0 s : fS} {h : eH} (hm : 1 ≤ m) (R : fC m b φ0 s0 φ h s) : 259 = φ 259 := R.pn (t_259 hm R.S) (Nat.le_of_ble_eq_true rfl) (by decide)
theorem n_259 {m : Nat} {s : fS} (hm : 1 ≤ m) (S : sS m s) : s.n 259 = 6 := S.n 259 (Nat.lt_of_lt_of_le (Nat.le_of_ble_eq_true rfl) (f_lim_1 hm)) (Nat.le_of_ble_eq_true rfl) (by decide)
theorem t_260 {m : Nat} {s : fS} (hm : 1 ≤ m) (S : sS m s) : s.t 260 = 100 := S.t 260 (Nat.lt_of_lt_of_le (Nat.le_of_ble_eq_true rfl) (f_lim_1 hm))
theorem u_260 {m : Nat} {s : fS} (hm : 1 ≤ m) (S : sS m s) : s.t 260 < 128 ∧ ut (s.t 260) = 100 := by rw [t_260 hm S]; decide
theorem a_260 {m b : Nat} {φ0 φ : Nat → Nat} {s0 s : fS} {h : eH} (hm : 1 ≤ m) (R : fC m b φ0 s0 φ h s) : 260 = φ 260 := R.pn (t_260 hm R.S) (Nat.le_of_ble_eq_true rfl) (by decide)
theorem n_260 {m : Nat} {s : fS} (hm : 1 ≤ m) (S : sS m s) : s.n 260 = 65537 := S.n 260 (Nat.lt_of_lt_of_le (Nat.le_of_ble_eq_true rfl) (f_lim_1 hm)) (Nat.le_of_ble_eq_true rfl) (by decide)
theorem t_261 {m : Nat} {s : fS} (hm : 1 ≤ m) (S : sS m s) : s.t 261 = 102 := S.t 261 (Nat.lt_of_lt_of_le (Nat.le_of_ble_eq_true rfl) (f_lim_1 hm))
theorem u_261 {m : Nat} {s : fS} (hm : 1 ≤ m) (S : sS m s) : s.t 261 < 128 ∧ ut (s.t 261) = 102 := by rw [t_261 hm S]; decide
theorem a_261 {m b : Nat} {φ0 φ : Nat → Nat} {s0 s : fS} {h : eH} (hm : 1 ≤ m) (R : fC m b φ0 s0 φ h s) : 261 = φ 261 := R.pn (t_261 hm R.S) (Nat.le_of_ble_eq_true rfl) (by decide)
theorem n_261 {m : Nat} {s : fS} (hm : 1 ≤ m) (S : sS m s) : s.n 261 = 44000 := S.n 261 (Nat.lt_of_lt_of_le (Nat.le_of_ble_eq_true rfl) (f_lim_1 hm)) (Nat.le_of_ble_eq_true rfl) (by decide)
theorem t_262 {m : Nat} {s : fS} (hm : 1 ≤ m) (S : sS m s) : s.t 262 = 100 := S.t 262 (Nat.lt_of_lt_of_le (Nat.le_of_ble_eq_true rfl) (f_lim_1 hm))
theorem u_262 {m : Nat} {s : fS} (hm : 1 ≤ m) (S : sS m s) : s.t 262 < 128 ∧ ut (s.t 262) = 100 := by rw [t_262 hm S]; decide
theorem a_262 {m b : Nat} {φ0 φ : Nat → Nat} {s0 s : fS} {h : eH} (hm : 1 ≤ m) (R : fC m b φ0 s0 φ h s) : 262 = φ 262 := R.pn (t_262 hm R.S) (Nat.le_of_ble_eq_true rfl) (by decide)
theorem n_262 {m : Nat} {s : fS} (hm : 1 ≤ m) (S : sS m s) : s.n 262 = 1100 := S.n 262 (Nat.lt_of_lt_of_le (Nat.le_of_ble_eq_true rfl) (f_lim_1 hm)) (Nat.le_of_ble_eq_true rfl) (by decide)
theorem t_263 {m : Nat} {s : fS} (hm : 1 ≤ m) (S : sS m s) : s.t 263 = 100 := S.t 263 (Nat.lt_of_lt_of_le (Nat.le_of_ble_eq_true rfl) (f_lim_1 hm))
theorem u_263 {m : Nat} {s : fS} (hm : 1 ≤ m) (S : sS m s) : s.t 263 < 128 ∧ ut (s.t 263) = 100 := by rw [t_263 hm S]; decide
theorem a_263 {m b : Nat} {φ0 φ : Nat → Nat} {s0 s : fS} {h : eH} (hm : 1 ≤ m) (R : fC m b φ0 s0 φ h s) : 263 = φ 263 := R.pn (t_263 hm R.S) (Nat.le_of_ble_eq_true rfl) (by decide)
theorem n_263 {m : Nat} {s : fS} (hm : 1 ≤ m) (S : sS m s) : s.n 263 = 41 := S.n 263 (Nat.lt_of_lt_of_le (Nat.le_of_ble_eq_true rfl) (f_lim_1 hm)) (Nat.le_of_ble_eq_true rfl) (by decide)
theorem t_264 {m : Nat} {s : fS} (hm : 1 ≤ m) (S : sS m s) : s.t 264 = 100 := S.t 264 (Nat.lt_of_lt_of_le (Nat.le_of_ble_eq_true rfl) (f_lim_1 hm))
theorem u_264 {m : Nat} {s : fS} (hm : 1 ≤ m) (S : sS m s) : s.t 264 < 128 ∧ ut (s.t 264) = 100 := by rw [t_264 hm S]; decide
theorem a_264 {m b : Nat} {φ0 φ : Nat → Nat} {s0 s : fS} {h : eH} (hm : 1 ≤ m) (R : fC m b φ0 s0 φ h s) : 264 = φ 264 := R.pn (t_264 hm R.S) (Nat.le_of_ble_eq_true rfl) (by decide)
theorem n_264 {m : Nat} {s : fS} (hm : 1 ≤ m) (S : sS m s) : s.n 264 = 1722 := S.n 264 (Nat.lt_of_lt_of_le (Nat.le_of_ble_eq_true rfl) (f_lim_1 hm)) (Nat.le_of_ble_eq_true rfl) (by decide)
theorem t_265 {m : Nat} {s : fS} (hm : 1 ≤ m) (S : sS m s) : s.t 265 = 100 := S.t 265 (Nat.lt_of_lt_of_le (Nat.le_of_ble_eq_true rfl) (f_lim_1 hm))
theorem u_265 {m : Nat} {s : fS} (hm : 1 ≤ m) (S : sS m s) : s.t 265 < 128 ∧ ut (s.t 265) = 100 := by rw [t_265 hm S]; decide
theorem a_265 {m b : Nat} {φ0 φ : Nat → Nat} {s0 s : fS} {h : eH} (hm : 1 ≤ m) (R : fC m b φ0 s0 φ h s) : 265 = φ 265 := R.pn (t_265 hm R.S) (Nat.le_of_ble_eq_true rfl) (by decide)
theorem n_265 {m : Nat} {s : fS} (hm : 1 ≤ m) (S : sS m s) : s.n 265 = 385012 := S.n 265 (Nat.lt_of_lt_of_le (Nat.le_of_ble_eq_true rfl) (f_lim_1 hm)) (Nat.le_of_ble_eq_true rfl) (by decide)
theorem t_266 {m : Nat} {s : fS} (hm : 1 ≤ m) (S : sS m s) : s.t 266 = 100 := S.t 266 (Nat.lt_of_lt_of_le (Nat.le_of_ble_eq_true rfl) (f_lim_1 hm))
theorem u_266 {m : Nat} {s : fS} (hm : 1 ≤ m) (S : sS m s) : s.t 266 < 128 ∧ ut (s.t 266) = 100 := by rw [t_266 hm S]; decide
theorem a_266 {m b : Nat} {φ0 φ : Nat → Nat} {s0 s : fS} {h : eH} (hm : 1 ≤ m) (R : fC m b φ0 s0 φ h s) : 266 = φ 266 := R.pn (t_266 hm R.S) (Nat.le_of_ble_eq_true rfl) (by decide)
theorem n_266 {m : Nat} {s : fS} (hm : 1 ≤ m) (S : sS m s) : s.n 266 = 101 := S.n 266 (Nat.lt_of_lt_of_le (Nat.le_of_ble_eq_true rfl) (f_lim_1 hm)) (Nat.le_of_ble_eq_true rfl) (by decide)
theorem t_267 {m : Nat} {s : fS} (hm : 1 ≤ m) (S : sS m s) : s.t 267 = 103 := S.t 267 (Nat.lt_of_lt_of_le (Nat.le_of_ble_eq_true rfl) (f_lim_1 hm))
theorem u_267 {m : Nat} {s : fS} (hm : 1 ≤ m) (S : sS m s) : s.t 267 < 128 ∧ ut (s.t 267) = 103 := by rw [t_267 hm S]; decide
theorem a_267 {m b : Nat} {φ0 φ : Nat → Nat} {s0 s : fS} {h : eH} (hm : 1 ≤ m) (R : fC m b φ0 s0 φ h s) : 267 = φ 267 := R.pn (t_267 hm R.S) (Nat.le_of_ble_eq_true rfl) (by decide)
theorem n_267 {m : Nat} {s : fS} (hm : 1 ≤ m) (S : sS m s) : s.n 267 = 101 := S.n 267 (Nat.lt_of_lt_of_le (Nat.le_of_ble_eq_true rfl) (f_lim_1 hm)) (Nat.le_of_ble_eq_true rfl) (by decide)
theorem t_268 {m : Nat} {s : fS} (hm : 1 ≤ m) (S : sS m s) : s.t 268 = 100 := S.t 268 (Nat.lt_of_lt_of_le (Nat.le_of_ble_eq_true rfl) (f_lim_1 hm))
theorem u_268 {m : Nat} {s : fS} (hm : 1 ≤ m) (S : sS m s) : s.t 268 < 128 ∧ ut (s.t 268) = 100 := by rw [t_268 hm S]; decide
theorem a_268 {m b : Nat} {φ0 φ : Nat → Nat} {s0 s : fS} {h : eH} (hm : 1 ≤ m) (R : fC m b φ0 s0 φ h s) : 268 = φ 268 := R.pn (t_268 hm R.S) (Nat.le_of_ble_eq_true rfl) (by decide)
theorem n_268 {m : Nat} {s : fS} (hm : 1 ≤ m) (S : sS m s) : s.n 268 = 101 := S.n 268 (Nat.lt_of_lt_of_le (Nat.le_of_ble_eq_true rfl) (f_lim_1 hm)) (Nat.le_of_ble_eq_true rfl) (by decide)
theorem t_269 {m : Nat} {s : fS} (hm : 1 ≤ m) (S : sS m s) : s.t 269 = 100 := S.t 269 (Nat.lt_of_lt_of_le (Nat.le_of_ble_eq_true rfl) (f_lim_1 hm))
theorem u_269 {m : Nat} {s : fS} (hm : 1 ≤ m) (S : sS m s) : s.t 269 < 128 ∧ ut (s.t 269) = 100 := by rw [t_269 hm S]; decide
theorem a_269 {m b : Nat} {φ0 φ : Nat → Nat} {s0 s : fS} {h : eH} (hm : 1 ≤ m) (R : fC m b φ0 s0 φ h s) : 269 = φ 269 := R.pn (t_269 hm R.S) (Nat.le_of_ble_eq_true rfl) (by decide)
theorem n_269 {m : Nat} {s : fS} (hm : 1 ≤ m) (S : sS m s) : s.n 269 = 101 := S.n 269 (Nat.lt_of_lt_of_le (Nat.le_of_ble_eq_true rfl) (f_lim_1 hm)) (Nat.le_of_ble_eq_true rfl) (by decide)
theorem t_270 {m : Nat} {s : fS} (hm : 1 ≤ m) (S : sS m s) : s.t 270 = 100 := S.t 270 (Nat.lt_of_lt_of_le (Nat.le_of_ble_eq_true rfl) (f_lim_1 hm))
theorem u_270 {m : Nat} {s : fS} (hm : 1 ≤ m) (S : sS m s) : s.t 270 < 128 ∧ ut (s.t 270) = 100 := by rw [t_270 hm S]; decide
theorem a_270 {m b : Nat} {φ0 φ : Nat → Nat} {s0 s : fS} {h : eH} (hm : 1 ≤ m) (R : fC m b φ0 s0 φ h s) : 270 = φ 270 := R.pn (t_270 hm R.S) (Nat.le_of_ble_eq_true rfl) (by decide)
theorem n_270 {m : Nat} {s : fS} (hm : 1 ≤ m) (S : sS m s) : s.n 270 = 101 := S.n 270 (Nat.lt_of_lt_of_le (Nat.le_of_ble_eq_true rfl) (f_lim_1 hm)) (Nat.le_of_ble_eq_true rfl) (by decide)
theorem t_271 {m : Nat} {s : fS} (hm : 1 ≤ m) (S : sS m s) : s.t 271 = 100 := S.t 271 (Nat.lt_of_lt_of_le (Nat.le_of_ble_eq_true rfl) (f_lim_1 hm))
theorem u_271 {m : Nat} {s : fS} (hm : 1 ≤ m) (S : sS m s) : s.t 271 < 128 ∧ ut (s.t 271) = 100 := by rw [t_271 hm S]; decide
theorem a_271 {m b : Nat} {φ0 φ : Nat → Nat} {s0 s : fS} {h : eH} (hm : 1 ≤ m) (R : fC m b φ0 s0 φ h s) : 271 = φ 271 := R.pn (t_271 hm R.S) (Nat.le_of_ble_eq_true rfl) (by decide)
theorem n_271 {m : Nat} {s : fS} (hm : 1 ≤ m) (S : sS m s) : s.n 271 = 101 := S.n 271 (Nat.lt_of_lt_of_le (Nat.le_of_ble_eq_true rfl) (f_lim_1 hm)) (Nat.le_of_ble_eq_true rfl) (by decide)
theorem t_272 {m : Nat} {s : fS} (hm : 1 ≤ m) (S : sS m s) : s.t 272 = 103 := S.t 272 (Nat.lt_of_lt_of_le (Nat.le_of_ble_eq_true rfl) (f_lim_1 hm))
theorem u_272 {m : Nat} {s : fS} (hm : 1 ≤ m) (S : sS m s) : s.t 272 < 128 ∧ ut (s.t 272) = 103 := by rw [t_272 hm S]; decide
theorem a_272 {m b : Nat} {φ0 φ : Nat → Nat} {s0 s : fS} {h : eH} (hm : 1 ≤ m) (R : fC m b φ0 s0 φ h s) : 272 = φ 272 := R.pn (t_272 hm R.S) (Nat.le_of_ble_eq_true rfl) (by decide)
theorem n_272 {m : Nat} {s : fS} (hm : 1 ≤ m) (S : sS m s) : s.n 272 = 101 := S.n 272 (Nat.lt_of_lt_of_le (Nat.le_of_ble_eq_true rfl) (f_lim_1 hm)) (Nat.le_of_ble_eq_true rfl) (by decide)
theorem t_273 {m : Nat} {s : fS} (hm : 1 ≤ m) (S : sS m s) : s.t 273 = 100 := S.t 273 (Nat.lt_of_lt_of_le (Nat.le_of_ble_eq_true rfl) (f_lim_1 hm))
theorem u_273 {m : Nat} {s : fS} (hm : 1 ≤ m) (S : sS m s) : s.t 273 < 128 ∧ ut (s.t 273) = 100 := by rw [t_273 hm S]; decide
theorem a_273 {m b : Nat} {φ0 φ : Nat → Nat} {s0 s : fS} {h : eH} (hm : 1 ≤ m) (R : fC m b φ0 s0 φ h s) : 273 = φ 273 := R.pn (t_273 hm R.S) (Nat.le_of_ble_eq_true rfl) (by decide)
theorem n_273 {m : Nat} {s : fS} (hm : 1 ≤ m) (S : sS m s) : s.n 273 = 10002 := S.n 273 (Nat.lt_of_lt_of_le (Nat.le_of_ble_eq_true rfl) (f_lim_1 hm)) (Nat.le_of_ble_eq_true rfl) (by decide)
theorem t_274 {m : Nat} {s : fS} (hm : 1 ≤ m) (S : sS m s) : s.t 274 = 100 := S.t 274 (Nat.lt_of_lt_of_le (Nat.le_of_ble_eq_true rfl) (f_lim_1 hm))
theorem u_274 {m : Nat} {s : fS} (hm : 1 ≤ m) (S : sS m s) : s.t 274 < 128 ∧ ut (s.t 274) = 100 := by rw [t_274 hm S]; decide
theorem a_274 {m b : Nat} {φ0 φ : Nat → Nat} {s0 s : fS} {h : eH} (hm : 1 ≤ m) (R : fC m b φ0 s0 φ h s) : 274 = φ 274 := R.pn (t_274 hm R.S) (Nat.le_of_ble_eq_true rfl) (by decide)
theorem n_274 {m : Nat} {s : fS} (hm : 1 ≤ m) (S : sS m s) : s.n 274 = 10002 := S.n 274 (Nat.lt_of_lt_of_le (Nat.le_of_ble_eq_true rfl) (f_lim_1 hm)) (Nat.le_of_ble_eq_true rfl) (by decide)
theorem t_275 {m : Nat} {s : fS} (hm : 1 ≤ m) (S : sS m s) : s.t 275 = 100 := S.t 275 (Nat.lt_of_lt_of_le (Nat.le_of_ble_eq_true rfl) (f_lim_1 hm))
theorem u_275 {m : Nat} {s : fS} (hm : 1 ≤ m) (S : sS m s) : s.t 275 < 128 ∧ ut (s.t 275) = 100 := by rw [t_275 hm S]; decide
theorem a_275 {m b : Nat} {φ0 φ : Nat → Nat} {s0 s : fS} {h : eH} (hm : 1 ≤ m) (R : fC m b φ0 s0 φ h s) : 275 = φ 275 := R.pn (t_275 hm R.S) (Nat.le_of_ble_eq_true rfl) (by decide)
theorem n_275 {m : Nat} {s : fS} (hm : 1 ≤ m) (S : sS m s) : s.n 275 = 10002 := S.n 275 (Nat.lt_of_lt_of_le (Nat.le_of_ble_eq_true rfl) (f_lim_1 hm)) (Nat.le_of_ble_eq_true rfl) (by decide)
theorem t_276 {m : Nat} {s : fS} (hm : 1 ≤ m) (S : sS m s) : s.t 276 = 100 := S.t 276 (Nat.lt_of_lt_of_le (Nat.le_of_ble_eq_true rfl) (f_lim_1 hm))
theorem u_276 {m : Nat} {s : fS} (hm : 1 ≤ m) (S : sS m s) : s.t 276 < 128 ∧ ut (s.t 276) = 100 := by rw [t_276 hm S]; decide
theorem a_276 {m b : Nat} {φ0 φ : Nat → Nat} {s0 s : fS} {h : eH} (hm : 1 ≤ m) (R : fC m b φ0 s0 φ h s) : 276 = φ 276 := R.pn (t_276 hm R.S) (Nat.le_of_ble_eq_true rfl) (by decide)
theorem n_276 {m : Nat} {s : fS} (hm : 1 ≤ m) (S : sS m s) : s.n 276 = 10002 := S.n 276 (Nat.lt_of_lt_of_le (Nat.le_of_ble_eq_true rfl) (f_lim_1 hm)) (Nat.le_of_ble_eq_true rfl) (by decide)
theorem t_277 {m : Nat} {s : fS} (hm : 1 ≤ m) (S : sS m s) : s.t 277 = 100 := S.t 277 (Nat.lt_of_lt_of_le (Nat.le_of_ble_eq_true rfl) (f_lim_1 hm))
theorem u_277 {m : Nat} {s : fS} (hm : 1 ≤ m) (S : sS m s) : s.t 277 < 128 ∧ ut (s.t 277) = 100 := by rw [t_277 hm S]; decide
theorem a_277 {m b : Nat} {φ0 φ : Nat → Nat} {s0 s : fS} {h : eH} (hm : 1 ≤ m) (R : fC m b φ0 s0 φ h s) : 277 = φ 277 := R.pn (t_277 hm R.S) (Nat.le_of_ble_eq_true rfl) (by decide)
theorem n_277 {m : Nat} {s : fS} (hm : 1 ≤ m) (S : sS m s) : s.n 277 = 10001 := S.n 277 (Nat.lt_of_lt_of_le (Nat.le_of_ble_eq_true rfl) (f_lim_1 hm)) (Nat.le_of_ble_eq_true rfl) (by decide)
theorem t_278 {m : Nat} {s : fS} (hm : 1 ≤ m) (S : sS m s) : s.t 278 = 100 := S.t 278 (Nat.lt_of_lt_of_le (Nat.le_of_ble_eq_true rfl) (f_lim_1 hm))
theorem u_278 {m : Nat} {s : fS} (hm : 1 ≤ m) (S : sS m s) : s.t 278 < 128 ∧ ut (s.t 278) = 100 := by rw [t_278 hm S]; decide
theorem a_278 {m b : Nat} {φ0 φ : Nat → Nat} {s0 s : fS} {h : eH} (hm : 1 ≤ m) (R : fC m b φ0 s0 φ h s) : 278 = φ 278 := R.pn (t_278 hm R.S) (Nat.le_of_ble_eq_true rfl) (by decide)
theorem n_278 {m : Nat} {s : fS} (hm : 1 ≤ m) (S : sS m s) : s.n 278 = 10600 := S.n 278 (Nat.lt_of_lt_of_le (Nat.le_of_ble_eq_true rfl) (f_lim_1 hm)) (Nat.le_of_ble_eq_true rfl) (by decide)
theorem t_279 {m : Nat} {s : fS} (hm : 1 ≤ m) (S : sS m s) : s.t 279 = 100 := S.t 279 (Nat.lt_of_lt_of_le (Nat.le_of_ble_eq_true rfl) (f_lim_1 hm))
theorem u_279 {m : Nat} {s : fS} (hm : 1 ≤ m) (S : sS m s) : s.t 279 < 128 ∧ ut (s.t 279) = 100 := by rw [t_279 hm S]; decide
theorem a_279 {m b : Nat} {φ0 φ : Nat → Nat} {s0 s : fS} {h : eH} (hm : 1 ≤ m) (R : fC m b φ0 s0 φ h s) : 279 = φ 279 := R.pn (t_279 hm R.S) (Nat.le_of_ble_eq_true rfl) (by decide)
theorem n_279 {m : Nat} {s : fS} (hm : 1 ≤ m) (S : sS m s) : s.n 279 = 99000 := S.n 279 (Nat.lt_of_lt_of_le (Nat.le_of_ble_eq_true rfl) (f_lim_1 hm)) (Nat.le_of_ble_eq_true rfl) (by decide)
theorem t_280 {m : Nat} {s : fS} (hm : 1 ≤ m) (S : sS m s) : s.t 280 = 100 := S.t 280 (Nat.lt_of_lt_of_le (Nat.le_of_ble_eq_true rfl) (f_lim_1 hm))
theorem u_280 {m : Nat} {s : fS} (hm : 1 ≤ m) (S : sS m s) : s.t 280 < 128 ∧ ut (s.t 280) = 100 := by rw [t_280 hm S]; decide
theorem a_280 {m b : Nat} {φ0 φ : Nat → Nat} {s0 s : fS} {h : eH} (hm : 1 ≤ m) (R : fC m b φ0 s0 φ h s) : 280 = φ 280 := R.pn (t_280 hm R.S) (Nat.le_of_ble_eq_true rfl) (by decide)
theorem n_280 {m : Nat} {s : fS} (hm : 1 ≤ m) (S : sS m s) : s.n 280 = 9 := S.n 280 (Nat.lt_of_lt_of_le (Nat.le_of_ble_eq_true rfl) (f_lim_1 hm)) (Nat.le_of_ble_eq_true rfl) (by decide)
theorem t_281 {m : Nat} {s : fS} (hm : 1 ≤ m) (S : sS m s) : s.t 281 = 103 := S.t 281 (Nat.lt_of_lt_of_le (Nat.le_of_ble_eq_true rfl) (f_lim_1 hm))
theorem u_281 {m : Nat} {s : fS} (hm : 1 ≤ m) (S : sS m s) : s.t 281 < 128 ∧ ut (s.t 281) = 103 := by rw [t_281 hm S]; decide
theorem a_281 {m b : Nat} {φ0 φ : Nat → Nat} {s0 s : fS} {h : eH} (hm : 1 ≤ m) (R : fC m b φ0 s0 φ h s) : 281 = φ 281 := R.pn (t_281 hm R.S) (Nat.le_of_ble_eq_true rfl) (by decide)
theorem n_281 {m : Nat} {s : fS} (hm : 1 ≤ m) (S : sS m s) : s.n 281 = 101 := S.n 281 (Nat.lt_of_lt_of_le (Nat.le_of_ble_eq_true rfl) (f_lim_1 hm)) (Nat.le_of_ble_eq_true rfl) (by decide)
theorem t_282 {m : Nat} {s : fS} (hm : 1 ≤ m) (S : sS m s) : s.t 282 = 100 := S.t 282 (Nat.lt_of_lt_of_le (Nat.le_of_ble_eq_true rfl) (f_lim_1 hm))
theorem u_282 {m : Nat} {s : fS} (hm : 1 ≤ m) (S : sS m s) : s.t 282 < 128 ∧ ut (s.t 282) = 100 := by rw [t_282 hm S]; decide
theorem a_282 {m b : Nat} {φ0 φ : Nat → Nat} {s0 s : fS} {h : eH} (hm : 1 ≤ m) (R : fC m b φ0 s0 φ h s) : 282 = φ 282 := R.pn (t_282 hm R.S) (Nat.le_of_ble_eq_true rfl) (by decide)
theorem n_282 {m : Nat} {s : fS} (hm : 1 ≤ m) (S : sS m s) : s.n 282 = 101 := S.n 282 (Nat.lt_of_lt_of_le (Nat.le_of_ble_eq_true rfl) (f_lim_1 hm)) (Nat.le_of_ble_eq_true rfl) (by decide)
theorem t_283 {m : Nat} {s : fS} (hm : 1 ≤ m) (S : sS m s) : s.t 283 = 100 := S.t 283 (Nat.lt_of_lt_of_le (Nat.le_of_ble_eq_true rfl) (f_lim_1 hm))
theorem u_283 {m : Nat} {s : fS} (hm : 1 ≤ m) (S : sS m s) : s.t 283 < 128 ∧ ut (s.t 283) = 100 := by rw [t_283 hm S]; decide
theorem a_283 {m b : Nat} {φ0 φ : Nat → Nat} {s0 s : fS} {h : eH} (hm : 1 ≤ m) (R : fC m b φ0 s0 φ h s) : 283 = φ 283 := R.pn (t_283 hm R.S) (Nat.le_of_ble_eq_true rfl) (by decide)
theorem n_283 {m : Nat} {s : fS} (hm : 1 ≤ m) (S : sS m s) : s.n 283 = 100 := S.n 283 (Nat.lt_of_lt_of_le (Nat.le_of_ble_eq_true rfl) (f_lim_1 hm)) (Nat.le_of_ble_eq_true rfl) (by decide)
theorem t_284 {m : Nat} {s : fS} (hm : 1 ≤ m) (S : sS m s) : s.t 284 = 100 := S.t 284 (Nat.lt_of_lt_of_le (Nat.le_of_ble_eq_true rfl) (f_lim_1 hm))
theorem u_284 {m : Nat} {s : fS} (hm : 1 ≤ m) (S : sS m s) : s.t 284 < 128 ∧ ut (s.t 284) = 100 := by rw [t_284 hm S]; decide
theorem a_284 {m b : Nat} {φ0 φ : Nat → Nat} {s0 s : fS} {h : eH} (hm : 1 ≤ m) (R : fC m b φ0 s0 φ h s) : 284 = φ 284 := R.pn (t_284 hm R.S) (Nat.le_of_ble_eq_true rfl) (by decide)
theorem n_284 {m : Nat} {s : fS} (hm : 1 ≤ m) (S : sS m s) : s.n 284 = 100 := S.n 284 (Nat.lt_of_lt_of_le (Nat.le_of_ble_eq_true rfl) (f_lim_1 hm)) (Nat.le_of_ble_eq_true rfl) (by decide)
theorem t_285 {m : Nat} {s : fS} (hm : 1 ≤ m) (S : sS m s) : s.t 285 = 100 := S.t 285 (Nat.lt_of_lt_of_le (Nat.le_of_ble_eq_true rfl) (f_lim_1 hm))
theorem u_285 {m : Nat} {s : fS} (hm : 1 ≤ m) (S : sS m s) : s.t 285 < 128 ∧ ut (s.t 285) = 100 := by rw [t_285 hm S]; decide
theorem a_285 {m b : Nat} {φ0 φ : Nat → Nat} {s0 s : fS} {h : eH} (hm : 1 ≤ m) (R : fC m b φ0 s0 φ h s) : 285 = φ 285 := R.pn (t_285 hm R.S) (Nat.le_of_ble_eq_true rfl) (by decide)
theorem n_285 {m : Nat} {s : fS} (hm : 1 ≤ m) (S : sS m s) : s.n 285 = 260 := S.n 285 (Nat.lt_of_lt_of_le (Nat.le_of_ble_eq_true rfl) (f_lim_1 hm)) (Nat.le_of_ble_eq_true rfl) (by decide)
theorem t_286 {m : Nat} {s : fS} (hm : 1 ≤ m) (S : sS m s) : s.t 286 = 100 := S.t 286 (Nat.lt_of_lt_of_le (Nat.le_of_ble_eq_true rfl) (f_lim_1 hm))
theorem u_286 {m : Nat} {s : fS} (hm : 1 ≤ m) (S : sS m s) : s.t 286 < 128 ∧ ut (s.t 286) = 100 := by rw [t_286 hm S]; decide
theorem a_286 {m b : Nat} {φ0 φ : Nat → Nat} {s0 s : fS} {h : eH} (hm : 1 ≤ m) (R : fC m b φ0 s0 φ h s) : 286 = φ 286 := R.pn (t_286 hm R.S) (Nat.le_of_ble_eq_true rfl) (by decide)
theorem n_286 {m : Nat} {s : fS} (hm : 1 ≤ m) (S : sS m s) : s.n 286 = 260 := S.n 286 (Nat.lt_of_lt_of_le (Nat.le_of_ble_eq_true rfl) (f_lim_1 hm)) (Nat.le_of_ble_eq_true rfl) (by decide)
theorem t_287 {m : Nat} {s : fS} (hm : 1 ≤ m) (S : sS m s) : s.t 287 = 100 := S.t 287 (Nat.lt_of_lt_of_le (Nat.le_of_ble_eq_true rfl) (f_lim_1 hm))
theorem u_287 {m : Nat} {s : fS} (hm : 1 ≤ m) (S : sS m s) : s.t 287 < 128 ∧ ut (s.t 287) = 100 := by rw [t_287 hm S]; decide
theorem a_287 {m b : Nat} {φ0 φ : Nat → Nat} {s0 s : fS} {h : eH} (hm : 1 ≤ m) (R : fC m b φ0 s0 φ h s) : 287 = φ 287 := R.pn (t_287 hm R.S) (Nat.le_of_ble_eq_true rfl) (by decide)
theorem n_287 {m : Nat} {s : fS} (hm : 1 ≤ m) (S : sS m s) : s.n 287 = 260 := S.n 287 (Nat.lt_of_lt_of_le (Nat.le_of_ble_eq_true rfl) (f_lim_1 hm)) (Nat.le_of_ble_eq_true rfl) (by decide)
theorem t_289 {m : Nat} {s : fS} (hm : 1 ≤ m) (S : sS m s) : s.t 289 = 100 := S.t 289 (Nat.lt_of_lt_of_le (Nat.le_of_ble_eq_true rfl) (f_lim_1 hm))
theorem u_289 {m : Nat} {s : fS} (hm : 1 ≤ m) (S : sS m s) : s.t 289 < 128 ∧ ut (s.t 289) = 100 := by rw [t_289 hm S]; decide
theorem a_289 {m b : Nat} {φ0 φ : Nat → Nat} {s0 s : fS} {h : eH} (hm : 1 ≤ m) (R : fC m b φ0 s0 φ h s) : 289 = φ 289 := R.pn (t_289 hm R.S) (Nat.le_of_ble_eq_true rfl) (by decide)
theorem n_289 {m : Nat} {s : fS} (hm : 1 ≤ m) (S : sS m s) : s.n 289 = 64 := S.n 289 (Nat.lt_of_lt_of_le (Nat.le_of_ble_eq_true rfl) (f_lim_1 hm)) (Nat.le_of_ble_eq_true rfl) (by decide)
theorem t_290 {m : Nat} {s : fS} (hm : 1 ≤ m) (S : sS m s) : s.t 290 = 100 := S.t 290 (Nat.lt_of_lt_of_le (Nat.le_of_ble_eq_true rfl) (f_lim_1 hm))
theorem u_290 {m : Nat} {s : fS} (hm : 1 ≤ m) (S : sS m s) : s.t 290 < 128 ∧ ut (s.t 290) = 100 := by rw [t_290 hm S]; decide
theorem a_290 {m b : Nat} {φ0 φ : Nat → Nat} {s0 s : fS} {h : eH} (hm : 1 ≤ m) (R : fC m b φ0 s0 φ h s) : 290 = φ 290 := R.pn (t_290 hm R.S) (Nat.le_of_ble_eq_true rfl) (by decide)
theorem n_290 {m : Nat} {s : fS} (hm : 1 ≤ m) (S : sS m s) : s.n 290 = 1100 := S.n 290 (Nat.lt_of_lt_of_le (Nat.le_of_ble_eq_true rfl) (f_lim_1 hm)) (Nat.le_of_ble_eq_true rfl) (by decide)
theorem t_291 {m : Nat} {s : fS} (hm : 1 ≤ m) (S : sS m s) : s.t 291 = 100 := S.t 291 (Nat.lt_of_lt_of_le (Nat.le_of_ble_eq_true rfl) (f_lim_1 hm))
theorem u_291 {m : Nat} {s : fS} (hm : 1 ≤ m) (S : sS m s) : s.t 291 < 128 ∧ ut (s.t 291) = 100 := by rw [t_291 hm S]; decide
theorem a_291 {m b : Nat} {φ0 φ : Nat → Nat} {s0 s : fS} {h : eH} (hm : 1 ≤ m) (R : fC m b φ0 s0 φ h s) : 291 = φ 291 := R.pn (t_291 hm R.S) (Nat.le_of_ble_eq_true rfl) (by decide)
theorem n_291 {m : Nat} {s : fS} (hm : 1 ≤ m) (S : sS m s) : s.n 291 = 1100 := S.n 291 (Nat.lt_of_lt_of_le (Nat.le_of_ble_eq_true rfl) (f_lim_1 hm)) (Nat.le_of_ble_eq_true rfl) (by decide)
theorem t_292 {m : Nat} {s : fS} (hm : 1 ≤ m) (S : sS m s) : s.t 292 = 100 := S.t 292 (Nat.lt_of_lt_of_le (Nat.le_of_ble_eq_true rfl) (f_lim_1 hm))
theorem u_292 {m : Nat} {s : fS} (hm : 1 ≤ m) (S : sS m s) : s.t 292 < 128 ∧ ut (s.t 292) = 100 := by rw [t_292 hm S]; decide
theorem a_292 {m b : Nat} {φ0 φ : Nat → Nat} {s0 s : fS} {h : eH} (hm : 1 ≤ m) (R : fC m b φ0 s0 φ h s) : 292 = φ 292 := R.pn (t_292 hm R.S) (Nat.le_of_ble_eq_true rfl) (by decide)
theorem n_292 {m : Nat} {s : fS} (hm : 1 ≤ m) (S : sS m s) : s.n 292 = 12060 := S.n 292 (Nat.lt_of_lt_of_le (Nat.le_of_ble_eq_true rfl) (f_lim_1 hm)) (Nat.le_of_ble_eq_true rfl) (by decide)
theorem t_293 {m : Nat} {s : fS} (hm : 1 ≤ m) (S : sS m s) : s.t 293 = 100 := S.t 293 (Nat.lt_of_lt_of_le (Nat.le_of_ble_eq_true rfl) (f_lim_1 hm))
theorem u_293 {m : Nat} {s : fS} (hm : 1 ≤ m) (S : sS m s) : s.t 293 < 128 ∧ ut (s.t 293) = 100 := by rw [t_293 hm S]; decide
theorem a_293 {m b : Nat} {φ0 φ : Nat → Nat} {s0 s : fS} {h : eH} (hm : 1 ≤ m) (R : fC m b φ0 s0 φ h s) : 293 = φ 293 := R.pn (t_293 hm R.S) (Nat.le_of_ble_eq_true rfl) (by decide)
theorem n_293 {m : Nat} {s : fS} (hm : 1 ≤ m) (S : sS m s) : s.n 293 = 3001 := S.n 293 (Nat.lt_of_lt_of_le (Nat.le_of_ble_eq_true rfl) (f_lim_1 hm)) (Nat.le_of_ble_eq_true rfl) (by decide)
theorem t_294 {m : Nat} {s : fS} (hm : 1 ≤ m) (S : sS m s) : s.t 294 = 103 := S.t 294 (Nat.lt_of_lt_of_le (Nat.le_of_ble_eq_true rfl) (f_lim_1 hm))
theorem u_294 {m : Nat} {s : fS} (hm : 1 ≤ m) (S : sS m s) : s.t 294 < 128 ∧ ut (s.t 294) = 103 := by rw [t_294 hm S]; decide
theorem a_294 {m b : Nat} {φ0 φ : Nat → Nat} {s0 s : fS} {h : eH} (hm : 1 ≤ m) (R : fC m b φ0 s0 φ h s) : 294 = φ 294 := R.pn (t_294 hm R.S) (Nat.le_of_ble_eq_true rfl) (by decide)
theorem n_294 {m : Nat} {s : fS} (hm : 1 ≤ m) (S : sS m s) : s.n 294 = 3000 := S.n 294 (Nat.lt_of_lt_of_le (Nat.le_of_ble_eq_true rfl) (f_lim_1 hm)) (Nat.le_of_ble_eq_true rfl) (by decide)
theorem t_295 {m : Nat} {s : fS} (hm : 1 ≤ m) (S : sS m s) : s.t 295 = 100 := S.t 295 (Nat.lt_of_lt_of_le (Nat.le_of_ble_eq_true rfl) (f_lim_1 hm))
theorem u_295 {m : Nat} {s : fS} (hm : 1 ≤ m) (S : sS m s) : s.t 295 < 128 ∧ ut (s.t 295) = 100 := by rw [t_295 hm S]; decide
theorem a_295 {m b : Nat} {φ0 φ : Nat → Nat} {s0 s : fS} {h : eH} (hm : 1 ≤ m) (R : fC m b φ0 s0 φ h s) : 295 = φ 295 := R.pn (t_295 hm R.S) (Nat.le_of_ble_eq_true rfl) (by decide)
theorem n_295 {m : Nat} {s : fS} (hm : 1 ≤ m) (S : sS m s) : s.n 295 = 3000 := S.n 295 (Nat.lt_of_lt_of_le (Nat.le_of_ble_eq_true rfl) (f_lim_1 hm)) (Nat.le_of_ble_eq_true rfl) (by decide)
theorem t_296 {m : Nat} {s : fS} (hm : 1 ≤ m) (S : sS m s) : s.t 296 = 100 := S.t 296 (Nat.lt_of_lt_of_le (Nat.le_of_ble_eq_true rfl) (f_lim_1 hm))
theorem u_296 {m : Nat} {s : fS} (hm : 1 ≤ m) (S : sS m s) : s.t 296 < 128 ∧ ut (s.t 296) = 100 := by rw [t_296 hm S]; decide
theorem a_296 {m b : Nat} {φ0 φ : Nat → Nat} {s0 s : fS} {h : eH} (hm : 1 ≤ m) (R : fC m b φ0 s0 φ h s) : 296 = φ 296 := R.pn (t_296 hm R.S) (Nat.le_of_ble_eq_true rfl) (by decide)
theorem n_296 {m : Nat} {s : fS} (hm : 1 ≤ m) (S : sS m s) : s.n 296 = 3000 := S.n 296 (Nat.lt_of_lt_of_le (Nat.le_of_ble_eq_true rfl) (f_lim_1 hm)) (Nat.le_of_ble_eq_true rfl) (by decide)
theorem t_297 {m : Nat} {s : fS} (hm : 1 ≤ m) (S : sS m s) : s.t 297 = 100 := S.t 297 (Nat.lt_of_lt_of_le (Nat.le_of_ble_eq_true rfl) (f_lim_1 hm))
theorem u_297 {m : Nat} {s : fS} (hm : 1 ≤ m) (S : sS m s) : s.t 297 < 128 ∧ ut (s.t 297) = 100 := by rw [t_297 hm S]; decide
theorem a_297 {m b : Nat} {φ0 φ : Nat → Nat} {s0 s : fS} {h : eH} (hm : 1 ≤ m) (R : fC m b φ0 s0 φ h s) : 297 = φ 297 := R.pn (t_297 hm R.S) (Nat.le_of_ble_eq_true rfl) (by decide)
theorem n_297 {m : Nat} {s : fS} (hm : 1 ≤ m) (S : sS m s) : s.n 297 = 3000 := S.n 297 (Nat.lt_of_lt_of_le (Nat.le_of_ble_eq_true rfl) (f_lim_1 hm)) (Nat.le_of_ble_eq_true rfl) (by decide)
theorem t_298 {m : Nat} {s : fS} (hm : 1 ≤ m) (S : sS m s) : s.t 298 = 100 := S.t 298 (Nat.lt_of_lt_of_le (Nat.le_of_ble_eq_true rfl) (f_lim_1 hm))
theorem u_298 {m : Nat} {s : fS} (hm : 1 ≤ m) (S : sS m s) : s.t 298 < 128 ∧ ut (s.t 298) = 100 := by rw [t_298 hm S]; decide
theorem a_298 {m b : Nat} {φ0 φ : Nat → Nat} {s0 s : fS} {h : eH} (hm : 1 ≤ m) (R : fC m b φ0 s0 φ h s) : 298 = φ 298 := R.pn (t_298 hm R.S) (Nat.le_of_ble_eq_true rfl) (by decide)
theorem n_298 {m : Nat} {s : fS} (hm : 1 ≤ m) (S : sS m s) : s.n 298 = 3000 := S.n 298 (Nat.lt_of_lt_of_le (Nat.le_of_ble_eq_true rfl) (f_lim_1 hm)) (Nat.le_of_ble_eq_true rfl) (by decide)
theorem t_299 {m : Nat} {s : fS} (hm : 1 ≤ m) (S : sS m s) : s.t 299 = 100 := S.t 299 (Nat.lt_of_lt_of_le (Nat.le_of_ble_eq_true rfl) (f_lim_1 hm))
theorem u_299 {m : Nat} {s : fS} (hm : 1 ≤ m) (S : sS m s) : s.t 299 < 128 ∧ ut (s.t 299) = 100 := by rw [t_299 hm S]; decide
theorem a_299 {m b : Nat} {φ0 φ : Nat → Nat} {s0 s : fS} {h : eH} (hm : 1 ≤ m) (R : fC m b φ0 s0 φ h s) : 299 = φ 299 := R.pn (t_299 hm R.S) (Nat.le_of_ble_eq_true rfl) (by decide)
theorem n_299 {m : Nat} {s : fS} (hm : 1 ≤ m) (S : sS m s) : s.n 299 = 3000 := S.n 299 (Nat.lt_of_lt_of_le (Nat.le_of_ble_eq_true rfl) (f_lim_1 hm)) (Nat.le_of_ble_eq_true rfl) (by decide)
theorem t_300 {m : Nat} {s : fS} (hm : 1 ≤ m) (S : sS m s) : s.t 300 = 100 := S.t 300 (Nat.lt_of_lt_of_le (Nat.le_of_ble_eq_true rfl) (f_lim_1 hm))
theorem u_300 {m : Nat} {s : fS} (hm : 1 ≤ m) (S : sS m s) : s.t 300 < 128 ∧ ut (s.t 300) = 100 := by rw [t_300 hm S]; decide
theorem a_300 {m b : Nat} {φ0 φ : Nat → Nat} {s0 s : fS} {h : eH} (hm : 1 ≤ m) (R : fC m b φ0 s0 φ h s) : 300 = φ 300 := R.pn (t_300 hm R.S) (Nat.le_of_ble_eq_true rfl) (by decide)
theorem n_300 {m : Nat} {s : fS} (hm : 1 ≤ m) (S : sS m s) : s.n 300 = 3000 := S.n 300 (Nat.lt_of_lt_of_le (Nat.le_of_ble_eq_true rfl) (f_lim_1 hm)) (Nat.le_of_ble_eq_true rfl) (by decide)
theorem t_301 {m : Nat} {s : fS} (hm : 1 ≤ m) (S : sS m s) : s.t 301 = 100 := S.t 301 (Nat.lt_of_lt_of_le (Nat.le_of_ble_eq_true rfl) (f_lim_1 hm))
theorem u_301 {m : Nat} {s : fS} (hm : 1 ≤ m) (S : sS m s) : s.t 301 < 128 ∧ ut (s.t 301) = 100 := by rw [t_301 hm S]; decide
theorem a_301 {m b : Nat} {φ0 φ : Nat → Nat} {s0 s : fS} {h : eH} (hm : 1 ≤ m) (R : fC m b φ0 s0 φ h s) : 301 = φ 301 := R.pn (t_301 hm R.S) (Nat.le_of_ble_eq_true rfl) (by decide)
theorem n_301 {m : Nat} {s : fS} (hm : 1 ≤ m) (S : sS m s) : s.n 301 = 3000 := S.n 301 (Nat.lt_of_lt_of_le (Nat.le_of_ble_eq_true rfl) (f_lim_1 hm)) (Nat.le_of_ble_eq_true rfl) (by decide)
theorem t_302 {m : Nat} {s : fS} (hm : 1 ≤ m) (S : sS m s) : s.t 302 = 100 := S.t 302 (Nat.lt_of_lt_of_le (Nat.le_of_ble_eq_true rfl) (f_lim_1 hm))
theorem u_302 {m : Nat} {s : fS} (hm : 1 ≤ m) (S : sS m s) : s.t 302 < 128 ∧ ut (s.t 302) = 100 := by rw [t_302 hm S]; decide
theorem a_302 {m b : Nat} {φ0 φ : Nat → Nat} {s0 s : fS} {h : eH} (hm : 1 ≤ m) (R : fC m b φ0 s0 φ h s) : 302 = φ 302 := R.pn (t_302 hm R.S) (Nat.le_of_ble_eq_true rfl) (by decide)
theorem n_302 {m : Nat} {s : fS} (hm : 1 ≤ m) (S : sS m s) : s.n 302 = 3000 := S.n 302 (Nat.lt_of_lt_of_le (Nat.le_of_ble_eq_true rfl) (f_lim_1 hm)) (Nat.le_of_ble_eq_true rfl) (by decide)
theorem t_303 {m : Nat} {s : fS} (hm : 1 ≤ m) (S : sS m s) : s.t 303 = 100 := S.t 303 (Nat.lt_of_lt_of_le (Nat.le_of_ble_eq_true rfl) (f_lim_1 hm))
theorem u_303 {m : Nat} {s : fS} (hm : 1 ≤ m) (S : sS m s) : s.t 303 < 128 ∧ ut (s.t 303) = 100 := by rw [t_303 hm S]; decide
theorem a_303 {m b : Nat} {φ0 φ : Nat → Nat} {s0 s : fS} {h : eH} (hm : 1 ≤ m) (R : fC m b φ0 s0 φ h s) : 303 = φ 303 := R.pn (t_303 hm R.S) (Nat.le_of_ble_eq_true rfl) (by decide)
theorem n_303 {m : Nat} {s : fS} (hm : 1 ≤ m) (S : sS m s) : s.n 303 = 3000 := S.n 303 (Nat.lt_of_lt_of_le (Nat.le_of_ble_eq_true rfl) (f_lim_1 hm)) (Nat.le_of_ble_eq_true rfl) (by decide)
theorem t_304 {m : Nat} {s : fS} (hm : 1 ≤ m) (S : sS m s) : s.t 304 = 100 := S.t 304 (Nat.lt_of_lt_of_le (Nat.le_of_ble_eq_true rfl) (f_lim_1 hm))
theorem u_304 {m : Nat} {s : fS} (hm : 1 ≤ m) (S : sS m s) : s.t 304 < 128 ∧ ut (s.t 304) = 100 := by rw [t_304 hm S]; decide
theorem a_304 {m b : Nat} {φ0 φ : Nat → Nat} {s0 s : fS} {h : eH} (hm : 1 ≤ m) (R : fC m b φ0 s0 φ h s) : 304 = φ 304 := R.pn (t_304 hm R.S) (Nat.le_of_ble_eq_true rfl) (by decide)
theorem n_304 {m : Nat} {s : fS} (hm : 1 ≤ m) (S : sS m s) : s.n 304 = 120000 := S.n 304 (Nat.lt_of_lt_of_le (Nat.le_of_ble_eq_true rfl) (f_lim_1 hm)) (Nat.le_of_ble_eq_true rfl) (by decide)
theorem t_305 {m : Nat} {s : fS} (hm : 1 ≤ m) (S : sS m s) : s.t 305 = 101 := S.t 305 (Nat.lt_of_lt_of_le (Nat.le_of_ble_eq_true rfl) (f_lim_1 hm))
theorem u_305 {m : Nat} {s : fS} (hm : 1 ≤ m) (S : sS m s) : s.t 305 < 128 ∧ ut (s.t 305) = 101 := by rw [t_305 hm S]; decide
theorem a_305 {m b : Nat} {φ0 φ : Nat → Nat} {s0 s : fS} {h : eH} (hm : 1 ≤ m) (R : fC m b φ0 s0 φ h s) : 305 = φ 305 := R.pn (t_305 hm R.S) (Nat.le_of_ble_eq_true rfl) (by decide)
theorem n_305 {m : Nat} {s : fS} (hm : 1 ≤ m) (S : sS m s) : s.n 305 = 4 := S.n 305 (Nat.lt_of_lt_of_le (Nat.le_of_ble_eq_true rfl) (f_lim_1 hm)) (Nat.le_of_ble_eq_true rfl) (by decide)
theorem t_306 {m : Nat} {s : fS} (hm : 1 ≤ m) (S : sS m s) : s.t 306 = 101 := S.t 306 (Nat.lt_of_lt_of_le (Nat.le_of_ble_eq_true rfl) (f_lim_1 hm))
theorem u_306 {m : Nat} {s : fS} (hm : 1 ≤ m) (S : sS m s) : s.t 306 < 128 ∧ ut (s.t 306) = 101 := by rw [t_306 hm S]; decide
theorem a_306 {m b : Nat} {φ0 φ : Nat → Nat} {s0 s : fS} {h : eH} (hm : 1 ≤ m) (R : fC m b φ0 s0 φ h s) : 306 = φ 306 := R.pn (t_306 hm R.S) (Nat.le_of_ble_eq_true rfl) (by decide)
theorem n_306 {m : Nat} {s : fS} (hm : 1 ≤ m) (S : sS m s) : s.n 306 = 4 := S.n 306 (Nat.lt_of_lt_of_le (Nat.le_of_ble_eq_true rfl) (f_lim_1 hm)) (Nat.le_of_ble_eq_true rfl) (by decide)
theorem t_307 {m : Nat} {s : fS} (hm : 1 ≤ m) (S : sS m s) : s.t 307 = 100 := S.t 307 (Nat.lt_of_lt_of_le (Nat.le_of_ble_eq_true rfl) (f_lim_1 hm))
theorem u_307 {m : Nat} {s : fS} (hm : 1 ≤ m) (S : sS m s) : s.t 307 < 128 ∧ ut (s.t 307) = 100 := by rw [t_307 hm S]; decide
theorem a_307 {m b : Nat} {φ0 φ : Nat → Nat} {s0 s : fS} {h : eH} (hm : 1 ≤ m) (R : fC m b φ0 s0 φ h s) : 307 = φ 307 := R.pn (t_307 hm R.S) (Nat.le_of_ble_eq_true rfl) (by decide)
theorem n_307 {m : Nat} {s : fS} (hm : 1 ≤ m) (S : sS m s) : s.n 307 = 10000 := S.n 307 (Nat.lt_of_lt_of_le (Nat.le_of_ble_eq_true rfl) (f_lim_1 hm)) (Nat.le_of_ble_eq_true rfl) (by decide)
theorem t_308 {m : Nat} {s : fS} (hm : 1 ≤ m) (S : sS m s) : s.t 308 = 100 := S.t 308 (Nat.lt_of_lt_of_le (Nat.le_of_ble_eq_true rfl) (f_lim_1 hm))
theorem u_308 {m : Nat} {s : fS} (hm : 1 ≤ m) (S : sS m s) : s.t 308 < 128 ∧ ut (s.t 308) = 100 := by rw [t_308 hm S]; decide
theorem a_308 {m b : Nat} {φ0 φ : Nat → Nat} {s0 s : fS} {h : eH} (hm : 1 ≤ m) (R : fC m b φ0 s0 φ h s) : 308 = φ 308 := R.pn (t_308 hm R.S) (Nat.le_of_ble_eq_true rfl) (by decide)
theorem n_308 {m : Nat} {s : fS} (hm : 1 ≤ m) (S : sS m s) : s.n 308 = 10000 := S.n 308 (Nat.lt_of_lt_of_le (Nat.le_of_ble_eq_true rfl) (f_lim_1 hm)) (Nat.le_of_ble_eq_true rfl) (by decide)
theorem t_309 {m : Nat} {s : fS} (hm : 1 ≤ m) (S : sS m s) : s.t 309 = 100 := S.t 309 (Nat.lt_of_lt_of_le (Nat.le_of_ble_eq_true rfl) (f_lim_1 hm))
theorem u_309 {m : Nat} {s : fS} (hm : 1 ≤ m) (S : sS m s) : s.t 309 < 128 ∧ ut (s.t 309) = 100 := by rw [t_309 hm S]; decide
theorem a_309 {m b : Nat} {φ0 φ : Nat → Nat} {s0 s : fS} {h : eH} (hm : 1 ≤ m) (R : fC m b φ0 s0 φ h s) : 309 = φ 309 := R.pn (t_309 hm R.S) (Nat.le_of_ble_eq_true rfl) (by decide)
theorem n_309 {m : Nat} {s : fS} (hm : 1 ≤ m) (S : sS m s) : s.n 309 = 10000 := S.n 309 (Nat.lt_of_lt_of_le (Nat.le_of_ble_eq_true rfl) (f_lim_1 hm)) (Nat.le_of_ble_eq_true rfl) (by decide)
theorem t_310 {m : Nat} {s : fS} (hm : 1 ≤ m) (S : sS m s) : s.t 310 = 100 := S.t 310 (Nat.lt_of_lt_of_le (Nat.le_of_ble_eq_true rfl) (f_lim_1 hm))
theorem u_310 {m : Nat} {s : fS} (hm : 1 ≤ m) (S : sS m s) : s.t 310 < 128 ∧ ut (s.t 310) = 100 := by rw [t_310 hm S]; decide
theorem a_310 {m b : Nat} {φ0 φ : Nat → Nat} {s0 s : fS} {h : eH} (hm : 1 ≤ m) (R : fC m b φ0 s0 φ h s) : 310 = φ 310 := R.pn (t_310 hm R.S) (Nat.le_of_ble_eq_true rfl) (by decide)
theorem n_310 {m : Nat} {s : fS} (hm : 1 ≤ m) (S : sS m s) : s.n 310 = 10000 := S.n 310 (Nat.lt_of_lt_of_le (Nat.le_of_ble_eq_true rfl) (f_lim_1 hm)) (Nat.le_of_ble_eq_true rfl) (by decide)
theorem t_311 {m : Nat} {s : fS} (hm : 1 ≤ m) (S : sS m s) : s.t 311 = 100 := S.t 311 (Nat.lt_of_lt_of_le (Nat.le_of_ble_eq_true rfl) (f_lim_1 hm))
theorem u_311 {m : Nat} {s : fS} (hm : 1 ≤ m) (S : sS m s) : s.t 311 < 128 ∧ ut (s.t 311) = 100 := by rw [t_311 hm S]; decide
theorem a_311 {m b : Nat} {φ0 φ : Nat → Nat} {s0 s : fS} {h : eH} (hm : 1 ≤ m) (R : fC m b φ0 s0 φ h s) : 311 = φ 311 := R.pn (t_311 hm R.S) (Nat.le_of_ble_eq_true rfl) (by decide)
theorem n_311 {m : Nat} {s : fS} (hm : 1 ≤ m) (S : sS m s) : s.n 311 = 10000 := S.n 311 (Nat.lt_of_lt_of_le (Nat.le_of_ble_eq_true rfl) (f_lim_1 hm)) (Nat.le_of_ble_eq_true rfl) (by decide)
theorem t_312 {m : Nat} {s : fS} (hm : 1 ≤ m) (S : sS m s) : s.t 312 = 100 := S.t 312 (Nat.lt_of_lt_of_le (Nat.le_of_ble_eq_true rfl) (f_lim_1 hm))
theorem u_312 {m : Nat} {s : fS} (hm : 1 ≤ m) (S : sS m s) : s.t 312 < 128 ∧ ut (s.t 312) = 100 := by rw [t_312 hm S]; decide
theorem a_312 {m b : Nat} {φ0 φ : Nat → Nat} {s0 s : fS} {h : eH} (hm : 1 ≤ m) (R : fC m b φ0 s0 φ h s) : 312 = φ 312 := R.pn (t_312 hm R.S) (Nat.le_of_ble_eq_true rfl) (by decide)
theorem n_312 {m : Nat} {s : fS} (hm : 1 ≤ m) (S : sS m s) : s.n 312 = 10000 := S.n 312 (Nat.lt_of_lt_of_le (Nat.le_of_ble_eq_true rfl) (f_lim_1 hm)) (Nat.le_of_ble_eq_true rfl) (by decide)
theorem t_313 {m : Nat} {s : fS} (hm : 1 ≤ m) (S : sS m s) : s.t 313 = 100 := S.t 313 (Nat.lt_of_lt_of_le (Nat.le_of_ble_eq_true rfl) (f_lim_1 hm))
theorem u_313 {m : Nat} {s : fS} (hm : 1 ≤ m) (S : sS m s) : s.t 313 < 128 ∧ ut (s.t 313) = 100 := by rw [t_313 hm S]; decide
theorem a_313 {m b : Nat} {φ0 φ : Nat → Nat} {s0 s : fS} {h : eH} (hm : 1 ≤ m) (R : fC m b φ0 s0 φ h s) : 313 = φ 313 := R.pn (t_313 hm R.S) (Nat.le_of_ble_eq_true rfl) (by decide)
theorem n_313 {m : Nat} {s : fS} (hm : 1 ≤ m) (S : sS m s) : s.n 313 = 10000 := S.n 313 (Nat.lt_of_lt_of_le (Nat.le_of_ble_eq_true rfl) (f_lim_1 hm)) (Nat.le_of_ble_eq_true rfl) (by decide)
theorem t_314 {m : Nat} {s : fS} (hm : 1 ≤ m) (S : sS m s) : s.t 314 = 100 := S.t 314 (Nat.lt_of_lt_of_le (Nat.le_of_ble_eq_true rfl) (f_lim_1 hm))
theorem u_314 {m : Nat} {s : fS} (hm : 1 ≤ m) (S : sS m s) : s.t 314 < 128 ∧ ut (s.t 314) = 100 := by rw [t_314 hm S]; decide
theorem a_314 {m b : Nat} {φ0 φ : Nat → Nat} {s0 s : fS} {h : eH} (hm : 1 ≤ m) (R : fC m b φ0 s0 φ h s) : 314 = φ 314 := R.pn (t_314 hm R.S) (Nat.le_of_ble_eq_true rfl) (by decide)
theorem n_314 {m : Nat} {s : fS} (hm : 1 ≤ m) (S : sS m s) : s.n 314 = 3000 := S.n 314 (Nat.lt_of_lt_of_le (Nat.le_of_ble_eq_true rfl) (f_lim_1 hm)) (Nat.le_of_ble_eq_true rfl) (by decide)
theorem t_315 {m : Nat} {s : fS} (hm : 1 ≤ m) (S : sS m s) : s.t 315 = 100 := S.t 315 (Nat.lt_of_lt_of_le (Nat.le_of_ble_eq_true rfl) (f_lim_1 hm))
theorem u_315 {m : Nat} {s : fS} (hm : 1 ≤ m) (S : sS m s) : s.t 315 < 128 ∧ ut (s.t 315) = 100 := by rw [t_315 hm S]; decide
theorem a_315 {m b : Nat} {φ0 φ : Nat → Nat} {s0 s : fS} {h : eH} (hm : 1 ≤ m) (R : fC m b φ0 s0 φ h s) : 315 = φ 315 := R.pn (t_315 hm R.S) (Nat.le_of_ble_eq_true rfl) (by decide)
theorem n_315 {m : Nat} {s : fS} (hm : 1 ≤ m) (S : sS m s) : s.n 315 = 3000 := S.n 315 (Nat.lt_of_lt_of_le (Nat.le_of_ble_eq_true rfl) (f_lim_1 hm)) (Nat.le_of_ble_eq_true rfl) (by decide)
theorem t_316 {m : Nat} {s : fS} (hm : 1 ≤ m) (S : sS m s) : s.t 316 = 101 := S.t 316 (Nat.lt_of_lt_of_le (Nat.le_of_ble_eq_true rfl) (f_lim_1 hm))
theorem u_316 {m : Nat} {s : fS} (hm : 1 ≤ m) (S : sS m s) : s.t 316 < 128 ∧ ut (s.t 316) = 101 := by rw [t_316 hm S]; decide
theorem a_316 {m b : Nat} {φ0 φ : Nat → Nat} {s0 s : fS} {h : eH} (hm : 1 ≤ m) (R : fC m b φ0 s0 φ h s) : 316 = φ 316 := R.pn (t_316 hm R.S) (Nat.le_of_ble_eq_true rfl) (by decide)
theorem n_316 {m : Nat} {s : fS} (hm : 1 ≤ m) (S : sS m s) : s.n 316 = 3000 := S.n 316 (Nat.lt_of_lt_of_le (Nat.le_of_ble_eq_true rfl) (f_lim_1 hm)) (Nat.le_of_ble_eq_true rfl) (by decide)
theorem t_317 {m : Nat} {s : fS} (hm : 1 ≤ m) (S : sS m s) : s.t 317 = 101 := S.t 317 (Nat.lt_of_lt_of_le (Nat.le_of_ble_eq_true rfl) (f_lim_1 hm))
theorem u_317 {m : Nat} {s : fS} (hm : 1 ≤ m) (S : sS m s) : s.t 317 < 128 ∧ ut (s.t 317) = 101 := by rw [t_317 hm S]; decide
theorem a_317 {m b : Nat} {φ0 φ : Nat → Nat} {s0 s : fS} {h : eH} (hm : 1 ≤ m) (R : fC m b φ0 s0 φ h s) : 317 = φ 317 := R.pn (t_317 hm R.S) (Nat.le_of_ble_eq_true rfl) (by decide)
theorem n_317 {m : Nat} {s : fS} (hm : 1 ≤ m) (S : sS m s) : s.n 317 = 3000 := S.n 317 (Nat.lt_of_lt_of_le (Nat.le_of_ble_eq_true rfl) (f_lim_1 hm)) (Nat.le_of_ble_eq_true rfl) (by decide)
theorem t_318 {m : Nat} {s : fS} (hm : 1 ≤ m) (S : sS m s) : s.t 318 = 101 := S.t 318 (Nat.lt_of_lt_of_le (Nat.le_of_ble_eq_true rfl) (f_lim_1 hm))
theorem u_318 {m : Nat} {s : fS} (hm : 1 ≤ m) (S : sS m s) : s.t 318 < 128 ∧ ut (s.t 318) = 101 := by rw [t_318 hm S]; decide
theorem a_318 {m b : Nat} {φ0 φ : Nat → Nat} {s0 s : fS} {h : eH} (hm : 1 ≤ m) (R : fC m b φ0 s0 φ h s) : 318 = φ 318 := R.pn (t_318 hm R.S) (Nat.le_of_ble_eq_true rfl) (by decide)
theorem n_318 {m : Nat} {s : fS} (hm : 1 ≤ m) (S : sS m s) : s.n 318 = 3000 := S.n 318 (Nat.lt_of_lt_of_le (Nat.le_of_ble_eq_true rfl) (f_lim_1 hm)) (Nat.le_of_ble_eq_true rfl) (by decide)
theorem t_319 {m : Nat} {s : fS} (hm : 1 ≤ m) (S : sS m s) : s.t 319 = 101 := S.t 319 (Nat.lt_of_lt_of_le (Nat.le_of_ble_eq_true rfl) (f_lim_1 hm))
theorem u_319 {m : Nat} {s : fS} (hm : 1 ≤ m) (S : sS m s) : s.t 319 < 128 ∧ ut (s.t 319) = 101 := by rw [t_319 hm S]; decide
theorem a_319 {m b : Nat} {φ0 φ : Nat → Nat} {s0 s : fS} {h : eH} (hm : 1 ≤ m) (R : fC m b φ0 s0 φ h s) : 319 = φ 319 := R.pn (t_319 hm R.S) (Nat.le_of_ble_eq_true rfl) (by decide)
theorem n_319 {m : Nat} {s : fS} (hm : 1 ≤ m) (S : sS m s) : s.n 319 = 3000 := S.n 319 (Nat.lt_of_lt_of_le (Nat.le_of_ble_eq_true rfl) (f_lim_1 hm)) (Nat.le_of_ble_eq_true rfl) (by decide)
theorem t_320 {m : Nat} {s : fS} (hm : 1 ≤ m) (S : sS m s) : s.t 320 = 101 := S.t 320 (Nat.lt_of_lt_of_le (Nat.le_of_ble_eq_true rfl) (f_lim_1 hm))
theorem u_320 {m : Nat} {s : fS} (hm : 1 ≤ m) (S : sS m s) : s.t 320 < 128 ∧ ut (s.t 320) = 101 := by rw [t_320 hm S]; decide
theorem a_320 {m b : Nat} {φ0 φ : Nat → Nat} {s0 s : fS} {h : eH} (hm : 1 ≤ m) (R : fC m b φ0 s0 φ h s) : 320 = φ 320 := R.pn (t_320 hm R.S) (Nat.le_of_ble_eq_true rfl) (by decide)
theorem n_320 {m : Nat} {s : fS} (hm : 1 ≤ m) (S : sS m s) : s.n 320 = 3000 := S.n 320 (Nat.lt_of_lt_of_le (Nat.le_of_ble_eq_true rfl) (f_lim_1 hm)) (Nat.le_of_ble_eq_true rfl) (by decide)
theorem t_321 {m : Nat} {s : fS} (hm : 1 ≤ m) (S : sS m s) : s.t 321 = 100 := S.t 321 (Nat.lt_of_lt_of_le (Nat.le_of_ble_eq_true rfl) (f_lim_1 hm))
theorem u_321 {m : Nat} {s : fS} (hm : 1 ≤ m) (S : sS m s) : s.t 321 < 128 ∧ ut (s.t 321) = 100 := by rw [t_321 hm S]; decide
theorem a_321 {m b : Nat} {φ0 φ : Nat → Nat} {s0 s : fS} {h : eH} (hm : 1 ≤ m) (R : fC m b φ0 s0 φ h s) : 321 = φ 321 := R.pn (t_321 hm R.S) (Nat.le_of_ble_eq_true rfl) (by decide)
theorem n_321 {m : Nat} {s : fS} (hm : 1 ≤ m) (S : sS m s) : s.n 321 = 714 := S.n 321 (Nat.lt_of_lt_of_le (Nat.le_of_ble_eq_true rfl) (f_lim_1 hm)) (Nat.le_of_ble_eq_true rfl) (by decide)
theorem t_322 {m : Nat} {s : fS} (hm : 1 ≤ m) (S : sS m s) : s.t 322 = 100 := S.t 322 (Nat.lt_of_lt_of_le (Nat.le_of_ble_eq_true rfl) (f_lim_1 hm))
theorem u_322 {m : Nat} {s : fS} (hm : 1 ≤ m) (S : sS m s) : s.t 322 < 128 ∧ ut (s.t 322) = 100 := by rw [t_322 hm S]; decide
theorem a_322 {m b : Nat} {φ0 φ : Nat → Nat} {s0 s : fS} {h : eH} (hm : 1 ≤ m) (R : fC m b φ0 s0 φ h s) : 322 = φ 322 := R.pn (t_322 hm R.S) (Nat.le_of_ble_eq_true rfl) (by decide)
theorem n_322 {m : Nat} {s : fS} (hm : 1 ≤ m) (S : sS m s) : s.n 322 = 64 := S.n 322 (Nat.lt_of_lt_of_le (Nat.le_of_ble_eq_true rfl) (f_lim_1 hm)) (Nat.le_of_ble_eq_true rfl) (by decide)
theorem t_323 {m : Nat} {s : fS} (hm : 1 ≤ m) (S : sS m s) : s.t 323 = 100 := S.t 323 (Nat.lt_of_lt_of_le (Nat.le_of_ble_eq_true rfl) (f_lim_1 hm))
theorem u_323 {m : Nat} {s : fS} (hm : 1 ≤ m) (S : sS m s) : s.t 323 < 128 ∧ ut (s.t 323) = 100 := by rw [t_323 hm S]; decide
theorem a_323 {m b : Nat} {φ0 φ : Nat → Nat} {s0 s : fS} {h : eH} (hm : 1 ≤ m) (R : fC m b φ0 s0 φ h s) : 323 = φ 323 := R.pn (t_323 hm R.S) (Nat.le_of_ble_eq_true rfl) (by decide)
theorem n_323 {m : Nat} {s : fS} (hm : 1 ≤ m) (S : sS m s) : s.n 323 = 64 := S.n 323 (Nat.lt_of_lt_of_le (Nat.le_of_ble_eq_true rfl) (f_lim_1 hm)) (Nat.le_of_ble_eq_true rfl) (by decide)
theorem t_324 {m : Nat} {s : fS} (hm : 1 ≤ m) (S : sS m s) : s.t 324 = 100 := S.t 324 (Nat.lt_of_lt_of_le (Nat.le_of_ble_eq_true rfl) (f_lim_1 hm))
theorem u_324 {m : Nat} {s : fS} (hm : 1 ≤ m) (S : sS m s) : s.t 324 < 128 ∧ ut (s.t 324) = 100 := by rw [t_324 hm S]; decide
theorem a_324 {m b : Nat} {φ0 φ : Nat → Nat} {s0 s : fS} {h : eH} (hm : 1 ≤ m) (R : fC m b φ0 s0 φ h s) : 324 = φ 324 := R.pn (t_324 hm R.S) (Nat.le_of_ble_eq_true rfl) (by decide)
theorem n_324 {m : Nat} {s : fS} (hm : 1 ≤ m) (S : sS m s) : s.n 324 = 12600 := S.n 324 (Nat.lt_of_lt_of_le (Nat.le_of_ble_eq_true rfl) (f_lim_1 hm)) (Nat.le_of_ble_eq_true rfl) (by decide)
theorem t_325 {m : Nat} {s : fS} (hm : 2 ≤ m) (S : sS m s) : s.t 325 = 101 := S.t 325 (Nat.lt_of_lt_of_le (Nat.le_of_ble_eq_true rfl) (f_lim_2 hm))
theorem u_325 {m : Nat} {s : fS} (hm : 2 ≤ m) (S : sS m s) : s.t 325 < 128 ∧ ut (s.t 325) = 101 := by rw [t_325 hm S]; decide
theorem a_325 {m b : Nat} {φ0 φ : Nat → Nat} {s0 s : fS} {h : eH} (hm : 2 ≤ m) (R : fC m b φ0 s0 φ h s) : 325 = φ 325 := R.pn (t_325 hm R.S) (Nat.le_of_ble_eq_true rfl) (by decide)
theorem n_325 {m : Nat} {s : fS} (hm : 2 ≤ m) (S : sS m s) : s.n 325 = 1 := S.n 325 (Nat.lt_of_lt_of_le (Nat.le_of_ble_eq_true rfl) (f_lim_2 hm)) (Nat.le_of_ble_eq_true rfl) (by decide)
theorem t_1000288 {m : Nat} {s : fS} (hm : 1 ≤ m) (S : sS m s) : s.t 1000288 = 100 := by rcases S.p with h | h; exact h; omega
theorem u_1000288 {m : Nat} {s : fS} (hm : 1 ≤ m) (S : sS m s) : s.t 1000288 < 128 ∧ ut (s.t 1000288) = 100 := by rw [t_1000288 hm S]; decide
theorem o_0_0 {m : Nat} {s : fS} (S : sS m s) : s.o 0 0 = some 1 := S.o 0 0 1 (Nat.lt_of_lt_of_le (Nat.le_of_ble_eq_true rfl) (f_lim_le m)) rfl
theorem o_0_2 {m : Nat} {s : fS} (S : sS m s) : s.o 0 2 = some 2 := S.o 0 2 2 (Nat.lt_of_lt_of_le (Nat.le_of_ble_eq_true rfl) (f_lim_le m)) rfl
theorem o_0_3 {m : Nat} {s : fS} (S : sS m s) : s.o 0 3 = some 4 := S.o 0 3 4 (Nat.lt_of_lt_of_le (Nat.le_of_ble_eq_true rfl) (f_lim_le m)) rfl
theorem o_2_0 {m : Nat} {s : fS} (S : sS m s) : s.o 2 0 = some 3 := S.o 2 0 3 (Nat.lt_of_lt_of_le (Nat.le_of_ble_eq_true rfl) (f_lim_le m)) rfl
theorem o_4_0 {m : Nat} {s : fS} (S : sS m s) : s.o 4 0 = some 5 := S.o 4 0 5 (Nat.lt_of_lt_of_le (Nat.le_of_ble_eq_true rfl) (f_lim_le m)) rfl
theorem o_4_1 {m : Nat} {s : fS} (S : sS m s) : s.o 4 1 = some 6 := S.o 4 1 6 (Nat.lt_of_lt_of_le (Nat.le_of_ble_eq_true rfl) (f_lim_le m)) rfl
theorem o_4_2 {m : Nat} {s : fS} (S : sS m s) : s.o 4 2 = some 17 := S.o 4 2 17 (Nat.lt_of_lt_of_le (Nat.le_of_ble_eq_true rfl) (f_lim_le m)) rfl
theorem o_4_3 {m : Nat} {s : fS} (S : sS m s) : s.o 4 3 = some 21 := S.o 4 3 21 (Nat.lt_of_lt_of_le (Nat.le_of_ble_eq_true rfl) (f_lim_le m)) rfl
theorem o_4_5 {m : Nat} {s : fS} (S : sS m s) : s.o 4 5 = some 22 := S.o 4 5 22 (Nat.lt_of_lt_of_le (Nat.le_of_ble_eq_true rfl) (f_lim_le m)) rfl
theorem o_4_6 {m : Nat} {s : fS} (S : sS m s) : s.o 4 6 = some 23 := S.o 4 6 23 (Nat.lt_of_lt_of_le (Nat.le_of_ble_eq_true rfl) (f_lim_le m)) rfl
theorem o_4_7 {m : Nat} {s : fS} (S : sS m s) : s.o 4 7 = some 60 := S.o 4 7 60 (Nat.lt_of_lt_of_le (Nat.le_of_ble_eq_true rfl) (f_lim_le m)) rfl
theorem o_4_8 {m : Nat} {s : fS} (S : sS m s) : s.o 4 8 = some 89 := S.o 4 8 89 (Nat.lt_of_lt_of_le (Nat.le_of_ble_eq_true rfl) (f_lim_le m)) rfl
theorem o_4_9 {m : Nat} {s : fS} (S : sS m s) : s.o 4 9 = some 94 := S.o 4 9 94 (Nat.lt_of_lt_of_le (Nat.le_of_ble_eq_true rfl) (f_lim_le m)) rfl
theorem o_4_10 {m : Nat} {s : fS} (S : sS m s) : s.o 4 10 = some 97 := S.o 4 10 97 (Nat.lt_of_lt_of_le (Nat.le_of_ble_eq_true rfl) (f_lim_le m)) rfl
theorem o_4_11 {m : Nat} {s : fS} (S : sS m s) : s.o 4 11 = some 103 := S.o 4 11 103 (Nat.lt_of_lt_of_le (Nat.le_of_ble_eq_true rfl) (f_lim_le m)) rfl
theorem o_4_12 {m : Nat} {s : fS} (S : sS m s) : s.o 4 12 = some 133 := S.o 4 12 133 (Nat.lt_of_lt_of_le (Nat.le_of_ble_eq_true rfl) (f_lim_le m)) rfl
theorem o_4_13 {m : Nat} {s : fS} (S : sS m s) : s.o 4 13 = some 140 := S.o 4 13 140 (Nat.lt_of_lt_of_le (Nat.le_of_ble_eq_true rfl) (f_lim_le m)) rfl
theorem o_4_14 {m : Nat} {s : fS} (S : sS m s) : s.o 4 14 = some 151 := S.o 4 14 151 (Nat.lt_of_lt_of_le (Nat.le_of_ble_eq_true rfl) (f_lim_le m)) rfl
theorem o_4_15 {m : Nat} {s : fS} (S : sS m s) : s.o 4 15 = some 153 := S.o 4 15 153 (Nat.lt_of_lt_of_le (Nat.le_of_ble_eq_true rfl) (f_lim_le m)) rfl
theorem o_4_16 {m : Nat} {s : fS} (S : sS m s) : s.o 4 16 = some 170 := S.o 4 16 170 (Nat.lt_of_lt_of_le (Nat.le_of_ble_eq_true rfl) (f_lim_le m)) rfl
theorem o_4_17 {m : Nat} {s : fS} (S : sS m s) : s.o 4 17 = some 172 := S.o 4 17 172 (Nat.lt_of_lt_of_le (Nat.le_of_ble_eq_true rfl) (f_lim_le m)) rfl
theorem o_4_18 {m : Nat} {s : fS} (S : sS m s) : s.o 4 18 = some 174 := S.o 4 18 174 (Nat.lt_of_lt_of_le (Nat.le_of_ble_eq_true rfl) (f_lim_le m)) rfl
theorem o_4_19 {m : Nat} {s : fS} (S : sS m s) : s.o 4 19 = some 176 := S.o 4 19 176 (Nat.lt_of_lt_of_le (Nat.le_of_ble_eq_true rfl) (f_lim_le m)) rfl
theorem o_4_20 {m : Nat} {s : fS} (S : sS m s) : s.o 4 20 = some 177 := S.o 4 20 177 (Nat.lt_of_lt_of_le (Nat.le_of_ble_eq_true rfl) (f_lim_le m)) rfl
theorem o_4_21 {m : Nat} {s : fS} (S : sS m s) : s.o 4 21 = some 178 := S.o 4 21 178 (Nat.lt_of_lt_of_le (Nat.le_of_ble_eq_true rfl) (f_lim_le m)) rfl
theorem o_4_22 {m : Nat} {s : fS} (S : sS m s) : s.o 4 22 = some 179 := S.o 4 22 179 (Nat.lt_of_lt_of_le (Nat.le_of_ble_eq_true rfl) (f_lim_le m)) rfl
theorem o_4_23 {m : Nat} {s : fS} (S : sS m s) : s.o 4 23 = some 180 := S.o 4 23 180 (Nat.lt_of_lt_of_le (Nat.le_of_ble_eq_true rfl) (f_lim_le m)) rfl
theorem o_4_24 {m : Nat} {s : fS} (S : sS m s) : s.o 4 24 = some 181 := S.o 4 24 181 (Nat.lt_of_lt_of_le (Nat.le_of_ble_eq_true rfl) (f_lim_le m)) rfl
theorem o_4_25 {m : Nat} {s : fS} (S : sS m s) : s.o 4 25 = some 182 := S.o 4 25 182 (Nat.lt_of_lt_of_le (Nat.le_of_ble_eq_true rfl) (f_lim_le m)) rfl
theorem o_4_26 {m : Nat} {s : fS} (S : sS m s) : s.o 4 26 = some 183 := S.o 4 26 183 (Nat.lt_of_lt_of_le (Nat.le_of_ble_eq_true rfl) (f_lim_le m)) rfl
theorem o_4_28 {m : Nat} {s : fS} (S : sS m s) : s.o 4 28 = some 184 := S.o 4 28 184 (Nat.lt_of_lt_of_le (Nat.le_of_ble_eq_true rfl) (f_lim_le m)) rfl
theorem o_4_29 {m : Nat} {s : fS} (S : sS m s) : s.o 4 29 = some 185 := S.o 4 29 185 (Nat.lt_of_lt_of_le (Nat.le_of_ble_eq_true rfl) (f_lim_le m)) rfl
theorem o_4_32 {m : Nat} {s : fS} (S : sS m s) : s.o 4 32 = some 186 := S.o 4 32 186 (Nat.lt_of_lt_of_le (Nat.le_of_ble_eq_true rfl) (f_lim_le m)) rfl
theorem o_4_33 {m : Nat} {s : fS} (S : sS m s) : s.o 4 33 = some 188 := S.o 4 33 188 (Nat.lt_of_lt_of_le (Nat.le_of_ble_eq_true rfl) (f_lim_le m)) rfl
theorem o_4_34 {m : Nat} {s : fS} (S : sS m s) : s.o 4 34 = some 190 := S.o 4 34 190 (Nat.lt_of_lt_of_le (Nat.le_of_ble_eq_true rfl) (f_lim_le m)) rfl
theorem o_4_36 {m : Nat} {s : fS} (S : sS m s) : s.o 4 36 = some 191 := S.o 4 36 191 (Nat.lt_of_lt_of_le (Nat.le_of_ble_eq_true rfl) (f_lim_le m)) rfl
theorem o_6_0 {m : Nat} {s : fS} (S : sS m s) : s.o 6 0 = some 7 := S.o 6 0 7 (Nat.lt_of_lt_of_le (Nat.le_of_ble_eq_true rfl) (f_lim_le m)) rfl
theorem o_6_1 {m : Nat} {s : fS} (S : sS m s) : s.o 6 1 = some 8 := S.o 6 1 8 (Nat.lt_of_lt_of_le (Nat.le_of_ble_eq_true rfl) (f_lim_le m)) rfl
theorem o_6_2 {m : Nat} {s : fS} (S : sS m s) : s.o 6 2 = some 9 := S.o 6 2 9 (Nat.lt_of_lt_of_le (Nat.le_of_ble_eq_true rfl) (f_lim_le m)) rfl
theorem o_6_4 {m : Nat} {s : fS} (S : sS m s) : s.o 6 4 = some 10 := S.o 6 4 10 (Nat.lt_of_lt_of_le (Nat.le_of_ble_eq_true rfl) (f_lim_le m)) rfl
theorem o_6_5 {m : Nat} {s : fS} (S : sS m s) : s.o 6 5 = some 11 := S.o 6 5 11 (Nat.lt_of_lt_of_le (Nat.le_of_ble_eq_true rfl) (f_lim_le m)) rfl
theorem o_6_7 {m : Nat} {s : fS} (S : sS m s) : s.o 6 7 = some 12 := S.o 6 7 12 (Nat.lt_of_lt_of_le (Nat.le_of_ble_eq_true rfl) (f_lim_le m)) rfl
theorem o_12_0 {m : Nat} {s : fS} (S : sS m s) : s.o 12 0 = some 13 := S.o 12 0 13 (Nat.lt_of_lt_of_le (Nat.le_of_ble_eq_true rfl) (f_lim_le m)) rfl
theorem o_12_1 {m : Nat} {s : fS} (S : sS m s) : s.o 12 1 = some 14 := S.o 12 1 14 (Nat.lt_of_lt_of_le (Nat.le_of_ble_eq_true rfl) (f_lim_le m)) rfl
theorem o_12_2 {m : Nat} {s : fS} (S : sS m s) : s.o 12 2 = some 15 := S.o 12 2 15 (Nat.lt_of_lt_of_le (Nat.le_of_ble_eq_true rfl) (f_lim_le m)) rfl
theorem o_12_3 {m : Nat} {s : fS} (S : sS m s) : s.o 12 3 = some 16 := S.o 12 3 16 (Nat.lt_of_lt_of_le (Nat.le_of_ble_eq_true rfl) (f_lim_le m)) rfl
theorem o_17_0 {m : Nat} {s : fS} (S : sS m s) : s.o 17 0 = some 18 := S.o 17 0 18 (Nat.lt_of_lt_of_le (Nat.le_of_ble_eq_true rfl) (f_lim_le m)) rfl
theorem o_17_1 {m : Nat} {s : fS} (S : sS m s) : s.o 17 1 = some 19 := S.o 17 1 19 (Nat.lt_of_lt_of_le (Nat.le_of_ble_eq_true rfl) (f_lim_le m)) rfl
theorem o_17_2 {m : Nat} {s : fS} (S : sS m s) : s.o 17 2 = some 20 := S.o 17 2 20 (Nat.lt_of_lt_of_le (Nat.le_of_ble_eq_true rfl) (f_lim_le m)) rfl
theorem o_22_0 {m : Nat} {s : fS} (S : sS m s) : s.o 22 0 = some 5 := S.o 22 0 5 (Nat.lt_of_lt_of_le (Nat.le_of_ble_eq_true rfl) (f_lim_le m)) rfl
theorem o_22_1 {m : Nat} {s : fS} (S : sS m s) : s.o 22 1 = some 6 := S.o 22 1 6 (Nat.lt_of_lt_of_le (Nat.le_of_ble_eq_true rfl) (f_lim_le m)) rfl
theorem o_22_2 {m : Nat} {s : fS} (S : sS m s) : s.o 22 2 = some 21 := S.o 22 2 21 (Nat.lt_of_lt_of_le (Nat.le_of_ble_eq_true rfl) (f_lim_le m)) rfl
theorem o_22_3 {m : Nat} {s : fS} (S : sS m s) : s.o 22 3 = some 44 := S.o 22 3 44 (Nat.lt_of_lt_of_le (Nat.le_of_ble_eq_true rfl) (f_lim_le m)) rfl
theorem o_22_4 {m : Nat} {s : fS} (S : sS m s) : s.o 22 4 = some 23 := S.o 22 4 23 (Nat.lt_of_lt_of_le (Nat.le_of_ble_eq_true rfl) (f_lim_le m)) rfl
theorem o_22_5 {m : Nat} {s : fS} (S : sS m s) : s.o 22 5 = some 50 := S.o 22 5 50 (Nat.lt_of_lt_of_le (Nat.le_of_ble_eq_true rfl) (f_lim_le m)) rfl
theorem o_22_6 {m : Nat} {s : fS} (S : sS m s) : s.o 22 6 = some 52 := S.o 22 6 52 (Nat.lt_of_lt_of_le (Nat.le_of_ble_eq_true rfl) (f_lim_le m)) rfl
theorem o_22_7 {m : Nat} {s : fS} (S : sS m s) : s.o 22 7 = some 58 := S.o 22 7 58 (Nat.lt_of_lt_of_le (Nat.le_of_ble_eq_true rfl) (f_lim_le m)) rfl
theorem o_22_12 {m : Nat} {s : fS} (S : sS m s) : s.o 22 12 = some 34 := S.o 22 12 34 (Nat.lt_of_lt_of_le (Nat.le_of_ble_eq_true rfl) (f_lim_le m)) rfl
theorem o_22_13 {m : Nat} {s : fS} (S : sS m s) : s.o 22 13 = some 35 := S.o 22 13 35 (Nat.lt_of_lt_of_le (Nat.le_of_ble_eq_true rfl) (f_lim_le m)) rfl
theorem o_22_14 {m : Nat} {s : fS} (S : sS m s) : s.o 22 14 = some 36 := S.o 22 14 36 (Nat.lt_of_lt_of_le (Nat.le_of_ble_eq_true rfl) (f_lim_le m)) rfl
theorem o_22_16 {m : Nat} {s : fS} (S : sS m s) : s.o 22 16 = some 37 := S.o 22 16 37 (Nat.lt_of_lt_of_le (Nat.le_of_ble_eq_true rfl) (f_lim_le m)) rfl
theorem o_22_18 {m : Nat} {s : fS} (S : sS m s) : s.o 22 18 = some 38 := S.o 22 18 38 (Nat.lt_of_lt_of_le (Nat.le_of_ble_eq_true rfl) (f_lim_le m)) rfl
theorem o_22_19 {m : Nat} {s : fS} (S : sS m s) : s.o 22 19 = some 39 := S.o 22 19 39 (Nat.lt_of_lt_of_le (Nat.le_of_ble_eq_true rfl) (f_lim_le m)) rfl
theorem o_22_20 {m : Nat} {s : fS} (S : sS m s) : s.o 22 20 = some 40 := S.o 22 20 40 (Nat.lt_of_lt_of_le (Nat.le_of_ble_eq_true rfl) (f_lim_le m)) rfl
theorem o_22_21 {m : Nat} {s : fS} (S : sS m s) : s.o 22 21 = some 41 := S.o 22 21 41 (Nat.lt_of_lt_of_le (Nat.le_of_ble_eq_true rfl) (f_lim_le m)) rfl
theorem o_22_23 {m : Nat} {s : fS} (S : sS m s) : s.o 22 23 = some 42 := S.o 22 23 42 (Nat.lt_of_lt_of_le (Nat.le_of_ble_eq_true rfl) (f_lim_le m)) rfl
theorem o_22_29 {m : Nat} {s : fS} (S : sS m s) : s.o 22 29 = some 43 := S.o 22 29 43 (Nat.lt_of_lt_of_le (Nat.le_of_ble_eq_true rfl) (f_lim_le m)) rfl
theorem o_23_0 {m : Nat} {s : fS} (S : sS m s) : s.o 23 0 = some 24 := S.o 23 0 24 (Nat.lt_of_lt_of_le (Nat.le_of_ble_eq_true rfl) (f_lim_le m)) rfl
theorem o_23_1 {m : Nat} {s : fS} (S : sS m s) : s.o 23 1 = some 25 := S.o 23 1 25 (Nat.lt_of_lt_of_le (Nat.le_of_ble_eq_true rfl) (f_lim_le m)) rfl
theorem o_23_2 {m : Nat} {s : fS} (S : sS m s) : s.o 23 2 = some 26 := S.o 23 2 26 (Nat.lt_of_lt_of_le (Nat.le_of_ble_eq_true rfl) (f_lim_le m)) rfl
theorem o_23_3 {m : Nat} {s : fS} (S : sS m s) : s.o 23 3 = some 27 := S.o 23 3 27 (Nat.lt_of_lt_of_le (Nat.le_of_ble_eq_true rfl) (f_lim_le m)) rfl
theorem o_23_4 {m : Nat} {s : fS} (S : sS m s) : s.o 23 4 = some 28 := S.o 23 4 28 (Nat.lt_of_lt_of_le (Nat.le_of_ble_eq_true rfl) (f_lim_le m)) rfl
theorem o_23_5 {m : Nat} {s : fS} (S : sS m s) : s.o 23 5 = some 29 := S.o 23 5 29 (Nat.lt_of_lt_of_le (Nat.le_of_ble_eq_true rfl) (f_lim_le m)) rfl
theorem o_23_7 {m : Nat} {s : fS} (S : sS m s) : s.o 23 7 = some 30 := S.o 23 7 30 (Nat.lt_of_lt_of_le (Nat.le_of_ble_eq_true rfl) (f_lim_le m)) rfl
theorem o_23_8 {m : Nat} {s : fS} (S : sS m s) : s.o 23 8 = some 31 := S.o 23 8 31 (Nat.lt_of_lt_of_le (Nat.le_of_ble_eq_true rfl) (f_lim_le m)) rfl
theorem o_23_9 {m : Nat} {s : fS} (S : sS m s) : s.o 23 9 = some 32 := S.o 23 9 32 (Nat.lt_of_lt_of_le (Nat.le_of_ble_eq_true rfl) (f_lim_le m)) rfl
theorem o_23_10 {m : Nat} {s : fS} (S : sS m s) : s.o 23 10 = some 33 := S.o 23 10 33 (Nat.lt_of_lt_of_le (Nat.le_of_ble_eq_true rfl) (f_lim_le m)) rfl
theorem o_44_0 {m : Nat} {s : fS} (S : sS m s) : s.o 44 0 = some 5 := S.o 44 0 5 (Nat.lt_of_lt_of_le (Nat.le_of_ble_eq_true rfl) (f_lim_le m)) rfl
theorem o_44_1 {m : Nat} {s : fS} (S : sS m s) : s.o 44 1 = some 45 := S.o 44 1 45 (Nat.lt_of_lt_of_le (Nat.le_of_ble_eq_true rfl) (f_lim_le m)) rfl
theorem o_44_2 {m : Nat} {s : fS} (S : sS m s) : s.o 44 2 = some 46 := S.o 44 2 46 (Nat.lt_of_lt_of_le (Nat.le_of_ble_eq_true rfl) (f_lim_le m)) rfl
theorem o_44_3 {m : Nat} {s : fS} (S : sS m s) : s.o 44 3 = some 47 := S.o 44 3 47 (Nat.lt_of_lt_of_le (Nat.le_of_ble_eq_true rfl) (f_lim_le m)) rfl
theorem o_44_4 {m : Nat} {s : fS} (S : sS m s) : s.o 44 4 = some 48 := S.o 44 4 48 (Nat.lt_of_lt_of_le (Nat.le_of_ble_eq_true rfl) (f_lim_le m)) rfl
theorem o_44_7 {m : Nat} {s : fS} (S : sS m s) : s.o 44 7 = some 49 := S.o 44 7 49 (Nat.lt_of_lt_of_le (Nat.le_of_ble_eq_true rfl) (f_lim_le m)) rfl
theorem o_50_0 {m : Nat} {s : fS} (S : sS m s) : s.o 50 0 = some 5 := S.o 50 0 5 (Nat.lt_of_lt_of_le (Nat.le_of_ble_eq_true rfl) (f_lim_le m)) rfl
theorem o_50_1 {m : Nat} {s : fS} (S : sS m s) : s.o 50 1 = some 44 := S.o 50 1 44 (Nat.lt_of_lt_of_le (Nat.le_of_ble_eq_true rfl) (f_lim_le m)) rfl
theorem o_50_2 {m : Nat} {s : fS} (S : sS m s) : s.o 50 2 = some 23 := S.o 50 2 23 (Nat.lt_of_lt_of_le (Nat.le_of_ble_eq_true rfl) (f_lim_le m)) rfl
theorem o_50_3 {m : Nat} {s : fS} (S : sS m s) : s.o 50 3 = some 51 := S.o 50 3 51 (Nat.lt_of_lt_of_le (Nat.le_of_ble_eq_true rfl) (f_lim_le m)) rfl
theorem o_52_0 {m : Nat} {s : fS} (S : sS m s) : s.o 52 0 = some 5 := S.o 52 0 5 (Nat.lt_of_lt_of_le (Nat.le_of_ble_eq_true rfl) (f_lim_le m)) rfl
theorem o_52_1 {m : Nat} {s : fS} (S : sS m s) : s.o 52 1 = some 53 := S.o 52 1 53 (Nat.lt_of_lt_of_le (Nat.le_of_ble_eq_true rfl) (f_lim_le m)) rfl
theorem o_52_3 {m : Nat} {s : fS} (S : sS m s) : s.o 52 3 = some 54 := S.o 52 3 54 (Nat.lt_of_lt_of_le (Nat.le_of_ble_eq_true rfl) (f_lim_le m)) rfl
theorem o_52_4 {m : Nat} {s : fS} (S : sS m s) : s.o 52 4 = some 55 := S.o 52 4 55 (Nat.lt_of_lt_of_le (Nat.le_of_ble_eq_true rfl) (f_lim_le m)) rfl
theorem o_52_5 {m : Nat} {s : fS} (S : sS m s) : s.o 52 5 = some 56 := S.o 52 5 56 (Nat.lt_of_lt_of_le (Nat.le_of_ble_eq_true rfl) (f_lim_le m)) rfl
theorem o_52_6 {m : Nat} {s : fS} (S : sS m s) : s.o 52 6 = some 57 := S.o 52 6 57 (Nat.lt_of_lt_of_le (Nat.le_of_ble_eq_true rfl) (f_lim_le m)) rfl
theorem o_58_0 {m : Nat} {s : fS} (S : sS m s) : s.o 58 0 = some 52 := S.o 58 0 52 (Nat.lt_of_lt_of_le (Nat.le_of_ble_eq_true rfl) (f_lim_le m)) rfl
theorem o_58_1 {m : Nat} {s : fS} (S : sS m s) : s.o 58 1 = some 50 := S.o 58 1 50 (Nat.lt_of_lt_of_le (Nat.le_of_ble_eq_true rfl) (f_lim_le m)) rfl
theorem o_58_2 {m : Nat} {s : fS} (S : sS m s) : s.o 58 2 = some 59 := S.o 58 2 59 (Nat.lt_of_lt_of_le (Nat.le_of_ble_eq_true rfl) (f_lim_le m)) rfl
theorem o_60_0 {m : Nat} {s : fS} (S : sS m s) : s.o 60 0 = some 61 := S.o 60 0 61 (Nat.lt_of_lt_of_le (Nat.le_of_ble_eq_true rfl) (f_lim_le m)) rfl
theorem o_60_1 {m : Nat} {s : fS} (S : sS m s) : s.o 60 1 = some 75 := S.o 60 1 75 (Nat.lt_of_lt_of_le (Nat.le_of_ble_eq_true rfl) (f_lim_le m)) rfl
theorem o_60_2 {m : Nat} {s : fS} (S : sS m s) : s.o 60 2 = some 83 := S.o 60 2 83 (Nat.lt_of_lt_of_le (Nat.le_of_ble_eq_true rfl) (f_lim_le m)) rfl
theorem o_60_3 {m : Nat} {s : fS} (S : sS m s) : s.o 60 3 = some 86 := S.o 60 3 86 (Nat.lt_of_lt_of_le (Nat.le_of_ble_eq_true rfl) (f_lim_le m)) rfl
theorem o_61_0 {m : Nat} {s : fS} (S : sS m s) : s.o 61 0 = some 62 := S.o 61 0 62 (Nat.lt_of_lt_of_le (Nat.le_of_ble_eq_true rfl) (f_lim_le m)) rfl
theorem o_61_1 {m : Nat} {s : fS} (S : sS m s) : s.o 61 1 = some 63 := S.o 61 1 63 (Nat.lt_of_lt_of_le (Nat.le_of_ble_eq_true rfl) (f_lim_le m)) rfl
theorem o_61_2 {m : Nat} {s : fS} (S : sS m s) : s.o 61 2 = some 64 := S.o 61 2 64 (Nat.lt_of_lt_of_le (Nat.le_of_ble_eq_true rfl) (f_lim_le m)) rfl
theorem o_61_3 {m : Nat} {s : fS} (S : sS m s) : s.o 61 3 = some 65 := S.o 61 3 65 (Nat.lt_of_lt_of_le (Nat.le_of_ble_eq_true rfl) (f_lim_le m)) rfl
theorem o_61_4 {m : Nat} {s : fS} (S : sS m s) : s.o 61 4 = some 66 := S.o 61 4 66 (Nat.lt_of_lt_of_le (Nat.le_of_ble_eq_true rfl) (f_lim_le m)) rfl
theorem o_61_6 {m : Nat} {s : fS} (S : sS m s) : s.o 61 6 = some 67 := S.o 61 6 67 (Nat.lt_of_lt_of_le (Nat.le_of_ble_eq_true rfl) (f_lim_le m)) rfl
theorem o_61_7 {m : Nat} {s : fS} (S : sS m s) : s.o 61 7 = some 68 := S.o 61 7 68 (Nat.lt_of_lt_of_le (Nat.le_of_ble_eq_true rfl) (f_lim_le m)) rfl
theorem o_61_8 {m : Nat} {s : fS} (S : sS m s) : s.o 61 8 = some 69 := S.o 61 8 69 (Nat.lt_of_lt_of_le (Nat.le_of_ble_eq_true rfl) (f_lim_le m)) rfl
theorem o_61_10 {m : Nat} {s : fS} (S : sS m s) : s.o 61 10 = some 70 := S.o 61 10 70 (Nat.lt_of_lt_of_le (Nat.le_of_ble_eq_true rfl) (f_lim_le m)) rfl
theorem o_61_11 {m : Nat} {s : fS} (S : sS m s) : s.o 61 11 = some 71 := S.o 61 11 71 (Nat.lt_of_lt_of_le (Nat.le_of_ble_eq_true rfl) (f_lim_le m)) rfl
theorem o_61_12 {m : Nat} {s : fS} (S : sS m s) : s.o 61 12 = some 72 := S.o 61 12 72 (Nat.lt_of_lt_of_le (Nat.le_of_ble_eq_true rfl) (f_lim_le m)) rfl
theorem o_61_13 {m : Nat} {s : fS} (S : sS m s) : s.o 61 13 = some 73 := S.o 61 13 73 (Nat.lt_of_lt_of_le (Nat.le_of_ble_eq_true rfl) (f_lim_le m)) rfl
theorem o_61_18 {m : Nat} {s : fS} (S : sS m s) : s.o 61 18 = some 74 := S.o 61 18 74 (Nat.lt_of_lt_of_le (Nat.le_of_ble_eq_true rfl) (f_lim_le m)) rfl
theorem o_75_0 {m : Nat} {s : fS} (S : sS m s) : s.o 75 0 = some 76 := S.o 75 0 76 (Nat.lt_of_lt_of_le (Nat.le_of_ble_eq_true rfl) (f_lim_le m)) rfl
theorem o_75_1 {m : Nat} {s : fS} (S : sS m s) : s.o 75 1 = some 77 := S.o 75 1 77 (Nat.lt_of_lt_of_le (Nat.le_of_ble_eq_true rfl) (f_lim_le m)) rfl
theorem o_75_2 {m : Nat} {s : fS} (S : sS m s) : s.o 75 2 = some 78 := S.o 75 2 78 (Nat.lt_of_lt_of_le (Nat.le_of_ble_eq_true rfl) (f_lim_le m)) rfl
theorem o_75_3 {m : Nat} {s : fS} (S : sS m s) : s.o 75 3 = some 79 := S.o 75 3 79 (Nat.lt_of_lt_of_le (Nat.le_of_ble_eq_true rfl) (f_lim_le m)) rfl
theorem o_75_4 {m : Nat} {s : fS} (S : sS m s) : s.o 75 4 = some 80 := S.o 75 4 80 (Nat.lt_of_lt_of_le (Nat.le_of_ble_eq_true rfl) (f_lim_le m)) rfl
theorem o_75_9 {m : Nat} {s : fS} (S : sS m s) : s.o 75 9 = some 81 := S.o 75 9 81 (Nat.lt_of_lt_of_le (Nat.le_of_ble_eq_true rfl) (f_lim_le m)) rfl
theorem o_75_10 {m : Nat} {s : fS} (S : sS m s) : s.o 75 10 = some 82 := S.o 75 10 82 (Nat.lt_of_lt_of_le (Nat.le_of_ble_eq_true rfl) (f_lim_le m)) rfl
theorem o_83_0 {m : Nat} {s : fS} (S : sS m s) : s.o 83 0 = some 84 := S.o 83 0 84 (Nat.lt_of_lt_of_le (Nat.le_of_ble_eq_true rfl) (f_lim_le m)) rfl
theorem o_83_1 {m : Nat} {s : fS} (S : sS m s) : s.o 83 1 = some 85 := S.o 83 1 85 (Nat.lt_of_lt_of_le (Nat.le_of_ble_eq_true rfl) (f_lim_le m)) rfl
theorem o_86_0 {m : Nat} {s : fS} (S : sS m s) : s.o 86 0 = some 87 := S.o 86 0 87 (Nat.lt_of_lt_of_le (Nat.le_of_ble_eq_true rfl) (f_lim_le m)) rfl
theorem o_86_1 {m : Nat} {s : fS} (S : sS m s) : s.o 86 1 = some 88 := S.o 86 1 88 (Nat.lt_of_lt_of_le (Nat.le_of_ble_eq_true rfl) (f_lim_le m)) rfl
theorem o_89_0 {m : Nat} {s : fS} (S : sS m s) : s.o 89 0 = some 90 := S.o 89 0 90 (Nat.lt_of_lt_of_le (Nat.le_of_ble_eq_true rfl) (f_lim_le m)) rfl
theorem o_89_1 {m : Nat} {s : fS} (S : sS m s) : s.o 89 1 = some 91 := S.o 89 1 91 (Nat.lt_of_lt_of_le (Nat.le_of_ble_eq_true rfl) (f_lim_le m)) rfl
theorem o_89_2 {m : Nat} {s : fS} (S : sS m s) : s.o 89 2 = some 92 := S.o 89 2 92 (Nat.lt_of_lt_of_le (Nat.le_of_ble_eq_true rfl) (f_lim_le m)) rfl
theorem o_89_5 {m : Nat} {s : fS} (S : sS m s) : s.o 89 5 = some 93 := S.o 89 5 93 (Nat.lt_of_lt_of_le (Nat.le_of_ble_eq_true rfl) (f_lim_le m)) rfl
theorem o_94_0 {m : Nat} {s : fS} (S : sS m s) : s.o 94 0 = some 17 := S.o 94 0 17 (Nat.lt_of_lt_of_le (Nat.le_of_ble_eq_true rfl) (f_lim_le m)) rfl
theorem o_94_1 {m : Nat} {s : fS} (S : sS m s) : s.o 94 1 = some 21 := S.o 94 1 21 (Nat.lt_of_lt_of_le (Nat.le_of_ble_eq_true rfl) (f_lim_le m)) rfl
theorem o_94_2 {m : Nat} {s : fS} (S : sS m s) : s.o 94 2 = some 95 := S.o 94 2 95 (Nat.lt_of_lt_of_le (Nat.le_of_ble_eq_true rfl) (f_lim_le m)) rfl
theorem o_94_3 {m : Nat} {s : fS} (S : sS m s) : s.o 94 3 = some 96 := S.o 94 3 96 (Nat.lt_of_lt_of_le (Nat.le_of_ble_eq_true rfl) (f_lim_le m)) rfl
theorem o_97_0 {m : Nat} {s : fS} (S : sS m s) : s.o 97 0 = some 17 := S.o 97 0 17 (Nat.lt_of_lt_of_le (Nat.le_of_ble_eq_true rfl) (f_lim_le m)) rfl
theorem o_97_1 {m : Nat} {s : fS} (S : sS m s) : s.o 97 1 = some 21 := S.o 97 1 21 (Nat.lt_of_lt_of_le (Nat.le_of_ble_eq_true rfl) (f_lim_le m)) rfl
theorem o_97_2 {m : Nat} {s : fS} (S : sS m s) : s.o 97 2 = some 98 := S.o 97 2 98 (Nat.lt_of_lt_of_le (Nat.le_of_ble_eq_true rfl) (f_lim_le m)) rfl
theorem o_97_4 {m : Nat} {s : fS} (S : sS m s) : s.o 97 4 = some 99 := S.o 97 4 99 (Nat.lt_of_lt_of_le (Nat.le_of_ble_eq_true rfl) (f_lim_le m)) rfl
theorem o_97_5 {m : Nat} {s : fS} (S : sS m s) : s.o 97 5 = some 100 := S.o 97 5 100 (Nat.lt_of_lt_of_le (Nat.le_of_ble_eq_true rfl) (f_lim_le m)) rfl
theorem o_97_6 {m : Nat} {s : fS} (S : sS m s) : s.o 97 6 = some 101 := S.o 97 6 101 (Nat.lt_of_lt_of_le (Nat.le_of_ble_eq_true rfl) (f_lim_le m)) rfl
theorem o_97_7 {m : Nat} {s : fS} (S : sS m s) : s.o 97 7 = some 102 := S.o 97 7 102 (Nat.lt_of_lt_of_le (Nat.le_of_ble_eq_true rfl) (f_lim_le m)) rfl
theorem o_103_0 {m : Nat} {s : fS} (S : sS m s) : s.o 103 0 = some 104 := S.o 103 0 104 (Nat.lt_of_lt_of_le (Nat.le_of_ble_eq_true rfl) (f_lim_le m)) rfl
theorem o_103_1 {m : Nat} {s : fS} (S : sS m s) : s.o 103 1 = some 110 := S.o 103 1 110 (Nat.lt_of_lt_of_le (Nat.le_of_ble_eq_true rfl) (f_lim_le m)) rfl
theorem o_103_2 {m : Nat} {s : fS} (S : sS m s) : s.o 103 2 = some 117 := S.o 103 2 117 (Nat.lt_of_lt_of_le (Nat.le_of_ble_eq_true rfl) (f_lim_le m)) rfl
theorem o_103_3 {m : Nat} {s : fS} (S : sS m s) : s.o 103 3 = some 118 := S.o 103 3 118 (Nat.lt_of_lt_of_le (Nat.le_of_ble_eq_true rfl) (f_lim_le m)) rfl
theorem o_103_4 {m : Nat} {s : fS} (S : sS m s) : s.o 103 4 = some 119 := S.o 103 4 119 (Nat.lt_of_lt_of_le (Nat.le_of_ble_eq_true rfl) (f_lim_le m)) rfl
theorem o_103_5 {m : Nat} {s : fS} (S : sS m s) : s.o 103 5 = some 120 := S.o 103 5 120 (Nat.lt_of_lt_of_le (Nat.le_of_ble_eq_true rfl) (f_lim_le m)) rfl
theorem o_103_8 {m : Nat} {s : fS} (S : sS m s) : s.o 103 8 = some 131 := S.o 103 8 131 (Nat.lt_of_lt_of_le (Nat.le_of_ble_eq_true rfl) (f_lim_le m)) rfl
theorem o_103_9 {m : Nat} {s : fS} (S : sS m s) : s.o 103 9 = some 132 := S.o 103 9 132 (Nat.lt_of_lt_of_le (Nat.le_of_ble_eq_true rfl) (f_lim_le m)) rfl
theorem o_104_0 {m : Nat} {s : fS} (S : sS m s) : s.o 104 0 = some 105 := S.o 104 0 105 (Nat.lt_of_lt_of_le (Nat.le_of_ble_eq_true rfl) (f_lim_le m)) rfl
theorem o_104_1 {m : Nat} {s : fS} (S : sS m s) : s.o 104 1 = some 106 := S.o 104 1 106 (Nat.lt_of_lt_of_le (Nat.le_of_ble_eq_true rfl) (f_lim_le m)) rfl
theorem o_104_2 {m : Nat} {s : fS} (S : sS m s) : s.o 104 2 = some 107 := S.o 104 2 107 (Nat.lt_of_lt_of_le (Nat.le_of_ble_eq_true rfl) (f_lim_le m)) rfl
theorem o_104_3 {m : Nat} {s : fS} (S : sS m s) : s.o 104 3 = some 108 := S.o 104 3 108 (Nat.lt_of_lt_of_le (Nat.le_of_ble_eq_true rfl) (f_lim_le m)) rfl
theorem o_104_4 {m : Nat} {s : fS} (S : sS m s) : s.o 104 4 = some 109 := S.o 104 4 109 (Nat.lt_of_lt_of_le (Nat.le_of_ble_eq_true rfl) (f_lim_le m)) rfl
theorem o_110_0 {m : Nat} {s : fS} (S : sS m s) : s.o 110 0 = some 111 := S.o 110 0 111 (Nat.lt_of_lt_of_le (Nat.le_of_ble_eq_true rfl) (f_lim_le m)) rfl
theorem o_110_1 {m : Nat} {s : fS} (S : sS m s) : s.o 110 1 = some 112 := S.o 110 1 112 (Nat.lt_of_lt_of_le (Nat.le_of_ble_eq_true rfl) (f_lim_le m)) rfl
theorem o_110_2 {m : Nat} {s : fS} (S : sS m s) : s.o 110 2 = some 113 := S.o 110 2 113 (Nat.lt_of_lt_of_le (Nat.le_of_ble_eq_true rfl) (f_lim_le m)) rfl
theorem o_110_3 {m : Nat} {s : fS} (S : sS m s) : s.o 110 3 = some 114 := S.o 110 3 114 (Nat.lt_of_lt_of_le (Nat.le_of_ble_eq_true rfl) (f_lim_le m)) rfl
theorem o_110_4 {m : Nat} {s : fS} (S : sS m s) : s.o 110 4 = some 115 := S.o 110 4 115 (Nat.lt_of_lt_of_le (Nat.le_of_ble_eq_true rfl) (f_lim_le m)) rfl
theorem o_110_5 {m : Nat} {s : fS} (S : sS m s) : s.o 110 5 = some 116 := S.o 110 5 116 (Nat.lt_of_lt_of_le (Nat.le_of_ble_eq_true rfl) (f_lim_le m)) rfl
theorem o_120_0 {m : Nat} {s : fS} (S : sS m s) : s.o 120 0 = some 104 := S.o 120 0 104 (Nat.lt_of_lt_of_le (Nat.le_of_ble_eq_true rfl) (f_lim_le m)) rfl
theorem o_120_1 {m : Nat} {s : fS} (S : sS m s) : s.o 120 1 = some 110 := S.o 120 1 110 (Nat.lt_of_lt_of_le (Nat.le_of_ble_eq_true rfl) (f_lim_le m)) rfl
theorem o_120_2 {m : Nat} {s : fS} (S : sS m s) : s.o 120 2 = some 117 := S.o 120 2 117 (Nat.lt_of_lt_of_le (Nat.le_of_ble_eq_true rfl) (f_lim_le m)) rfl
theorem o_120_3 {m : Nat} {s : fS} (S : sS m s) : s.o 120 3 = some 118 := S.o 120 3 118 (Nat.lt_of_lt_of_le (Nat.le_of_ble_eq_true rfl) (f_lim_le m)) rfl
theorem o_120_4 {m : Nat} {s : fS} (S : sS m s) : s.o 120 4 = some 121 := S.o 120 4 121 (Nat.lt_of_lt_of_le (Nat.le_of_ble_eq_true rfl) (f_lim_le m)) rfl
theorem o_120_5 {m : Nat} {s : fS} (S : sS m s) : s.o 120 5 = some 128 := S.o 120 5 128 (Nat.lt_of_lt_of_le (Nat.le_of_ble_eq_true rfl) (f_lim_le m)) rfl
theorem o_120_6 {m : Nat} {s : fS} (S : sS m s) : s.o 120 6 = some 129 := S.o 120 6 129 (Nat.lt_of_lt_of_le (Nat.le_of_ble_eq_true rfl) (f_lim_le m)) rfl
theorem o_120_7 {m : Nat} {s : fS} (S : sS m s) : s.o 120 7 = some 130 := S.o 120 7 130 (Nat.lt_of_lt_of_le (Nat.le_of_ble_eq_true rfl) (f_lim_le m)) rfl
theorem o_121_0 {m : Nat} {s : fS} (S : sS m s) : s.o 121 0 = some 122 := S.o 121 0 122 (Nat.lt_of_lt_of_le (Nat.le_of_ble_eq_true rfl) (f_lim_le m)) rfl
theorem o_121_1 {m : Nat} {s : fS} (S : sS m s) : s.o 121 1 = some 123 := S.o 121 1 123 (Nat.lt_of_lt_of_le (Nat.le_of_ble_eq_true rfl) (f_lim_le m)) rfl
theorem o_121_2 {m : Nat} {s : fS} (S : sS m s) : s.o 121 2 = some 124 := S.o 121 2 124 (Nat.lt_of_lt_of_le (Nat.le_of_ble_eq_true rfl) (f_lim_le m)) rfl
theorem o_121_3 {m : Nat} {s : fS} (S : sS m s) : s.o 121 3 = some 125 := S.o 121 3 125 (Nat.lt_of_lt_of_le (Nat.le_of_ble_eq_true rfl) (f_lim_le m)) rfl
theorem o_121_4 {m : Nat} {s : fS} (S : sS m s) : s.o 121 4 = some 126 := S.o 121 4 126 (Nat.lt_of_lt_of_le (Nat.le_of_ble_eq_true rfl) (f_lim_le m)) rfl
theorem o_121_5 {m : Nat} {s : fS} (S : sS m s) : s.o 121 5 = some 127 := S.o 121 5 127 (Nat.lt_of_lt_of_le (Nat.le_of_ble_eq_true rfl) (f_lim_le m)) rfl
theorem o_133_0 {m : Nat} {s : fS} (S : sS m s) : s.o 133 0 = some 134 := S.o 133 0 134 (Nat.lt_of_lt_of_le (Nat.le_of_ble_eq_true rfl) (f_lim_le m)) rfl
theorem o_133_1 {m : Nat} {s : fS} (S : sS m s) : s.o 133 1 = some 135 := S.o 133 1 135 (Nat.lt_of_lt_of_le (Nat.le_of_ble_eq_true rfl) (f_lim_le m)) rfl
theorem o_133_2 {m : Nat} {s : fS} (S : sS m s) : s.o 133 2 = some 136 := S.o 133 2 136 (Nat.lt_of_lt_of_le (Nat.le_of_ble_eq_true rfl) (f_lim_le m)) rfl
theorem o_133_3 {m : Nat} {s : fS} (S : sS m s) : s.o 133 3 = some 137 := S.o 133 3 137 (Nat.lt_of_lt_of_le (Nat.le_of_ble_eq_true rfl) (f_lim_le m)) rfl
theorem o_133_4 {m : Nat} {s : fS} (S : sS m s) : s.o 133 4 = some 138 := S.o 133 4 138 (Nat.lt_of_lt_of_le (Nat.le_of_ble_eq_true rfl) (f_lim_le m)) rfl
theorem o_133_5 {m : Nat} {s : fS} (S : sS m s) : s.o 133 5 = some 139 := S.o 133 5 139 (Nat.lt_of_lt_of_le (Nat.le_of_ble_eq_true rfl) (f_lim_le m)) rfl
theorem o_140_0 {m : Nat} {s : fS} (S : sS m s) : s.o 140 0 = some 133 := S.o 140 0 133 (Nat.lt_of_lt_of_le (Nat.le_of_ble_eq_true rfl) (f_lim_le m)) rfl
theorem o_140_1 {m : Nat} {s : fS} (S : sS m s) : s.o 140 1 = some 141 := S.o 140 1 141 (Nat.lt_of_lt_of_le (Nat.le_of_ble_eq_true rfl) (f_lim_le m)) rfl
theorem o_140_2 {m : Nat} {s : fS} (S : sS m s) : s.o 140 2 = some 143 := S.o 140 2 143 (Nat.lt_of_lt_of_le (Nat.le_of_ble_eq_true rfl) (f_lim_le m)) rfl
theorem o_141_0 {m : Nat} {s : fS} (S : sS m s) : s.o 141 0 = some 142 := S.o 141 0 142 (Nat.lt_of_lt_of_le (Nat.le_of_ble_eq_true rfl) (f_lim_le m)) rfl
theorem o_143_0 {m : Nat} {s : fS} (S : sS m s) : s.o 143 0 = some 144 := S.o 143 0 144 (Nat.lt_of_lt_of_le (Nat.le_of_ble_eq_true rfl) (f_lim_le m)) rfl
theorem o_145_0 {m : Nat} {s : fS} (S : sS m s) : s.o 145 0 = some 146 := S.o 145 0 146 (Nat.lt_of_lt_of_le (Nat.le_of_ble_eq_true rfl) (f_lim_le m)) rfl
theorem o_146_0 {m : Nat} {s : fS} (S : sS m s) : s.o 146 0 = some 147 := S.o 146 0 147 (Nat.lt_of_lt_of_le (Nat.le_of_ble_eq_true rfl) (f_lim_le m)) rfl
theorem o_148_0 {m : Nat} {s : fS} (S : sS m s) : s.o 148 0 = some 149 := S.o 148 0 149 (Nat.lt_of_lt_of_le (Nat.le_of_ble_eq_true rfl) (f_lim_le m)) rfl
theorem o_149_0 {m : Nat} {s : fS} (S : sS m s) : s.o 149 0 = some 150 := S.o 149 0 150 (Nat.lt_of_lt_of_le (Nat.le_of_ble_eq_true rfl) (f_lim_le m)) rfl
theorem o_151_0 {m : Nat} {s : fS} (S : sS m s) : s.o 151 0 = some 152 := S.o 151 0 152 (Nat.lt_of_lt_of_le (Nat.le_of_ble_eq_true rfl) (f_lim_le m)) rfl
theorem o_153_0 {m : Nat} {s : fS} (S : sS m s) : s.o 153 0 = some 6 := S.o 153 0 6 (Nat.lt_of_lt_of_le (Nat.le_of_ble_eq_true rfl) (f_lim_le m)) rfl
theorem o_153_1 {m : Nat} {s : fS} (S : sS m s) : s.o 153 1 = some 154 := S.o 153 1 154 (Nat.lt_of_lt_of_le (Nat.le_of_ble_eq_true rfl) (f_lim_le m)) rfl
theorem o_153_2 {m : Nat} {s : fS} (S : sS m s) : s.o 153 2 = some 156 := S.o 153 2 156 (Nat.lt_of_lt_of_le (Nat.le_of_ble_eq_true rfl) (f_lim_le m)) rfl
theorem o_153_3 {m : Nat} {s : fS} (S : sS m s) : s.o 153 3 = some 157 := S.o 153 3 157 (Nat.lt_of_lt_of_le (Nat.le_of_ble_eq_true rfl) (f_lim_le m)) rfl
theorem o_153_4 {m : Nat} {s : fS} (S : sS m s) : s.o 153 4 = some 158 := S.o 153 4 158 (Nat.lt_of_lt_of_le (Nat.le_of_ble_eq_true rfl) (f_lim_le m)) rfl
theorem o_153_5 {m : Nat} {s : fS} (S : sS m s) : s.o 153 5 = some 159 := S.o 153 5 159 (Nat.lt_of_lt_of_le (Nat.le_of_ble_eq_true rfl) (f_lim_le m)) rfl
theorem o_153_6 {m : Nat} {s : fS} (S : sS m s) : s.o 153 6 = some 160 := S.o 153 6 160 (Nat.lt_of_lt_of_le (Nat.le_of_ble_eq_true rfl) (f_lim_le m)) rfl
theorem o_153_7 {m : Nat} {s : fS} (S : sS m s) : s.o 153 7 = some 161 := S.o 153 7 161 (Nat.lt_of_lt_of_le (Nat.le_of_ble_eq_true rfl) (f_lim_le m)) rfl
theorem o_153_9 {m : Nat} {s : fS} (S : sS m s) : s.o 153 9 = some 162 := S.o 153 9 162 (Nat.lt_of_lt_of_le (Nat.le_of_ble_eq_true rfl) (f_lim_le m)) rfl
theorem o_153_10 {m : Nat} {s : fS} (S : sS m s) : s.o 153 10 = some 166 := S.o 153 10 166 (Nat.lt_of_lt_of_le (Nat.le_of_ble_eq_true rfl) (f_lim_le m)) rfl
theorem o_154_0 {m : Nat} {s : fS} (S : sS m s) : s.o 154 0 = some 155 := S.o 154 0 155 (Nat.lt_of_lt_of_le (Nat.le_of_ble_eq_true rfl) (f_lim_le m)) rfl
theorem o_162_2 {m : Nat} {s : fS} (S : sS m s) : s.o 162 2 = some 163 := S.o 162 2 163 (Nat.lt_of_lt_of_le (Nat.le_of_ble_eq_true rfl) (f_lim_le m)) rfl
theorem o_162_3 {m : Nat} {s : fS} (S : sS m s) : s.o 162 3 = some 164 := S.o 162 3 164 (Nat.lt_of_lt_of_le (Nat.le_of_ble_eq_true rfl) (f_lim_le m)) rfl
theorem o_162_8 {m : Nat} {s : fS} (S : sS m s) : s.o 162 8 = some 165 := S.o 162 8 165 (Nat.lt_of_lt_of_le (Nat.le_of_ble_eq_true rfl) (f_lim_le m)) rfl
theorem o_166_2 {m : Nat} {s : fS} (S : sS m s) : s.o 166 2 = some 167 := S.o 166 2 167 (Nat.lt_of_lt_of_le (Nat.le_of_ble_eq_true rfl) (f_lim_le m)) rfl
theorem o_166_3 {m : Nat} {s : fS} (S : sS m s) : s.o 166 3 = some 168 := S.o 166 3 168 (Nat.lt_of_lt_of_le (Nat.le_of_ble_eq_true rfl) (f_lim_le m)) rfl
theorem o_166_8 {m : Nat} {s : fS} (S : sS m s) : s.o 166 8 = some 169 := S.o 166 8 169 (Nat.lt_of_lt_of_le (Nat.le_of_ble_eq_true rfl) (f_lim_le m)) rfl
theorem o_170_0 {m : Nat} {s : fS} (S : sS m s) : s.o 170 0 = some 171 := S.o 170 0 171 (Nat.lt_of_lt_of_le (Nat.le_of_ble_eq_true rfl) (f_lim_le m)) rfl
theorem o_172_0 {m : Nat} {s : fS} (S : sS m s) : s.o 172 0 = some 173 := S.o 172 0 173 (Nat.lt_of_lt_of_le (Nat.le_of_ble_eq_true rfl) (f_lim_le m)) rfl
theorem o_174_0 {m : Nat} {s : fS} (S : sS m s) : s.o 174 0 = some 175 := S.o 174 0 175 (Nat.lt_of_lt_of_le (Nat.le_of_ble_eq_true rfl) (f_lim_le m)) rfl
theorem o_186_0 {m : Nat} {s : fS} (S : sS m s) : s.o 186 0 = some 187 := S.o 186 0 187 (Nat.lt_of_lt_of_le (Nat.le_of_ble_eq_true rfl) (f_lim_le m)) rfl
theorem o_188_0 {m : Nat} {s : fS} (S : sS m s) : s.o 188 0 = some 189 := S.o 188 0 189 (Nat.lt_of_lt_of_le (Nat.le_of_ble_eq_true rfl) (f_lim_le m)) rfl
theorem o_192_2 {m : Nat} {s : fS} (hm : 1 ≤ m) (S : sS m s) : s.o 192 2 = some 193 := S.o 192 2 193 (Nat.lt_of_lt_of_le (Nat.le_of_ble_eq_true rfl) (f_lim_1 hm)) rfl
theorem o_192_4 {m : Nat} {s : fS} (hm : 1 ≤ m) (S : sS m s) : s.o 192 4 = some 194 := S.o 192 4 194 (Nat.lt_of_lt_of_le (Nat.le_of_ble_eq_true rfl) (f_lim_1 hm)) rfl
theorem o_192_5 {m : Nat} {s : fS} (hm : 1 ≤ m) (S : sS m s) : s.o 192 5 = some 195 := S.o 192 5 195 (Nat.lt_of_lt_of_le (Nat.le_of_ble_eq_true rfl) (f_lim_1 hm)) rfl
theorem o_192_6 {m : Nat} {s : fS} (hm : 1 ≤ m) (S : sS m s) : s.o 192 6 = some 213 := S.o 192 6 213 (Nat.lt_of_lt_of_le (Nat.le_of_ble_eq_true rfl) (f_lim_1 hm)) rfl
theorem o_192_7 {m : Nat} {s : fS} (hm : 1 ≤ m) (S : sS m s) : s.o 192 7 = some 243 := S.o 192 7 243 (Nat.lt_of_lt_of_le (Nat.le_of_ble_eq_true rfl) (f_lim_1 hm)) rfl
theorem o_192_11 {m : Nat} {s : fS} (hm : 1 ≤ m) (S : sS m s) : s.o 192 11 = some 260 := S.o 192 11 260 (Nat.lt_of_lt_of_le (Nat.le_of_ble_eq_true rfl) (f_lim_1 hm)) rfl
theorem o_192_16 {m : Nat} {s : fS} (hm : 1 ≤ m) (S : sS m s) : s.o 192 16 = some 261 := S.o 192 16 261 (Nat.lt_of_lt_of_le (Nat.le_of_ble_eq_true rfl) (f_lim_1 hm)) rfl
theorem o_192_17 {m : Nat} {s : fS} (hm : 1 ≤ m) (S : sS m s) : s.o 192 17 = some 262 := S.o 192 17 262 (Nat.lt_of_lt_of_le (Nat.le_of_ble_eq_true rfl) (f_lim_1 hm)) rfl
theorem o_192_18 {m : Nat} {s : fS} (hm : 1 ≤ m) (S : sS m s) : s.o 192 18 = some 263 := S.o 192 18 263 (Nat.lt_of_lt_of_le (Nat.le_of_ble_eq_true rfl) (f_lim_1 hm)) rfl
theorem o_192_20 {m : Nat} {s : fS} (hm : 1 ≤ m) (S : sS m s) : s.o 192 20 = some 264 := S.o 192 20 264 (Nat.lt_of_lt_of_le (Nat.le_of_ble_eq_true rfl) (f_lim_1 hm)) rfl
theorem o_192_22 {m : Nat} {s : fS} (hm : 1 ≤ m) (S : sS m s) : s.o 192 22 = some 265 := S.o 192 22 265 (Nat.lt_of_lt_of_le (Nat.le_of_ble_eq_true rfl) (f_lim_1 hm)) rfl
theorem o_192_23 {m : Nat} {s : fS} (hm : 1 ≤ m) (S : sS m s) : s.o 192 23 = some 266 := S.o 192 23 266 (Nat.lt_of_lt_of_le (Nat.le_of_ble_eq_true rfl) (f_lim_1 hm)) rfl
theorem o_192_24 {m : Nat} {s : fS} (hm : 1 ≤ m) (S : sS m s) : s.o 192 24 = some 267 := S.o 192 24 267 (Nat.lt_of_lt_of_le (Nat.le_of_ble_eq_true rfl) (f_lim_1 hm)) rfl
theorem o_192_25 {m : Nat} {s : fS} (hm : 1 ≤ m) (S : sS m s) : s.o 192 25 = some 268 := S.o 192 25 268 (Nat.lt_of_lt_of_le (Nat.le_of_ble_eq_true rfl) (f_lim_1 hm)) rfl
theorem o_192_26 {m : Nat} {s : fS} (hm : 1 ≤ m) (S : sS m s) : s.o 192 26 = some 269 := S.o 192 26 269 (Nat.lt_of_lt_of_le (Nat.le_of_ble_eq_true rfl) (f_lim_1 hm)) rfl
theorem o_192_27 {m : Nat} {s : fS} (hm : 1 ≤ m) (S : sS m s) : s.o 192 27 = some 270 := S.o 192 27 270 (Nat.lt_of_lt_of_le (Nat.le_of_ble_eq_true rfl) (f_lim_1 hm)) rfl
theorem o_192_28 {m : Nat} {s : fS} (hm : 1 ≤ m) (S : sS m s) : s.o 192 28 = some 271 := S.o 192 28 271 (Nat.lt_of_lt_of_le (Nat.le_of_ble_eq_true rfl) (f_lim_1 hm)) rfl
theorem o_192_29 {m : Nat} {s : fS} (hm : 1 ≤ m) (S : sS m s) : s.o 192 29 = some 272 := S.o 192 29 272 (Nat.lt_of_lt_of_le (Nat.le_of_ble_eq_true rfl) (f_lim_1 hm)) rfl
theorem o_192_31 {m : Nat} {s : fS} (hm : 1 ≤ m) (S : sS m s) : s.o 192 31 = some 273 := S.o 192 31 273 (Nat.lt_of_lt_of_le (Nat.le_of_ble_eq_true rfl) (f_lim_1 hm)) rfl
theorem o_192_32 {m : Nat} {s : fS} (hm : 1 ≤ m) (S : sS m s) : s.o 192 32 = some 274 := S.o 192 32 274 (Nat.lt_of_lt_of_le (Nat.le_of_ble_eq_true rfl) (f_lim_1 hm)) rfl
theorem o_192_33 {m : Nat} {s : fS} (hm : 1 ≤ m) (S : sS m s) : s.o 192 33 = some 275 := S.o 192 33 275 (Nat.lt_of_lt_of_le (Nat.le_of_ble_eq_true rfl) (f_lim_1 hm)) rfl
theorem o_192_34 {m : Nat} {s : fS} (hm : 1 ≤ m) (S : sS m s) : s.o 192 34 = some 276 := S.o 192 34 276 (Nat.lt_of_lt_of_le (Nat.le_of_ble_eq_true rfl) (f_lim_1 hm)) rfl
theorem o_192_36 {m : Nat} {s : fS} (hm : 1 ≤ m) (S : sS m s) : s.o 192 36 = some 277 := S.o 192 36 277 (Nat.lt_of_lt_of_le (Nat.le_of_ble_eq_true rfl) (f_lim_1 hm)) rfl
theorem o_192_38 {m : Nat} {s : fS} (hm : 1 ≤ m) (S : sS m s) : s.o 192 38 = some 278 := S.o 192 38 278 (Nat.lt_of_lt_of_le (Nat.le_of_ble_eq_true rfl) (f_lim_1 hm)) rfl
theorem o_192_39 {m : Nat} {s : fS} (hm : 1 ≤ m) (S : sS m s) : s.o 192 39 = some 279 := S.o 192 39 279 (Nat.lt_of_lt_of_le (Nat.le_of_ble_eq_true rfl) (f_lim_1 hm)) rfl
theorem o_192_40 {m : Nat} {s : fS} (hm : 1 ≤ m) (S : sS m s) : s.o 192 40 = some 280 := S.o 192 40 280 (Nat.lt_of_lt_of_le (Nat.le_of_ble_eq_true rfl) (f_lim_1 hm)) rfl
theorem o_192_42 {m : Nat} {s : fS} (hm : 1 ≤ m) (S : sS m s) : s.o 192 42 = some 281 := S.o 192 42 281 (Nat.lt_of_lt_of_le (Nat.le_of_ble_eq_true rfl) (f_lim_1 hm)) rfl
theorem o_192_43 {m : Nat} {s : fS} (hm : 1 ≤ m) (S : sS m s) : s.o 192 43 = some 282 := S.o 192 43 282 (Nat.lt_of_lt_of_le (Nat.le_of_ble_eq_true rfl) (f_lim_1 hm)) rfl
theorem o_192_49 {m : Nat} {s : fS} (hm : 1 ≤ m) (S : sS m s) : s.o 192 49 = some 283 := S.o 192 49 283 (Nat.lt_of_lt_of_le (Nat.le_of_ble_eq_true rfl) (f_lim_1 hm)) rfl
theorem o_192_50 {m : Nat} {s : fS} (hm : 1 ≤ m) (S : sS m s) : s.o 192 50 = some 284 := S.o 192 50 284 (Nat.lt_of_lt_of_le (Nat.le_of_ble_eq_true rfl) (f_lim_1 hm)) rfl
theorem o_192_52 {m : Nat} {s : fS} (hm : 1 ≤ m) (S : sS m s) : s.o 192 52 = some 285 := S.o 192 52 285 (Nat.lt_of_lt_of_le (Nat.le_of_ble_eq_true rfl) (f_lim_1 hm)) rfl
theorem o_192_53 {m : Nat} {s : fS} (hm : 1 ≤ m) (S : sS m s) : s.o 192 53 = some 286 := S.o 192 53 286 (Nat.lt_of_lt_of_le (Nat.le_of_ble_eq_true rfl) (f_lim_1 hm)) rfl
theorem o_192_54 {m : Nat} {s : fS} (hm : 1 ≤ m) (S : sS m s) : s.o 192 54 = some 287 := S.o 192 54 287 (Nat.lt_of_lt_of_le (Nat.le_of_ble_eq_true rfl) (f_lim_1 hm)) rfl
theorem o_192_55 {m : Nat} {s : fS} (hm : 1 ≤ m) (S : sS m s) : s.o 192 55 = some 1000288 := S.o 192 55 1000288 (Nat.lt_of_lt_of_le (Nat.le_of_ble_eq_true rfl) (f_lim_1 hm)) rfl
theorem o_192_59 {m : Nat} {s : fS} (hm : 1 ≤ m) (S : sS m s) : s.o 192 59 = some 289 := S.o 192 59 289 (Nat.lt_of_lt_of_le (Nat.le_of_ble_eq_true rfl) (f_lim_1 hm)) rfl
theorem o_192_60 {m : Nat} {s : fS} (hm : 1 ≤ m) (S : sS m s) : s.o 192 60 = some 290 := S.o 192 60 290 (Nat.lt_of_lt_of_le (Nat.le_of_ble_eq_true rfl) (f_lim_1 hm)) rfl
theorem o_192_61 {m : Nat} {s : fS} (hm : 1 ≤ m) (S : sS m s) : s.o 192 61 = some 291 := S.o 192 61 291 (Nat.lt_of_lt_of_le (Nat.le_of_ble_eq_true rfl) (f_lim_1 hm)) rfl
theorem o_192_63 {m : Nat} {s : fS} (hm : 1 ≤ m) (S : sS m s) : s.o 192 63 = some 292 := S.o 192 63 292 (Nat.lt_of_lt_of_le (Nat.le_of_ble_eq_true rfl) (f_lim_1 hm)) rfl
theorem o_192_66 {m : Nat} {s : fS} (hm : 1 ≤ m) (S : sS m s) : s.o 192 66 = some 293 := S.o 192 66 293 (Nat.lt_of_lt_of_le (Nat.le_of_ble_eq_true rfl) (f_lim_1 hm)) rfl
theorem o_192_67 {m : Nat} {s : fS} (hm : 1 ≤ m) (S : sS m s) : s.o 192 67 = some 294 := S.o 192 67 294 (Nat.lt_of_lt_of_le (Nat.le_of_ble_eq_true rfl) (f_lim_1 hm)) rfl
theorem o_192_68 {m : Nat} {s : fS} (hm : 1 ≤ m) (S : sS m s) : s.o 192 68 = some 295 := S.o 192 68 295 (Nat.lt_of_lt_of_le (Nat.le_of_ble_eq_true rfl) (f_lim_1 hm)) rfl
theorem o_192_69 {m : Nat} {s : fS} (hm : 1 ≤ m) (S : sS m s) : s.o 192 69 = some 296 := S.o 192 69 296 (Nat.lt_of_lt_of_le (Nat.le_of_ble_eq_true rfl) (f_lim_1 hm)) rfl
theorem o_192_70 {m : Nat} {s : fS} (hm : 1 ≤ m) (S : sS m s) : s.o 192 70 = some 297 := S.o 192 70 297 (Nat.lt_of_lt_of_le (Nat.le_of_ble_eq_true rfl) (f_lim_1 hm)) rfl
theorem o_192_71 {m : Nat} {s : fS} (hm : 1 ≤ m) (S : sS m s) : s.o 192 71 = some 298 := S.o 192 71 298 (Nat.lt_of_lt_of_le (Nat.le_of_ble_eq_true rfl) (f_lim_1 hm)) rfl
theorem o_192_72 {m : Nat} {s : fS} (hm : 1 ≤ m) (S : sS m s) : s.o 192 72 = some 299 := S.o 192 72 299 (Nat.lt_of_lt_of_le (Nat.le_of_ble_eq_true rfl) (f_lim_1 hm)) rfl
theorem o_192_73 {m : Nat} {s : fS} (hm : 1 ≤ m) (S : sS m s) : s.o 192 73 = some 300 := S.o 192 73 300 (Nat.lt_of_lt_of_le (Nat.le_of_ble_eq_true rfl) (f_lim_1 hm)) rfl
theorem o_192_74 {m : Nat} {s : fS} (hm : 1 ≤ m) (S : sS m s) : s.o 192 74 = some 301 := S.o 192 74 301 (Nat.lt_of_lt_of_le (Nat.le_of_ble_eq_true rfl) (f_lim_1 hm)) rfl
theorem o_192_75 {m : Nat} {s : fS} (hm : 1 ≤ m) (S : sS m s) : s.o 192 75 = some 302 := S.o 192 75 302 (Nat.lt_of_lt_of_le (Nat.le_of_ble_eq_true rfl) (f_lim_1 hm)) rfl
theorem o_192_76 {m : Nat} {s : fS} (hm : 1 ≤ m) (S : sS m s) : s.o 192 76 = some 303 := S.o 192 76 303 (Nat.lt_of_lt_of_le (Nat.le_of_ble_eq_true rfl) (f_lim_1 hm)) rfl
theorem o_192_77 {m : Nat} {s : fS} (hm : 1 ≤ m) (S : sS m s) : s.o 192 77 = some 304 := S.o 192 77 304 (Nat.lt_of_lt_of_le (Nat.le_of_ble_eq_true rfl) (f_lim_1 hm)) rfl
theorem o_192_83 {m : Nat} {s : fS} (hm : 1 ≤ m) (S : sS m s) : s.o 192 83 = some 305 := S.o 192 83 305 (Nat.lt_of_lt_of_le (Nat.le_of_ble_eq_true rfl) (f_lim_1 hm)) rfl
theorem o_192_84 {m : Nat} {s : fS} (hm : 1 ≤ m) (S : sS m s) : s.o 192 84 = some 306 := S.o 192 84 306 (Nat.lt_of_lt_of_le (Nat.le_of_ble_eq_true rfl) (f_lim_1 hm)) rfl
theorem o_192_87 {m : Nat} {s : fS} (hm : 1 ≤ m) (S : sS m s) : s.o 192 87 = some 307 := S.o 192 87 307 (Nat.lt_of_lt_of_le (Nat.le_of_ble_eq_true rfl) (f_lim_1 hm)) rfl
theorem o_192_88 {m : Nat} {s : fS} (hm : 1 ≤ m) (S : sS m s) : s.o 192 88 = some 308 := S.o 192 88 308 (Nat.lt_of_lt_of_le (Nat.le_of_ble_eq_true rfl) (f_lim_1 hm)) rfl
theorem o_192_89 {m : Nat} {s : fS} (hm : 1 ≤ m) (S : sS m s) : s.o 192 89 = some 309 := S.o 192 89 309 (Nat.lt_of_lt_of_le (Nat.le_of_ble_eq_true rfl) (f_lim_1 hm)) rfl
theorem o_192_90 {m : Nat} {s : fS} (hm : 1 ≤ m) (S : sS m s) : s.o 192 90 = some 310 := S.o 192 90 310 (Nat.lt_of_lt_of_le (Nat.le_of_ble_eq_true rfl) (f_lim_1 hm)) rfl
theorem o_192_91 {m : Nat} {s : fS} (hm : 1 ≤ m) (S : sS m s) : s.o 192 91 = some 311 := S.o 192 91 311 (Nat.lt_of_lt_of_le (Nat.le_of_ble_eq_true rfl) (f_lim_1 hm)) rfl
theorem o_192_92 {m : Nat} {s : fS} (hm : 1 ≤ m) (S : sS m s) : s.o 192 92 = some 312 := S.o 192 92 312 (Nat.lt_of_lt_of_le (Nat.le_of_ble_eq_true rfl) (f_lim_1 hm)) rfl
theorem o_192_93 {m : Nat} {s : fS} (hm : 1 ≤ m) (S : sS m s) : s.o 192 93 = some 313 := S.o 192 93 313 (Nat.lt_of_lt_of_le (Nat.le_of_ble_eq_true rfl) (f_lim_1 hm)) rfl
theorem o_192_103 {m : Nat} {s : fS} (hm : 1 ≤ m) (S : sS m s) : s.o 192 103 = some 314 := S.o 192 103 314 (Nat.lt_of_lt_of_le (Nat.le_of_ble_eq_true rfl) (f_lim_1 hm)) rfl
theorem o_192_104 {m : Nat} {s : fS} (hm : 1 ≤ m) (S : sS m s) : s.o 192 104 = some 315 := S.o 192 104 315 (Nat.lt_of_lt_of_le (Nat.le_of_ble_eq_true rfl) (f_lim_1 hm)) rfl
theorem o_192_105 {m : Nat} {s : fS} (hm : 1 ≤ m) (S : sS m s) : s.o 192 105 = some 316 := S.o 192 105 316 (Nat.lt_of_lt_of_le (Nat.le_of_ble_eq_true rfl) (f_lim_1 hm)) rfl
theorem o_192_106 {m : Nat} {s : fS} (hm : 1 ≤ m) (S : sS m s) : s.o 192 106 = some 317 := S.o 192 106 317 (Nat.lt_of_lt_of_le (Nat.le_of_ble_eq_true rfl) (f_lim_1 hm)) rfl
theorem o_192_107 {m : Nat} {s : fS} (hm : 1 ≤ m) (S : sS m s) : s.o 192 107 = some 318 := S.o 192 107 318 (Nat.lt_of_lt_of_le (Nat.le_of_ble_eq_true rfl) (f_lim_1 hm)) rfl
theorem o_192_108 {m : Nat} {s : fS} (hm : 1 ≤ m) (S : sS m s) : s.o 192 108 = some 319 := S.o 192 108 319 (Nat.lt_of_lt_of_le (Nat.le_of_ble_eq_true rfl) (f_lim_1 hm)) rfl
theorem o_192_109 {m : Nat} {s : fS} (hm : 1 ≤ m) (S : sS m s) : s.o 192 109 = some 320 := S.o 192 109 320 (Nat.lt_of_lt_of_le (Nat.le_of_ble_eq_true rfl) (f_lim_1 hm)) rfl
theorem o_192_123 {m : Nat} {s : fS} (hm : 1 ≤ m) (S : sS m s) : s.o 192 123 = some 321 := S.o 192 123 321 (Nat.lt_of_lt_of_le (Nat.le_of_ble_eq_true rfl) (f_lim_1 hm)) rfl
theorem o_192_125 {m : Nat} {s : fS} (hm : 1 ≤ m) (S : sS m s) : s.o 192 125 = some 322 := S.o 192 125 322 (Nat.lt_of_lt_of_le (Nat.le_of_ble_eq_true rfl) (f_lim_1 hm)) rfl
theorem o_192_126 {m : Nat} {s : fS} (hm : 1 ≤ m) (S : sS m s) : s.o 192 126 = some 323 := S.o 192 126 323 (Nat.lt_of_lt_of_le (Nat.le_of_ble_eq_true rfl) (f_lim_1 hm)) rfl
theorem o_192_127 {m : Nat} {s : fS} (hm : 1 ≤ m) (S : sS m s) : s.o 192 127 = some 324 := S.o 192 127 324 (Nat.lt_of_lt_of_le (Nat.le_of_ble_eq_true rfl) (f_lim_1 hm)) rfl
theorem o_195_0 {m : Nat} {s : fS} (hm : 1 ≤ m) (S : sS m s) : s.o 195 0 = some 196 := S.o 195 0 196 (Nat.lt_of_lt_of_le (Nat.le_of_ble_eq_true rfl) (f_lim_1 hm)) rfl
theorem o_195_4 {m : Nat} {s : fS} (hm : 1 ≤ m) (S : sS m s) : s.o 195 4 = some 197 := S.o 195 4 197 (Nat.lt_of_lt_of_le (Nat.le_of_ble_eq_true rfl) (f_lim_1 hm)) rfl
theorem o_195_6 {m : Nat} {s : fS} (hm : 1 ≤ m) (S : sS m s) : s.o 195 6 = some 198 := S.o 195 6 198 (Nat.lt_of_lt_of_le (Nat.le_of_ble_eq_true rfl) (f_lim_1 hm)) rfl
theorem o_195_7 {m : Nat} {s : fS} (hm : 1 ≤ m) (S : sS m s) : s.o 195 7 = some 199 := S.o 195 7 199 (Nat.lt_of_lt_of_le (Nat.le_of_ble_eq_true rfl) (f_lim_1 hm)) rfl
theorem o_195_8 {m : Nat} {s : fS} (hm : 1 ≤ m) (S : sS m s) : s.o 195 8 = some 200 := S.o 195 8 200 (Nat.lt_of_lt_of_le (Nat.le_of_ble_eq_true rfl) (f_lim_1 hm)) rfl
theorem o_195_9 {m : Nat} {s : fS} (hm : 1 ≤ m) (S : sS m s) : s.o 195 9 = some 201 := S.o 195 9 201 (Nat.lt_of_lt_of_le (Nat.le_of_ble_eq_true rfl) (f_lim_1 hm)) rfl
theorem o_195_10 {m : Nat} {s : fS} (hm : 1 ≤ m) (S : sS m s) : s.o 195 10 = some 202 := S.o 195 10 202 (Nat.lt_of_lt_of_le (Nat.le_of_ble_eq_true rfl) (f_lim_1 hm)) rfl
theorem o_195_11 {m : Nat} {s : fS} (hm : 1 ≤ m) (S : sS m s) : s.o 195 11 = some 203 := S.o 195 11 203 (Nat.lt_of_lt_of_le (Nat.le_of_ble_eq_true rfl) (f_lim_1 hm)) rfl
theorem o_195_13 {m : Nat} {s : fS} (hm : 1 ≤ m) (S : sS m s) : s.o 195 13 = some 204 := S.o 195 13 204 (Nat.lt_of_lt_of_le (Nat.le_of_ble_eq_true rfl) (f_lim_1 hm)) rfl
theorem o_195_14 {m : Nat} {s : fS} (hm : 1 ≤ m) (S : sS m s) : s.o 195 14 = some 205 := S.o 195 14 205 (Nat.lt_of_lt_of_le (Nat.le_of_ble_eq_true rfl) (f_lim_1 hm)) rfl
theorem o_195_15 {m : Nat} {s : fS} (hm : 1 ≤ m) (S : sS m s) : s.o 195 15 = some 206 := S.o 195 15 206 (Nat.lt_of_lt_of_le (Nat.le_of_ble_eq_true rfl) (f_lim_1 hm)) rfl
theorem o_195_20 {m : Nat} {s : fS} (hm : 1 ≤ m) (S : sS m s) : s.o 195 20 = some 207 := S.o 195 20 207 (Nat.lt_of_lt_of_le (Nat.le_of_ble_eq_true rfl) (f_lim_1 hm)) rfl
theorem o_195_21 {m : Nat} {s : fS} (hm : 1 ≤ m) (S : sS m s) : s.o 195 21 = some 208 := S.o 195 21 208 (Nat.lt_of_lt_of_le (Nat.le_of_ble_eq_true rfl) (f_lim_1 hm)) rfl
theorem o_195_22 {m : Nat} {s : fS} (hm : 1 ≤ m) (S : sS m s) : s.o 195 22 = some 209 := S.o 195 22 209 (Nat.lt_of_lt_of_le (Nat.le_of_ble_eq_true rfl) (f_lim_1 hm)) rfl
theorem o_195_24 {m : Nat} {s : fS} (hm : 1 ≤ m) (S : sS m s) : s.o 195 24 = some 210 := S.o 195 24 210 (Nat.lt_of_lt_of_le (Nat.le_of_ble_eq_true rfl) (f_lim_1 hm)) rfl
theorem o_195_25 {m : Nat} {s : fS} (hm : 1 ≤ m) (S : sS m s) : s.o 195 25 = some 211 := S.o 195 25 211 (Nat.lt_of_lt_of_le (Nat.le_of_ble_eq_true rfl) (f_lim_1 hm)) rfl
theorem o_195_27 {m : Nat} {s : fS} (hm : 1 ≤ m) (S : sS m s) : s.o 195 27 = some 212 := S.o 195 27 212 (Nat.lt_of_lt_of_le (Nat.le_of_ble_eq_true rfl) (f_lim_1 hm)) rfl
theorem o_213_2 {m : Nat} {s : fS} (hm : 1 ≤ m) (S : sS m s) : s.o 213 2 = some 214 := S.o 213 2 214 (Nat.lt_of_lt_of_le (Nat.le_of_ble_eq_true rfl) (f_lim_1 hm)) rfl
theorem o_213_3 {m : Nat} {s : fS} (hm : 1 ≤ m) (S : sS m s) : s.o 213 3 = some 215 := S.o 213 3 215 (Nat.lt_of_lt_of_le (Nat.le_of_ble_eq_true rfl) (f_lim_1 hm)) rfl
theorem o_213_4 {m : Nat} {s : fS} (hm : 1 ≤ m) (S : sS m s) : s.o 213 4 = some 216 := S.o 213 4 216 (Nat.lt_of_lt_of_le (Nat.le_of_ble_eq_true rfl) (f_lim_1 hm)) rfl
theorem o_213_5 {m : Nat} {s : fS} (hm : 1 ≤ m) (S : sS m s) : s.o 213 5 = some 217 := S.o 213 5 217 (Nat.lt_of_lt_of_le (Nat.le_of_ble_eq_true rfl) (f_lim_1 hm)) rfl
theorem o_213_6 {m : Nat} {s : fS} (hm : 1 ≤ m) (S : sS m s) : s.o 213 6 = some 218 := S.o 213 6 218 (Nat.lt_of_lt_of_le (Nat.le_of_ble_eq_true rfl) (f_lim_1 hm)) rfl
theorem o_213_7 {m : Nat} {s : fS} (hm : 1 ≤ m) (S : sS m s) : s.o 213 7 = some 219 := S.o 213 7 219 (Nat.lt_of_lt_of_le (Nat.le_of_ble_eq_true rfl) (f_lim_1 hm)) rfl
theorem o_213_8 {m : Nat} {s : fS} (hm : 1 ≤ m) (S : sS m s) : s.o 213 8 = some 220 := S.o 213 8 220 (Nat.lt_of_lt_of_le (Nat.le_of_ble_eq_true rfl) (f_lim_1 hm)) rfl
theorem o_213_9 {m : Nat} {s : fS} (hm : 1 ≤ m) (S : sS m s) : s.o 213 9 = some 221 := S.o 213 9 221 (Nat.lt_of_lt_of_le (Nat.le_of_ble_eq_true rfl) (f_lim_1 hm)) rfl
theorem o_213_10 {m : Nat} {s : fS} (hm : 1 ≤ m) (S : sS m s) : s.o 213 10 = some 222 := S.o 213 10 222 (Nat.lt_of_lt_of_le (Nat.le_of_ble_eq_true rfl) (f_lim_1 hm)) rfl
theorem o_213_12 {m : Nat} {s : fS} (hm : 1 ≤ m) (S : sS m s) : s.o 213 12 = some 223 := S.o 213 12 223 (Nat.lt_of_lt_of_le (Nat.le_of_ble_eq_true rfl) (f_lim_1 hm)) rfl
theorem o_213_13 {m : Nat} {s : fS} (hm : 1 ≤ m) (S : sS m s) : s.o 213 13 = some 224 := S.o 213 13 224 (Nat.lt_of_lt_of_le (Nat.le_of_ble_eq_true rfl) (f_lim_1 hm)) rfl
theorem o_213_14 {m : Nat} {s : fS} (hm : 1 ≤ m) (S : sS m s) : s.o 213 14 = some 225 := S.o 213 14 225 (Nat.lt_of_lt_of_le (Nat.le_of_ble_eq_true rfl) (f_lim_1 hm)) rfl
theorem o_213_15 {m : Nat} {s : fS} (hm : 1 ≤ m) (S : sS m s) : s.o 213 15 = some 226 := S.o 213 15 226 (Nat.lt_of_lt_of_le (Nat.le_of_ble_eq_true rfl) (f_lim_1 hm)) rfl
theorem o_213_23 {m : Nat} {s : fS} (hm : 1 ≤ m) (S : sS m s) : s.o 213 23 = some 227 := S.o 213 23 227 (Nat.lt_of_lt_of_le (Nat.le_of_ble_eq_true rfl) (f_lim_1 hm)) rfl
theorem o_213_24 {m : Nat} {s : fS} (hm : 1 ≤ m) (S : sS m s) : s.o 213 24 = some 228 := S.o 213 24 228 (Nat.lt_of_lt_of_le (Nat.le_of_ble_eq_true rfl) (f_lim_1 hm)) rfl
theorem o_213_25 {m : Nat} {s : fS} (hm : 1 ≤ m) (S : sS m s) : s.o 213 25 = some 229 := S.o 213 25 229 (Nat.lt_of_lt_of_le (Nat.le_of_ble_eq_true rfl) (f_lim_1 hm)) rfl
theorem o_213_26 {m : Nat} {s : fS} (hm : 1 ≤ m) (S : sS m s) : s.o 213 26 = some 230 := S.o 213 26 230 (Nat.lt_of_lt_of_le (Nat.le_of_ble_eq_true rfl) (f_lim_1 hm)) rfl
theorem o_213_27 {m : Nat} {s : fS} (hm : 1 ≤ m) (S : sS m s) : s.o 213 27 = some 231 := S.o 213 27 231 (Nat.lt_of_lt_of_le (Nat.le_of_ble_eq_true rfl) (f_lim_1 hm)) rfl
theorem o_213_28 {m : Nat} {s : fS} (hm : 1 ≤ m) (S : sS m s) : s.o 213 28 = some 232 := S.o 213 28 232 (Nat.lt_of_lt_of_le (Nat.le_of_ble_eq_true rfl) (f_lim_1 hm)) rfl
theorem o_213_31 {m : Nat} {s : fS} (hm : 1 ≤ m) (S : sS m s) : s.o 213 31 = some 233 := S.o 213 31 233 (Nat.lt_of_lt_of_le (Nat.le_of_ble_eq_true rfl) (f_lim_1 hm)) rfl
theorem o_213_39 {m : Nat} {s : fS} (hm : 1 ≤ m) (S : sS m s) : s.o 213 39 = some 234 := S.o 213 39 234 (Nat.lt_of_lt_of_le (Nat.le_of_ble_eq_true rfl) (f_lim_1 hm)) rfl
theorem o_213_40 {m : Nat} {s : fS} (hm : 1 ≤ m) (S : sS m s) : s.o 213 40 = some 235 := S.o 213 40 235 (Nat.lt_of_lt_of_le (Nat.le_of_ble_eq_true rfl) (f_lim_1 hm)) rfl
theorem o_213_41 {m : Nat} {s : fS} (hm : 1 ≤ m) (S : sS m s) : s.o 213 41 = some 236 := S.o 213 41 236 (Nat.lt_of_lt_of_le (Nat.le_of_ble_eq_true rfl) (f_lim_1 hm)) rfl
theorem o_213_42 {m : Nat} {s : fS} (hm : 1 ≤ m) (S : sS m s) : s.o 213 42 = some 237 := S.o 213 42 237 (Nat.lt_of_lt_of_le (Nat.le_of_ble_eq_true rfl) (f_lim_1 hm)) rfl
theorem o_213_43 {m : Nat} {s : fS} (hm : 1 ≤ m) (S : sS m s) : s.o 213 43 = some 238 := S.o 213 43 238 (Nat.lt_of_lt_of_le (Nat.le_of_ble_eq_true rfl) (f_lim_1 hm)) rfl
theorem o_213_44 {m : Nat} {s : fS} (hm : 1 ≤ m) (S : sS m s) : s.o 213 44 = some 239 := S.o 213 44 239 (Nat.lt_of_lt_of_le (Nat.le_of_ble_eq_true rfl) (f_lim_1 hm)) rfl
theorem o_213_45 {m : Nat} {s : fS} (hm : 1 ≤ m) (S : sS m s) : s.o 213 45 = some 240 := S.o 213 45 240 (Nat.lt_of_lt_of_le (Nat.le_of_ble_eq_true rfl) (f_lim_1 hm)) rfl
theorem o_213_46 {m : Nat} {s : fS} (hm : 1 ≤ m) (S : sS m s) : s.o 213 46 = some 241 := S.o 213 46 241 (Nat.lt_of_lt_of_le (Nat.le_of_ble_eq_true rfl) (f_lim_1 hm)) rfl
theorem o_213_47 {m : Nat} {s : fS} (hm : 1 ≤ m) (S : sS m s) : s.o 213 47 = some 242 := S.o 213 47 242 (Nat.lt_of_lt_of_le (Nat.le_of_ble_eq_true rfl) (f_lim_1 hm)) rfl
theorem o_243_0 {m : Nat} {s : fS} (hm : 1 ≤ m) (S : sS m s) : s.o 243 0 = some 244 := S.o 243 0 244 (Nat.lt_of_lt_of_le (Nat.le_of_ble_eq_true rfl) (f_lim_1 hm)) rfl
theorem o_243_1 {m : Nat} {s : fS} (hm : 1 ≤ m) (S : sS m s) : s.o 243 1 = some 245 := S.o 243 1 245 (Nat.lt_of_lt_of_le (Nat.le_of_ble_eq_true rfl) (f_lim_1 hm)) rfl
theorem o_243_2 {m : Nat} {s : fS} (hm : 1 ≤ m) (S : sS m s) : s.o 243 2 = some 246 := S.o 243 2 246 (Nat.lt_of_lt_of_le (Nat.le_of_ble_eq_true rfl) (f_lim_1 hm)) rfl
theorem o_243_3 {m : Nat} {s : fS} (hm : 1 ≤ m) (S : sS m s) : s.o 243 3 = some 247 := S.o 243 3 247 (Nat.lt_of_lt_of_le (Nat.le_of_ble_eq_true rfl) (f_lim_1 hm)) rfl
theorem o_243_4 {m : Nat} {s : fS} (hm : 1 ≤ m) (S : sS m s) : s.o 243 4 = some 248 := S.o 243 4 248 (Nat.lt_of_lt_of_le (Nat.le_of_ble_eq_true rfl) (f_lim_1 hm)) rfl
theorem o_243_6 {m : Nat} {s : fS} (hm : 1 ≤ m) (S : sS m s) : s.o 243 6 = some 249 := S.o 243 6 249 (Nat.lt_of_lt_of_le (Nat.le_of_ble_eq_true rfl) (f_lim_1 hm)) rfl
theorem o_243_12 {m : Nat} {s : fS} (hm : 1 ≤ m) (S : sS m s) : s.o 243 12 = some 250 := S.o 243 12 250 (Nat.lt_of_lt_of_le (Nat.le_of_ble_eq_true rfl) (f_lim_1 hm)) rfl
theorem o_243_14 {m : Nat} {s : fS} (hm : 1 ≤ m) (S : sS m s) : s.o 243 14 = some 251 := S.o 243 14 251 (Nat.lt_of_lt_of_le (Nat.le_of_ble_eq_true rfl) (f_lim_1 hm)) rfl
theorem o_243_15 {m : Nat} {s : fS} (hm : 1 ≤ m) (S : sS m s) : s.o 243 15 = some 252 := S.o 243 15 252 (Nat.lt_of_lt_of_le (Nat.le_of_ble_eq_true rfl) (f_lim_1 hm)) rfl
theorem o_243_16 {m : Nat} {s : fS} (hm : 1 ≤ m) (S : sS m s) : s.o 243 16 = some 253 := S.o 243 16 253 (Nat.lt_of_lt_of_le (Nat.le_of_ble_eq_true rfl) (f_lim_1 hm)) rfl
theorem o_243_17 {m : Nat} {s : fS} (hm : 1 ≤ m) (S : sS m s) : s.o 243 17 = some 254 := S.o 243 17 254 (Nat.lt_of_lt_of_le (Nat.le_of_ble_eq_true rfl) (f_lim_1 hm)) rfl
theorem o_243_18 {m : Nat} {s : fS} (hm : 1 ≤ m) (S : sS m s) : s.o 243 18 = some 255 := S.o 243 18 255 (Nat.lt_of_lt_of_le (Nat.le_of_ble_eq_true rfl) (f_lim_1 hm)) rfl
theorem o_243_19 {m : Nat} {s : fS} (hm : 1 ≤ m) (S : sS m s) : s.o 243 19 = some 256 := S.o 243 19 256 (Nat.lt_of_lt_of_le (Nat.le_of_ble_eq_true rfl) (f_lim_1 hm)) rfl
theorem o_243_20 {m : Nat} {s : fS} (hm : 1 ≤ m) (S : sS m s) : s.o 243 20 = some 257 := S.o 243 20 257 (Nat.lt_of_lt_of_le (Nat.le_of_ble_eq_true rfl) (f_lim_1 hm)) rfl
theorem o_243_21 {m : Nat} {s : fS} (hm : 1 ≤ m) (S : sS m s) : s.o 243 21 = some 258 := S.o 243 21 258 (Nat.lt_of_lt_of_le (Nat.le_of_ble_eq_true rfl) (f_lim_1 hm)) rfl
theorem o_243_22 {m : Nat} {s : fS} (hm : 1 ≤ m) (S : sS m s) : s.o 243 22 = some 259 := S.o 243 22 259 (Nat.lt_of_lt_of_le (Nat.le_of_ble_eq_true rfl) (f_lim_1 hm)) rfl
theorem v_31 {m : Nat} {s : fS} (S : sS m s) : s.t 31 < 108 := by rw [t_31 S]; decide
theorem v_37 {m : Nat} {s : fS} (S : sS m s) : s.t 37 < 108 := by rw [t_37 S]; decide
def FJ3_checkIndex (p0 p1 : Int) (s : fS) : Option (Int × fS) := if p0 < 0 then none else if p0 < p1 then some (p0, s) else none
theorem SJ3_checkIndex {m b : Nat} {φ0 φ : Nat → Nat} {σo s : fS} {h : eH} {q : Int × fS} (R : fC m b φ0 σo φ h s) {p0' p1' : Int32} {p0 p1 : Int} (e0 : p0' = iI p0) (r0 : r32 p0) (e1 : p1' = iI p1) (r1 : r32 p1) (hF : FJ3_checkIndex p0 p1 s = some q) : gG m b φ0 σo lI q (fJ3_checkIndex p0' p1' h) := by
  unfold FJ3_checkIndex at hF; unfold fJ3_checkIndex
  refine s_div (i_lt e0 rfl r0 ⟨by decide, by decide⟩) hF (fun _ hF => ?_)
  refine s_if (i_lt e0 e1 r0 r1) hF (fun _ hF => ?_) (fun _ hF => ?_)
  · exact g_ret R hF ⟨e0, r0⟩
  · cases hF
def FJ1_checkIndex (p0 p1 : Int) (s : fS) : Option (Unit × fS) := (FJ3_checkIndex p0 p1 s).bind fun q1 => some ((), q1.2)
theorem SJ1_checkIndex {m b : Nat} {φ0 φ : Nat → Nat} {σo s : fS} {h : eH} {q : Unit × fS} (R : fC m b φ0 σo φ h s) {p0' p1' : Int32} {p0 p1 : Int} (e0 : p0' = iI p0) (r0 : r32 p0) (e1 : p1' = iI p1) (r1 : r32 p1) (hF : FJ1_checkIndex p0 p1 s = some q) : gG m b φ0 σo lU q (fJ1_checkIndex p0' p1' h) := by
  unfold FJ1_checkIndex at hF; unfold fJ1_checkIndex
  refine s_call R (Nat.zero_le _) (fun _ hq => SJ3_checkIndex (b := 0) R.rf e0 r0 e1 r1 hq) hF (fun f1 r1 h1 q1 R1 e1 E1 hF => ?_)
  exact g_ret R1 hF trivial
