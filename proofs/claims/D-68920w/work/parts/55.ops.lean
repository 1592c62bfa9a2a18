set_option maxRecDepth 100000
set_option maxHeartbeats 4000000
/-! what the operations are, within their ranges -/
theorem iI_add (a b : Int) : iI a + iI b = iI (a + b) := (Int32.ofInt_add a b).symm
theorem iI_sub (a b : Int) : iI a - iI b = iI (a - b) := (Int32.ofInt_sub a b).symm
theorem iI_mul (a b : Int) : iI a * iI b = iI (a * b) := (Int32.ofInt_mul a b).symm
theorem iadd_eq {a b : Int} (h : r32 (a + b)) : iadd a b = a + b := by unfold iadd; rw [iI_add, to_iI h]
theorem isub_eq {a b : Int} (h : r32 (a - b)) : isub a b = a - b := by unfold isub; rw [iI_sub, to_iI h]
theorem imul_eq {a b : Int} (h : r32 (a * b)) : imul a b = a * b := by unfold imul; rw [iI_mul, to_iI h]
theorem ineg_eq {a : Int} (h : r32 (-a)) : ineg a = -a := by unfold ineg; rw [← Int32.ofInt_neg, to_iI h]
theorem iJ_add (a b : Int) : iJ a + iJ b = iJ (a + b) := (Int64.ofInt_add a b).symm
theorem iJ_sub (a b : Int) : iJ a - iJ b = iJ (a - b) := (Int64.ofInt_sub a b).symm
theorem iJ_mul (a b : Int) : iJ a * iJ b = iJ (a * b) := (Int64.ofInt_mul a b).symm
theorem ladd_eq {a b : Int} (h : r64 (a + b)) : ladd a b = a + b := by unfold ladd; rw [iJ_add, to_iJ h]
theorem lsub_eq {a b : Int} (h : r64 (a - b)) : lsub a b = a - b := by unfold lsub; rw [iJ_sub, to_iJ h]
theorem lmul_eq {a b : Int} (h : r64 (a * b)) : lmul a b = a * b := by unfold lmul; rw [iJ_mul, to_iJ h]
theorem lneg_eq {a : Int} (h : r64 (-a)) : lneg a = -a := by unfold lneg; rw [← Int64.ofInt_neg, to_iJ h]
theorem bm32 {x : Int} (h : r32 x) : x.bmod (2 ^ 32) = x := by
  have := h.1; have := h.2; exact Int.bmod_eq_of_le (by omega) (by omega)
theorem bm64 {x : Int} (h : r64 x) : x.bmod (2 ^ 64) = x := by
  have := h.1; have := h.2; exact Int.bmod_eq_of_le (by omega) (by omega)
theorem tdiv_r {a b : Int} (ha : r32 a) (hb : b ≠ -1) : r32 (a.tdiv b) := by
  have h1 := ha.1; have h2 := ha.2
  have key : (a.tdiv b).natAbs ≤ a.natAbs := by rw [Int.natAbs_tdiv]; exact Nat.div_le_self _ _
  by_cases e : a = -2147483648
  · subst e
    refine ⟨by omega, ?_⟩
    rcases Nat.lt_or_ge (Int.natAbs ((-2147483648 : Int).tdiv b)) 2147483648 with w | w
    · omega
    · have h3 : (Int.natAbs ((-2147483648 : Int).tdiv b)) = 2147483648 / b.natAbs := by rw [Int.natAbs_tdiv]; rfl
      have hb1 : b.natAbs = 1 := by
        rcases Nat.lt_or_ge b.natAbs 2 with v | v
        · rcases Nat.eq_zero_or_pos b.natAbs with v0 | v0
          · rw [v0, Nat.div_zero] at h3; omega
          · omega
        · have : 2147483648 / b.natAbs ≤ 2147483648 / 2 := Nat.div_le_div_left v (by decide)
          omega
      have : b = 1 := by omega
      subst this; decide
  · exact ⟨by omega, by omega⟩
theorem idiv_eq {a b : Int} (ha : r32 a) (hb : r32 b) (h : b ≠ -1) : idiv a b = a.tdiv b := by
  unfold idiv; rw [Int32.toInt_div, to_iI ha, to_iI hb]; exact bm32 (tdiv_r ha h)
theorem irem_eq {a b : Int} (ha : r32 a) (hb : r32 b) (h : b ≠ -1) : irem a b = a.tmod b := by
  have hd : iI a / iI b = iI (a.tdiv b) := by
    have := idiv_eq ha hb h; unfold idiv at this; rw [← this]; exact (iI_to _).symm
  have e : a - a.tdiv b * b = a.tmod b := by have := Int.tmod_add_mul_tdiv a b; rw [Int.mul_comm (a.tdiv b) b]; omega
  unfold irem; rw [hd, iI_mul, iI_sub, e]
  refine to_iI ?_
  have h1 := ha.1; have h2 := ha.2
  have key : (a.tmod b).natAbs ≤ a.natAbs := by rw [Int.natAbs_tmod]; exact Nat.mod_le _ _
  rcases Int.le_total 0 a with w | w
  · have := Int.tmod_nonneg b w; exact ⟨by omega, by omega⟩
  · exact ⟨by omega, by have := Int.tmod_nonneg b (by omega : 0 ≤ -a); rw [Int.neg_tmod] at this; omega⟩
theorem ldiv_eq {a b : Int} (ha : r64 a) (hb : r64 b) (h : r64 (a.tdiv b)) : ldiv a b = a.tdiv b := by
  unfold ldiv; rw [Int64.toInt_div, to_iJ ha, to_iJ hb]; exact bm64 h
theorem lrem_eq {a b : Int} (ha : r64 a) (hb : r64 b) (h : r64 (a.tdiv b)) (h2 : r64 (a.tmod b)) : lrem a b = a.tmod b := by
  have hd : iJ a / iJ b = iJ (a.tdiv b) := by
    have := ldiv_eq ha hb h; unfold ldiv at this; rw [← this]; exact (iJ_to _).symm
  have e : a - a.tdiv b * b = a.tmod b := by have := Int.tmod_add_mul_tdiv a b; rw [Int.mul_comm (a.tdiv b) b]; omega
  unfold lrem; rw [hd, iJ_mul, iJ_sub, e]; exact to_iJ h2
theorem l2i_eq {a : Int} (h : r32 a) : l2i a = a := by
  unfold l2i; rw [Int64.toInt_toInt32, to_iJ h.w]; exact bm32 h
theorem fS.ext' {s u : fS} (h1 : s.c = u.c) (h2 : s.z = u.z) (h3 : s.t = u.t) (h4 : s.n = u.n) (h5 : s.i = u.i) (h6 : s.j = u.j) (h7 : s.o = u.o) (h8 : s.g = u.g) : s = u := by
  exact Prod.ext h1 (Prod.ext h2 (Prod.ext h3 (Prod.ext h4 (Prod.ext h5 (Prod.ext h6 (Prod.ext h7 h8))))))
/-- what is written anew as it was -/
theorem pI_self (s : fS) (a k : Nat) : s.pI a k (s.i a k) = s := by
  refine fS.ext' rfl rfl rfl rfl ?_ rfl rfl rfl
  funext b q; rw [fS.pI_i]; split
  · rename_i e; rw [e.1, e.2]
  · rfl
theorem to_and (x : Int32) (k : Nat) (hk : k < 31) : (x &&& Int32.ofNat (2 ^ k - 1)).toInt = x.toInt % 2 ^ k := by
  have h1 : (x &&& Int32.ofNat (2 ^ k - 1)).toBitVec = x.toBitVec &&& BitVec.ofNat 32 (2 ^ k - 1) := rfl
  have hp : 2 ^ k ≤ 2 ^ 30 := Nat.pow_le_pow_right (by decide) (by omega)
  have hpos : 0 < 2 ^ k := Nat.two_pow_pos k
  have h2 : (x.toBitVec &&& BitVec.ofNat 32 (2 ^ k - 1)).toNat = x.toBitVec.toNat % 2 ^ k := by
    rw [BitVec.toNat_and, BitVec.toNat_ofNat, Nat.mod_eq_of_lt (by omega), Nat.and_two_pow_sub_one_eq_mod]
  have h3 : (x &&& Int32.ofNat (2 ^ k - 1)).toInt = ((x.toBitVec.toNat % 2 ^ k : Nat) : Int) := by
    show (x &&& Int32.ofNat (2 ^ k - 1)).toBitVec.toInt = _
    rw [h1, BitVec.toInt_eq_toNat_of_lt, h2]
    have := Nat.mod_lt x.toBitVec.toNat hpos
    omega
  rw [h3]
  show _ = x.toBitVec.toInt % _
  rw [BitVec.toInt_eq_toNat_cond]
  have hd : (2 ^ k : Nat) ∣ 2 ^ 32 := Nat.pow_dvd_pow 2 (by omega)
  split
  · simp
  · rw [Int.natCast_emod]
    have : ((2 : Int) ^ k) = ((2 ^ k : Nat) : Int) := by simp
    rw [this]
    obtain ⟨c, hc⟩ := hd
    have e : ((x.toBitVec.toNat : Int) - ((2 ^ 32 : Nat) : Int)) = (x.toBitVec.toNat : Int) + ((2 ^ k : Nat) : Int) * (-(c : Int)) := by rw [hc]; simp [Int.mul_neg]; omega
    rw [e, Int.add_mul_emod_self_left]
theorem iand_255 {a : Int} (h : r32 a) : iand a 255 = a % 256 := by
  have := to_and (iI a) 8 (by decide); rw [to_iI h] at this; exact this
theorem iand_1 {a : Int} (h : r32 a) : iand a 1 = a % 2 := by
  have := to_and (iI a) 1 (by decide); rw [to_iI h] at this; exact this
theorem iand_3 {a : Int} (h : r32 a) : iand a 3 = a % 4 := by
  have := to_and (iI a) 2 (by decide); rw [to_iI h] at this; exact this
theorem iand_7 {a : Int} (h : r32 a) : iand a 7 = a % 8 := by
  have := to_and (iI a) 3 (by decide); rw [to_iI h] at this; exact this
theorem iand_15 {a : Int} (h : r32 a) : iand a 15 = a % 16 := by
  have := to_and (iI a) 4 (by decide); rw [to_iI h] at this; exact this
theorem iand_127 {a : Int} (h : r32 a) : iand a 127 = a % 128 := by
  have := to_and (iI a) 7 (by decide); rw [to_iI h] at this; exact this
theorem iand_511 {a : Int} (h : r32 a) : iand a 511 = a % 512 := by
  have := to_and (iI a) 9 (by decide); rw [to_iI h] at this; exact this
theorem iand_4095 {a : Int} (h : r32 a) : iand a 4095 = a % 4096 := by
  have := to_and (iI a) 12 (by decide); rw [to_iI h] at this; exact this
theorem iand_8191 {a : Int} (h : r32 a) : iand a 8191 = a % 8192 := by
  have := to_and (iI a) 13 (by decide); rw [to_iI h] at this; exact this
theorem iand_65535 {a : Int} (h : r32 a) : iand a 65535 = a % 65536 := by
  have := to_and (iI a) 16 (by decide); rw [to_iI h] at this; exact this
theorem iand_1048575 {a : Int} (h : r32 a) : iand a 1048575 = a % 1048576 := by
  have := to_and (iI a) 20 (by decide); rw [to_iI h] at this; exact this
theorem i2b_eq {a : Int} (h : r32 a) : i2b a = a.bmod 256 := by
  unfold i2b; rw [Int8.toInt_toInt32, Int32.toInt_toInt8, to_iI h]
theorem i2b_id {a : Int} (h : -128 ≤ a) (h2 : a < 128) : i2b a = a := by
  rw [i2b_eq ⟨by omega, by omega⟩]; exact Int.bmod_eq_of_le (by omega) (by omega)
theorem i2b_r (a : Int) : -128 ≤ i2b a ∧ i2b a < 128 := by
  unfold i2b; rw [Int8.toInt_toInt32]; exact ⟨Int8.le_toInt _, Int8.toInt_lt _⟩
/-- a byte is read again as it was written -/
theorem byte_255 {a : Int} (h : r32 a) : iand (i2b a) 255 = a % 256 := by
  have hr := i2b_r a
  rw [iand_255 ⟨by omega, by omega⟩, i2b_eq h]
  exact Int.bmod_emod
theorem to_shr (x : Int32) (k : Nat) (hk : k < 32) : (x >>> (Int32.ofNat k &&& 31)).toInt = x.toInt / 2 ^ k := by
  have e : (Int32.ofNat k &&& 31) = Int32.ofNat k := by
    have : ∀ k, k < 32 → (Int32.ofNat k &&& 31) = Int32.ofNat k := by decide
    exact this k hk
  rw [e]
  show (x >>> Int32.ofNat k).toBitVec.toInt = x.toBitVec.toInt / 2 ^ k
  rw [Int32.toBitVec_shiftRight]
  have e2 : ((Int32.ofNat k).toBitVec.smod 32).toNat = k := by
    have : ∀ k, k < 32 → ((Int32.ofNat k).toBitVec.smod 32).toNat = k := by decide
    exact this k hk
  show (x.toBitVec.sshiftRight ((Int32.ofNat k).toBitVec.smod 32).toNat).toInt = _
  rw [e2, BitVec.toInt_sshiftRight, Int.shiftRight_eq_div_pow]
  simp
theorem to_shl (x : Int32) (k : Nat) (hk : k < 32) : x <<< (Int32.ofNat k &&& 31) = x * Int32.ofNat (2 ^ k) := by
  have e : (Int32.ofNat k &&& 31) = Int32.ofNat k := by
    have : ∀ k, k < 32 → (Int32.ofNat k &&& 31) = Int32.ofNat k := by decide
    exact this k hk
  rw [e]
  apply Int32.toBitVec_inj.mp
  rw [Int32.toBitVec_shiftLeft, Int32.toBitVec_mul]
  have e2 : ((Int32.ofNat k).toBitVec.smod 32).toNat = k := by
    have : ∀ k, k < 32 → ((Int32.ofNat k).toBitVec.smod 32).toNat = k := by decide
    exact this k hk
  show x.toBitVec <<< ((Int32.ofNat k).toBitVec.smod 32).toNat = x.toBitVec * BitVec.ofNat 32 (2 ^ k)
  rw [e2, BitVec.shiftLeft_eq_mul_twoPow, BitVec.twoPow_eq]; congr 1
  apply BitVec.eq_of_toNat_eq; simp [BitVec.toNat_ofNat, Nat.shiftLeft_eq]
theorem ishr_eq {a : Int} (k : Nat) (hk : k < 32) (h : r32 a) : ishr a k = a / 2 ^ k := by
  have := to_shr (iI a) k hk; rw [to_iI h] at this
  unfold ishr; rw [← this]; congr 2
theorem ishl_eq {a : Int} (k : Nat) (hk : k < 31) (h : r32 (a * 2 ^ k)) : ishl a k = a * 2 ^ k := by
  have e : iI (k : Int) = Int32.ofNat k := rfl
  have e2 : Int32.ofNat (2 ^ k) = iI (2 ^ k : Int) := by
    have : ∀ k, k < 31 → Int32.ofNat (2 ^ k) = iI (2 ^ k : Int) := by decide
    exact this k hk
  unfold ishl; rw [e, to_shl _ k (by omega), e2, iI_mul, to_iI h]
/-- a high part and a low one -/
theorem ior_low {a c : Int} (k : Nat) (hk : k < 31) (h : r32 (a * 2 ^ k)) (hc : 0 ≤ c) (hc2 : c < 2 ^ k) : ior (a * 2 ^ k) c = a * 2 ^ k + c := by
  have hp : (2 : Int) ^ k ≤ 2 ^ 30 := by
    have : (2 : Nat) ^ k ≤ 2 ^ 30 := Nat.pow_le_pow_right (by decide) (by omega)
    exact_mod_cast this
  have hz : iI (a * 2 ^ k) &&& iI c = 0 := by
    apply Int32.toBitVec_inj.mp
    apply BitVec.eq_of_getLsbD_eq
    intro i hi
    rw [Int32.toBitVec_and, BitVec.getLsbD_and]
    by_cases w : i < k
    · have e : iI (a * 2 ^ k) = iI a <<< (Int32.ofNat k &&& 31) := by
        have e2 : Int32.ofNat (2 ^ k) = iI (2 ^ k : Int) := by
          have : ∀ k, k < 31 → Int32.ofNat (2 ^ k) = iI (2 ^ k : Int) := by decide
          exact this k hk
        rw [to_shl _ k (by omega), e2, iI_mul]
      have e3 : (Int32.ofNat k &&& 31) = Int32.ofNat k := by
        have : ∀ k, k < 32 → (Int32.ofNat k &&& 31) = Int32.ofNat k := by decide
        exact this k (by omega)
      have e4 : ((Int32.ofNat k).toBitVec.smod 32).toNat = k := by
        have : ∀ k, k < 32 → ((Int32.ofNat k).toBitVec.smod 32).toNat = k := by decide
        exact this k (by omega)
      have e5 : (iI (a * 2 ^ k)).toBitVec = (iI a).toBitVec <<< k := by
        rw [e, e3, Int32.toBitVec_shiftLeft]
        show (iI a).toBitVec <<< ((Int32.ofNat k).toBitVec.smod 32).toNat = _
        rw [e4]
      rw [e5, BitVec.getLsbD_shiftLeft]; simp [w]
    · have hcn : (iI c).toBitVec.toNat = c.toNat := by
        have h1 : (iI c).toBitVec.toInt = c := to_iI ⟨by omega, by omega⟩
        have h2 := BitVec.toInt_eq_toNat_cond (iI c).toBitVec
        have h3 := (iI c).toBitVec.isLt
        split at h2 <;> omega
      have : (iI c).toBitVec.getLsbD i = false := by
        show (iI c).toBitVec.toNat.testBit i = false
        rw [hcn]
        apply Nat.testBit_lt_two_pow
        have h1 : c.toNat < 2 ^ k := by
          have : (c.toNat : Int) < ((2 ^ k : Nat) : Int) := by rw [Int.toNat_of_nonneg hc]; exact_mod_cast hc2
          exact_mod_cast this
        exact Nat.lt_of_lt_of_le h1 (Nat.pow_le_pow_right (by decide) (by omega))
      rw [this]; simp
  have hor : iI (a * 2 ^ k) ||| iI c = iI (a * 2 ^ k) + iI c := by
    apply Int32.toBitVec_inj.mp
    rw [Int32.toBitVec_or, Int32.toBitVec_add]
    have := congrArg Int32.toBitVec hz
    rw [Int32.toBitVec_and] at this
    exact (BitVec.add_eq_or_of_and_eq_zero _ _ this).symm
  have hr : r32 (a * 2 ^ k + c) := by
    have h1 := h.1; have h2 := h.2
    refine ⟨by omega, ?_⟩
    -- a * 2^k is a multiple of 2^k below 2^31
    have hk2 : ((2 : Int) ^ 31) = 2 ^ (31 - k) * 2 ^ k := by rw [← Int.pow_add]; congr 1; omega
    have : a < 2 ^ (31 - k) := by
      apply Int.lt_of_mul_lt_mul_right (a := (2 : Int) ^ k) _ (Int.le_of_lt (Int.pow_pos (by decide)))
      rw [← hk2]; omega
    have h3 : (a + 1) * 2 ^ k ≤ 2 ^ (31 - k) * 2 ^ k := Int.mul_le_mul_of_nonneg_right (by omega) (Int.le_of_lt (Int.pow_pos (by decide)))
    rw [← hk2, Int.add_mul] at h3; omega
  unfold ior; rw [hor, iI_add, to_iI hr]
