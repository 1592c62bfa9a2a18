set_option maxRecDepth 100000
set_option maxHeartbeats 4000000
/-! the model behind a fault: its functions answer at once -/
section
variable {N : Nat} {SE : Int → fS → Option (Unit × fS)} {SN : fS → Option (Int × fS)} {s : fS}
theorem M_fail_f {p0 : Int} (h : 0 < (s.i 192 46)) : FX35_fail p0 s = some ((), s) := by
  unfold FX35_fail FX35_fail_b16
  rw [if_pos (by omega)]
  show some ((), s.pI 192 46 ((s.i 192 46))) = _
  rw [pI_self]
theorem M_get_f (h : 0 < (s.i 192 46)) : FX35_get N s = some (-1, s) := by
  unfold FX35_get; rw [if_neg (by omega)]
theorem M_need_f (h : 0 < (s.i 192 46)) : FX35_need N s = some (-1, s) := by
  unfold FX35_need FX35_need_b16; simp [M_get_f h, M_fail_f h]
theorem M_put_f {p0 : Int} (h : 0 < (s.i 192 46)) : FX35_put p0 s = some ((), s) := by
  unfold FX35_put FX35_put_b32; split
  · rfl
  · rw [if_pos (by omega)]
theorem M_put_end : FX35_put (-1) s = some ((), s) := by
  unfold FX35_put FX35_put_b32; rw [if_pos rfl]
theorem M_isOf_end {c : Int} : FX35_isOf (-1) c s = some (0, s) := by rw [AX35_isOf]; simp [GX35_isOf, GX35_isCharacter]
theorem M_isExp_end : FX35_isExpandable (-1) s = some (0, s) := by rw [AX35_isExpandable]; simp [GX35_isExpandable]
theorem M_is_end {c d : Int} (h : -1 ≠ iadd (imul 256 c) d) : FX35_is (-1) c d s = some (0, s) := by rw [AX35_is]; simp [GX35_is, h]
theorem M_isLetter_end {c : Int} : FX35_isLetter (-1) c s = some (0, s) := by rw [AX35_isLetter]; simp [GX35_isLetter, GX35_isCharacter]
theorem M_getX_f (hN : 0 < N) (h : 0 < (s.i 192 46)) : FX35_getExpanded N SE s = some (-1, s) := by
  obtain ⟨n, rfl⟩ : ∃ n, N = n + 1 := ⟨N - 1, by omega⟩
  unfold FX35_getExpanded; simp [M_get_f h, FX35_getExpanded_b5, M_isExp_end]
theorem M_needX_f (hN : 0 < N) (h : 0 < (s.i 192 46)) : FX35_needExpanded N SE s = some (-1, s) := by
  unfold FX35_needExpanded FX35_needExpanded_b16; simp [M_getX_f hN h, M_fail_f h]
theorem M_needXN_f (hN : 0 < N) (h : 0 < (s.i 192 46)) : FX35_needExpandedNoSpace N SE s = some (-1, s) := by
  unfold FX35_needExpandedNoSpace; rw [M_needX_f hN h]
  obtain ⟨n, rfl⟩ : ∃ n, N = n + 1 := ⟨N - 1, by omega⟩
  simp [FX35_needExpandedNoSpace_b5, M_isOf_end]
theorem M_number_f (h : 0 < (s.i 192 46)) : FX35_number N SE SN s = some (0, s) := by
  have : ¬ (s.i 192 46) ≤ 0 := by omega
  unfold FX35_number; simp [M_fail_f h, FX35_number_b14, this]
theorem M_small_f {p0 : Int} (hSN : SN s = some (0, s)) (h : 0 < (s.i 192 46)) : FX35_small SN p0 s = some (0, s) := by
  have h1 : ¬ (s.i 192 46) = 0 := by omega
  have h2 : ¬ (s.i 192 46) ≤ 0 := by omega
  unfold FX35_small; simp [hSN, h1, FX35_small_b27, h2, FX35_small_b39]
theorem M_dropSpace_f (hN : 0 < N) (h : 0 < (s.i 192 46)) : FX35_dropSpace N SE s = some ((), s) := by
  unfold FX35_dropSpace; simp [M_getX_f hN h, M_isOf_end, M_put_end, FX35_dropSpace_b19]
theorem M_equals_f (hN : 0 < N) (h : 0 < (s.i 192 46)) : FX35_equals N SE s = some ((), s) := by
  unfold FX35_equals; rw [M_getX_f hN h]
  obtain ⟨n, rfl⟩ : ∃ n, N = n + 1 := ⟨N - 1, by omega⟩
  simp [FX35_equals_b5, M_isOf_end, M_is_end (c := 12) (d := 61) (by decide), M_put_end, FX35_equals_b38]
theorem M_setAt_f {a v g : Int} (hN : 0 < N) (h : 0 < (s.i 192 46)) : FX35_setAt N a v g s = some ((), s) := by
  obtain ⟨n, rfl⟩ : ∃ n, N = n + 1 := ⟨N - 1, by omega⟩
  have h1 : ¬ (s.i 192 46) = 0 := by omega
  unfold FX35_setAt; simp [FX35_setAt_b12, FX35_setAt_b14, FX35_setAt_b50, h1]
/-- what signs leave behind a fault -/
def M_sg (s : fS) : fS := (s.pI 192 121 (-1)).pI 192 122 0
theorem M_signs_f (hN : 0 < N) (h : 0 < (s.i 192 46)) : FX35_signs N SE s = some ((), M_sg s) := by
  unfold FX35_signs; rw [M_needX_f hN h]
  obtain ⟨n, rfl⟩ : ∃ n, N = n + 1 := ⟨N - 1, by omega⟩
  simp [FX35_signs_b7, M_isOf_end, M_is_end (c := 12) (d := 43) (by decide), M_is_end (c := 12) (d := 45) (by decide), uPI, uPZ, M_sg]
theorem M_putOther_f {p0 : Int} (h : 0 < (s.i 192 46)) : FX35_putOther p0 s = some ((), s) := by
  unfold FX35_putOther FX35_putOther_b18; split <;> simp [M_put_f h]
theorem M_putDigits_f (hN : 0 < N) (h : 0 < (s.i 192 46)) : FX35_putDigits N 0 s = some ((), s) := by
  obtain ⟨n, rfl⟩ : ∃ n, N = n + 1 := ⟨N - 1, by omega⟩
  have : ldiv 0 10 = 0 := by decide
  unfold FX35_putDigits; simp [FX35_putDigits_b12, M_putOther_f h, FX35_putDigits_b33, this, FX35_putDigits_b72]
end
