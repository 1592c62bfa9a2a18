/-! THE PURE STATEMENT (owed) -/
theorem pure_law (L : Nat) (xs : Nat → Int32) (hL : L ≤ 384) : ∃ (N : Nat) (h' : eH), f_law N L xs = some (1, h') := by
  sorry
