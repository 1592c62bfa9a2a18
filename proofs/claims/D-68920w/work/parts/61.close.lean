set_option maxRecDepth 100000
set_option maxHeartbeats 4000000
/-! the recursion, tied by depth -/
def cR (N : Nat) : Nat → (Nat → Int32 → eH → Option ((Unit ⊕ Nat) × eH)) × (Nat → eH → Option ((Int32 ⊕ Nat) × eH))
  | 0 => (fun _ _ _ => none, fun _ _ => none)
  | n + 1 => (fX8_expand N (cR N n).1 (cR N n).2, fX8_number N (cR N n).1 (cR N n).2)
def mR (N : Nat) : Nat → (Nat → Int32 → eH → Option (Unit × eH)) × (Nat → eH → Option (Int32 × eH))
  | 0 => (fun _ _ _ => none, fun _ _ => none)
  | n + 1 => (fX35_expand N (mR N n).1 (mR N n).2, fX35_number N (mR N n).1 (mR N n).2)
def mL (N : Nat) : Nat → Nat → Int32 → Int64 → Int64 → eH → Option (Int32 × eH)
  | 0 => fun _ _ _ _ _ => none
  | n + 1 => fX35_layBox N (mL N n)
theorem cR_ok {w : eW} {N : Nat} : ∀ n, (∀ a t0 h q, (cR N n).1 a t0 h = some q → wm w (12 + 22 * n) YX8_expand [.ref a, .int t0] h (e_is (e_rt c_V q))) ∧ (∀ a h q, (cR N n).2 a h = some q → wm w (12 + 22 * n) YX8_number [.ref a] h (e_is (e_rt c_I q)))
  | 0 => ⟨fun _ _ _ _ h => (by cases h), fun _ _ _ h => (by cases h)⟩
  | n + 1 => ⟨fun _ _ _ _ hq => pX8_expand (dr := 12 + 22 * n) (by omega) (by omega) (cR_ok n).1 (cR_ok n).2 hq, fun _ _ _ hq => pX8_number (dr := 12 + 22 * n) (by omega) (by omega) (cR_ok n).1 (cR_ok n).2 hq⟩
theorem mR_ok {w : eW} {N : Nat} : ∀ n, (∀ a t0 h q, (mR N n).1 a t0 h = some q → wm w (12 + 22 * n) YX35_expand [.ref a, .int t0] h (e_is (e_rn c_V q))) ∧ (∀ a h q, (mR N n).2 a h = some q → wm w (12 + 22 * n) YX35_number [.ref a] h (e_is (e_rn c_I q)))
  | 0 => ⟨fun _ _ _ _ h => (by cases h), fun _ _ _ h => (by cases h)⟩
  | n + 1 => ⟨fun _ _ _ _ hq => pX35_expand (dr := 12 + 22 * n) (by omega) (by omega) (mR_ok n).1 (mR_ok n).2 hq, fun _ _ _ hq => pX35_number (dr := 12 + 22 * n) (by omega) (by omega) (mR_ok n).1 (mR_ok n).2 hq⟩
theorem mL_ok {w : eW} {N : Nat} : ∀ n, ∀ a t0 t1 t2 h q, mL N n a t0 t1 t2 h = some q → wm w (12 + 22 * n) YX35_layBox [.ref a, .int t0, .long t1, .long t2] h (e_is (e_rn c_I q))
  | 0 => fun _ _ _ _ _ _ h => by cases h
  | n + 1 => fun _ _ _ _ _ _ hq => pX35_layBox (dr := 12 + 22 * n) (by omega) (by omega) (mL_ok n) hq
def e_h0 : eH := (0, 0, fun _ => (0, 0, fun _ => .null))
/-- the law, as a pure function of the script -/
def f_law (N L : Nat) (xs : Nat → Int32) : Option (Int32 × eH) := fL_law N L xs (cR N 91).1 (cR N 91).2 (mR N 91).1 (mL N 91) (mR N 91).2 e_h0
theorem f_law_ok {w : eW} {N L : Nat} {xs : Nat → Int32} (hsc : w_oc w 0 = (.int, L, fun j => .int (xs j))) {q} (hf : f_law N L xs = some q) : wm w 2047 YL_law [.ref 1000000000] e_h0 (e_is (e_rn c_I q)) :=
  pL_law (dr := 12 + 22 * 91) (by omega) (by omega) hsc (cR_ok 91).1 (cR_ok 91).2 (mR_ok 91).1 (mL_ok 91) (mR_ok 91).2 hf
