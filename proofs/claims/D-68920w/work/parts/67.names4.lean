set_option maxRecDepth 100000
set_option maxHeartbeats 4000000
/-! a fault that is thrown -/
def thr (s : fS) (k : Int) : fS := (s.pI 5 0 k).nw 50 0 6 0
theorem C_fail {s : fS} {k : Int} (hr : s.c + 1 ≤ 170145) (hz : s.z + 6 ≤ 8591047) : FX4_fail k s = some (.inr s.c, thr s k) := by
  unfold FX4_fail
  have p1 : uPI s 5 0 k = some (s.pI 5 0 k) := rfl
  have p2 : uNX 50 (s.pI 5 0 k) = some (s.c, (s.pI 5 0 k).nw 50 0 6 0) := by unfold uNX; rw [if_pos ⟨hr, hz⟩]; rfl
  rw [p1, Option.bind_some, p2]; rfl
theorem C_want {s : fS} {v k : Int} (h : v ≠ 0) : FX4_want v k s = some (.inl (), s) := by unfold FX4_want FX4_want_b9; rw [if_pos h]
theorem C_want0 {s : fS} {k : Int} (hr : s.c + 1 ≤ 170145) (hz : s.z + 6 ≤ 8591047) : FX4_want 0 k s = some (.inr s.c, thr s k) := by
  unfold FX4_want; rw [if_neg (fun w => w rfl), C_fail hr hz]; rfl
theorem tB_inl {α β : Type} {a : α} {s : fS} {K : α → fS → Option ((β ⊕ Nat) × fS)} : tB (some (.inl a, s)) K = K a s := rfl
theorem tB_inr {α β : Type} {x : Nat} {s : fS} {K : α → fS → Option ((β ⊕ Nat) × fS)} : tB (some (.inr x, s)) K = some (.inr x, s) := rfl
theorem N_slot_old {m : Nat} {s : fS} (S : sS m s) (h : NI s) (hs0 : 0 ≤ (s.i 44 8)) (hs : (s.i 44 8) ≤ 40) {N : Nat} (hN : 5000 ≤ N) {x : Nat} (h1 : 256 ≤ x) (h2 : (x : Int) < (s.i 44 6)) (hx : nEq s x) : FX10_slot N s = some (.inl (x : Int), s) := by
  obtain ⟨p, p1, p2, p3⟩ := N_found S h hs0 hs hN h1 h2 hx
  have rd : uRI s 45 (p : Int) = some (x : Int) := by
    rw [uRI_ok (by omega) (by rw [n_45 S]; omega)]
    have : ((p : Int)).toNat = p := by omega
    rw [this, p3]
  unfold FX10_slot
  rw [p2]; simp only [Option.bind_some]
  rw [rd, Option.bind_some, if_pos (by omega)]
  unfold FX10_slot_b42
  rw [rd, Option.bind_some]
theorem N_slot_new {m : Nat} {s : fS} (S : sS m s) (h : NI s) (hs0 : 0 ≤ (s.i 44 8)) (hs : (s.i 44 8) ≤ 40) {N : Nat} (hN : 5000 ≤ N) (hc : (s.i 44 6) < 1352) (hx : ∀ x : Nat, 256 ≤ x → (x : Int) < (s.i 44 6) → ¬ nEq s x) (hr : s.c + 3 ≤ 170145) (hz : s.z + 200000 ≤ 8591047) :
    ∃ σ, FX10_slot N s = some (.inl ((s.i 44 6)), σ) ∧ sS m σ ∧ Ex [44, 45, 46, 47, 48] s σ ∧ NI σ ∧ (σ.i 44 6) = (s.i 44 6) + 1 ∧ (σ.i 44 8) = (s.i 44 8) ∧
      (∀ x : Nat, 256 ≤ x → (x : Int) < (s.i 44 6) → σ.i 47 x = s.i 47 x ∧ ∀ k : Nat, (k : Int) < s.i 47 x → σ.i 48 ((σ.i 46 x).toNat + k) = s.i 48 ((s.i 46 x).toNat + k)) ∧
      (σ.i 47 ((s.i 44 6)).toNat = (s.i 44 8) ∧ ∀ k : Nat, (k : Int) < (s.i 44 8) → σ.i 48 ((σ.i 46 ((s.i 44 6)).toNat).toNat + k) = s.i 49 k) ∧
      σ.c ≤ s.c + 3 ∧ s.z ≤ σ.z ∧ σ.z + 2 * (s.n 46 + s.n 47 + s.n 48) ≤ s.z + 2 * (σ.n 46 + σ.n 47 + σ.n 48) := by
  obtain ⟨p, j, p1, p2, p3, p4, p5⟩ := N_missing S h hs0 hs hN hx
  obtain ⟨σ, f0, f1, f2, f3, f4, f5, f6, f7, f8, f9⟩ := N_new S h hs0 hs hc hx p1 p2 p4 p5 hr hz
  refine ⟨σ, ?_, f1, f2, f3, f4, f5, f7, f8, f9⟩
  have e : ((p : Int)).toNat = p := by omega
  have rd : uRI s 45 (p : Int) = some 0 := by rw [uRI_ok (by omega) (by rw [n_45 S]; omega), e, p4]
  have rd2 : uRI σ 45 (p : Int) = some (s.i 44 6) := by rw [uRI_ok (by omega) (by rw [n_45 f1]; omega), e, f6]
  unfold FX10_slot
  rw [p3]; simp only [Option.bind_some]
  rw [rd, Option.bind_some, if_neg (fun w => w rfl), if_neg (by omega)]
  unfold FX10_slot_b33
  rw [C_want (by decide), tB_inl, f0]; simp only [Option.bind_some]
  unfold FX10_slot_b42
  rw [rd2, Option.bind_some]
theorem N_slot_full {m : Nat} {s : fS} (S : sS m s) (h : NI s) (hs0 : 0 ≤ (s.i 44 8)) (hs : (s.i 44 8) ≤ 40) {N : Nat} (hN : 5000 ≤ N) (hc : (s.i 44 6) = 1352) (hx : ∀ x : Nat, 256 ≤ x → (x : Int) < (s.i 44 6) → ¬ nEq s x) (hr : s.c + 1 ≤ 170145) (hz : s.z + 6 ≤ 8591047) : FX10_slot N s = some (.inr s.c, thr s 2) := by
  obtain ⟨p, j, p1, p2, p3, p4, p5⟩ := N_missing S h hs0 hs hN hx
  have e : ((p : Int)).toNat = p := by omega
  have rd : uRI s 45 (p : Int) = some 0 := by rw [uRI_ok (by omega) (by rw [n_45 S]; omega), e, p4]
  unfold FX10_slot
  rw [p3]; simp only [Option.bind_some]
  rw [rd, Option.bind_some, if_neg (fun w => w rfl), if_pos (by omega)]
  unfold FX10_slot_b33
  rw [C_want0 hr hz, tB_inr]
/-! names of the model: one behind the other -/
def mEq (s : fS) (x : Nat) : Prop := s.i 262 x = (s.i 192 19) ∧ ∀ k : Nat, (k : Int) < (s.i 192 19) → iand (s.i 261 (40 * x + k)) 255 = s.i 263 k
theorem M_mloop {m : Nat} {s : fS} (hm : 1 ≤ m) (S : sS m s) {x : Nat} (hx : x < 1100) (hs0 : 0 ≤ (s.i 192 19)) (hs : (s.i 192 19) ≤ 40) (he : s.i 262 x = (s.i 192 19)) (N : Nat) (K : Int → fS → Option (Int × fS)) :
    ∀ (n : Nat) (k : Nat), (k : Int) ≤ (s.i 192 19) → (s.i 192 19) - k < n → (∀ j : Nat, j < k → iand (s.i 261 (40 * x + j)) 255 = s.i 263 j) →
      (mEq s x ∧ FX35_nameToken_b31 N K n x 1 k s = some (65536 + (x : Int), s)) ∨ (¬ mEq s x ∧ FX35_nameToken_b31 N K n x 1 k s = K ((x : Int) + 1) s) := by
  intro n
  induction n with
  | zero => intro k hk hn; omega
  | succ n ih =>
    intro k hk hn hj
    rw [FX35_nameToken_b31]
    by_cases c : (s.i 192 19) ≤ k
    · rw [if_pos c]; unfold FX35_nameToken_b79; rw [if_neg (by decide), iadd_eq ⟨by omega, by omega⟩]
      exact Or.inl ⟨⟨he, fun j hj' => hj j (by omega)⟩, rfl⟩
    · rw [if_neg c, if_neg (by decide), imul_eq ⟨by omega, by omega⟩, iadd_eq (a := 40 * (x : Int)) ⟨by omega, by omega⟩, uRI_ok (by omega) (by rw [n_261 hm S]; omega), Option.bind_some, uRI_ok (by omega) (by rw [n_263 hm S]; omega), Option.bind_some]
      have e1 : (40 * (x : Int) + (k : Int)).toNat = 40 * x + k := by omega
      have e2 : ((k : Int)).toNat = k := by omega
      rw [e1, e2]
      by_cases d : iand (s.i 261 (40 * x + k)) 255 = s.i 263 k
      · rw [if_neg (fun w => w d)]
        unfold FX35_nameToken_b72
        have := ih (k + 1) (by omega) (by omega) (fun j hj' => by
          rcases Nat.lt_or_ge j k with w | w
          · exact hj j w
          · have : j = k := by omega
            subst this; exact d)
        rw [iadd_eq ⟨by omega, by omega⟩]
        exact this
      · rw [if_pos d]
        unfold FX35_nameToken_b72
        rw [iadd_eq ⟨by omega, by omega⟩]
        obtain ⟨n', rfl⟩ : ∃ n', n = n' + 1 := ⟨n - 1, by omega⟩
        rw [FX35_nameToken_b31]
        refine Or.inr ⟨fun w => d (w.2 k (by omega)), ?_⟩
        unfold FX35_nameToken_b79
        rw [if_pos rfl, if_pos rfl, iadd_eq ⟨by omega, by omega⟩]
        split <;> rfl
