set_option maxRecDepth 100000
set_option maxHeartbeats 4000000
/-- a new name means nothing at all levels -/
theorem M_zero {m : Nat} {s : fS} (hm : 1 ≤ m) (S : sS m s) {x : Nat} (hx : x < 1100) (hl0 : 0 ≤ (s.i 192 21)) (hl1 : (s.i 192 21) ≤ 100) (N : Nat) :
    ∀ (n k : Nat) (u : fS), sS m u → Ex [265] s u → u.c = s.c → u.z = s.z → (∀ q : Nat, u.i 265 q = if q % 3812 = x ∧ q / 3812 < k then 0 else s.i 265 q) → (k : Int) ≤ (s.i 192 21) + 1 → (s.i 192 21) + 1 - k < n →
      ∃ σ, FX35_nameToken_b121 N n x k u = some (65536 + (x : Int), σ) ∧ sS m σ ∧ Ex [265] s σ ∧ σ.c = s.c ∧ σ.z = s.z ∧ (∀ q : Nat, σ.i 265 q = if q % 3812 = x ∧ ((q / 3812 : Nat) : Int) ≤ (s.i 192 21) then 0 else s.i 265 q) := by
  intro n
  induction n with
  | zero => intro k u _ _ _ _ _ h1 h2; omega
  | succ n ih =>
    intro k u Su Xu hc hz hu hk hn
    have hb : bA s 192 := Or.inl (by have := S.c; have := f_lim_1 hm; omega)
    have u192 : u.i 192 = s.i 192 := (Xu.2 192 hb (by decide)).1
    rw [FX35_nameToken_b121, u192]
    by_cases c : (s.i 192 21) < k
    · rw [if_pos c, iadd_eq ⟨by omega, by omega⟩]
      refine ⟨u, rfl, Su, Xu, hc, hz, fun q => ?_⟩
      rw [hu q]
      by_cases w : q % 3812 = x ∧ q / 3812 < k
      · rw [if_pos w, if_pos (by omega)]
      · rw [if_neg w, if_neg (by omega)]
    · rw [if_neg c, imul_eq ⟨by omega, by omega⟩, iadd_eq (a := 3812 * (k : Int)) ⟨by omega, by omega⟩, uQI_ok (by omega) (by rw [n_265 hm Su]; omega), Option.bind_some, iadd_eq ⟨by omega, by omega⟩]
      refine ih (k + 1) _ (Su.pI _ _ _) (Xu.tr (Ex.pI _ _ _ _)) hc hz (fun q => ?_) (by omega) (by omega)
      rw [fS.pI_i, hu q]
      have e3 : (3812 * (k : Int) + (x : Int)).toNat = 3812 * k + x := by omega
      rw [e3]
      by_cases w : q = 3812 * k + x
      · rw [if_pos ⟨rfl, w⟩, if_pos (by omega)]
      · rw [if_neg (fun v => w v.2)]
        by_cases v : q % 3812 = x ∧ q / 3812 < k
        · rw [if_pos v, if_pos (by omega)]
        · rw [if_neg v, if_neg (by omega)]
/-- the token of the name that is spelled, which is there -/
theorem M_token_old {m : Nat} {s : fS} (hm : 1 ≤ m) (S : sS m s) (hs0 : 0 ≤ (s.i 192 19)) (hs : (s.i 192 19) ≤ 40) {N : Nat} (hN : 5000 ≤ N) (hn0 : 0 ≤ (s.i 192 15)) (hn1 : (s.i 192 15) ≤ 1096) {x : Nat} (hx : (x : Int) < (s.i 192 15)) (he : mEq s x) (hu : ∀ y : Nat, (y : Int) < (s.i 192 15) → mEq s y → y = x) : FX35_nameToken N s = some (65536 + (x : Int), s) := by
  have h := M_search hm S hs0 hs (N := N) (by omega) hn1 ((s.i 192 15)).toNat 0 N (by omega) (by omega)
  unfold FX35_nameToken
  rcases h with ⟨y, _, v2, v3, v4⟩ | ⟨v1, _⟩
  · rw [hu y v2 v3] at v4; exact v4
  · exact absurd he (v1 x (Nat.zero_le _) hx)
/-- .. which is new -/
theorem M_token_new {m : Nat} {s : fS} (hm : 1 ≤ m) (S : sS m s) (hs0 : 0 ≤ (s.i 192 19)) (hs : (s.i 192 19) ≤ 40) {N : Nat} (hN : 5000 ≤ N) (hn0 : 0 ≤ (s.i 192 15)) (hn1 : (s.i 192 15) < 1096) (hl0 : 0 ≤ (s.i 192 21)) (hl1 : (s.i 192 21) ≤ 100) (hsp : ∀ k : Nat, 0 ≤ s.i 263 k ∧ s.i 263 k < 256) (hx : ∀ y : Nat, (y : Int) < (s.i 192 15) → ¬ mEq s y) :
    ∃ σ, FX35_nameToken N s = some (65536 + (s.i 192 15), σ) ∧ sS m σ ∧ Ex [192, 261, 262, 265] s σ ∧ σ.c = s.c ∧ σ.z = s.z ∧ (∀ f : Nat, σ.i 192 f = if f = 15 then (s.i 192 15) + 1 else s.i 192 f) ∧ (∀ q : Nat, σ.i 262 q = if q = ((s.i 192 15)).toNat then (s.i 192 19) else s.i 262 q) ∧ (∀ q : Nat, σ.i 261 q = if 40 * ((s.i 192 15)).toNat ≤ q ∧ q < 40 * ((s.i 192 15)).toNat + ((s.i 192 19)).toNat then i2b (s.i 263 (q - 40 * ((s.i 192 15)).toNat)) else s.i 261 q) ∧ (∀ q : Nat, σ.i 265 q = if q % 3812 = ((s.i 192 15)).toNat ∧ ((q / 3812 : Nat) : Int) ≤ (s.i 192 21) then 0 else s.i 265 q) := by
  have h := M_search hm S hs0 hs (N := N) (by omega) (by omega) ((s.i 192 15)).toNat 0 N (by omega) (by omega)
  have hcn : ((((s.i 192 15)).toNat : Nat) : Int) = (s.i 192 15) := Int.toNat_of_nonneg hn0
  rcases h with ⟨y, _, v2, v3, _⟩ | ⟨_, v2⟩
  · exact absurd v3 (hx y v2)
  · obtain ⟨a, f0, f1, f2, f3, f4, f5, f6, f7⟩ := M_addName hm S hs0 hs hn0 (by omega) hsp N N 0 s S (Ex.rf _ _) rfl rfl (fun q => by rw [if_neg (by omega)]) (by omega) (by omega)
    have hb : ∀ a, 192 ≤ a → a < 325 → bA s a := fun a _ h2 => Or.inl (by have := S.c; have := f_lim_1 hm; omega)
    have a192 : a.i 192 21 = (s.i 192 21) := by rw [f5, if_neg (by decide)]
    have a265 : a.i 265 = s.i 265 := (f2.2 265 (hb 265 (by decide) (by decide)) (by decide)).1
    obtain ⟨σ, g0, g1, g2, g3, g4, g5⟩ := M_zero hm f1 (x := ((s.i 192 15)).toNat) (by omega) (by rw [a192]; exact hl0) (by rw [a192]; exact hl1) N N 0 a f1 (Ex.rf _ _) rfl rfl (fun q => by rw [if_neg (by omega)]) (by rw [a192]; omega) (by rw [a192]; omega)
    have hac : ∀ b, 192 ≤ b → b < 325 → bA a b := fun b _ h2 => Or.inl (by have := f1.c; have := f_lim_1 hm; omega)
    have s192 : σ.i 192 = a.i 192 := (g2.2 192 (hac 192 (by decide) (by decide)) (by decide)).1
    have s262 : σ.i 262 = a.i 262 := (g2.2 262 (hac 262 (by decide) (by decide)) (by decide)).1
    have s261 : σ.i 261 = a.i 261 := (g2.2 261 (hac 261 (by decide) (by decide)) (by decide)).1
    refine ⟨σ, ?_, g1, (f2.mono (by decide)).tr (g2.mono (by decide)), g3.trans f3, g4.trans f4, fun f => by rw [s192, f5], fun q => by rw [s262, f6], fun q => by rw [s261, f7], fun q => by rw [g5, a192, a265]⟩
    unfold FX35_nameToken
    have e0 : (0 : Int) = ((0 : Nat) : Int) := rfl
    rw [e0, v2]
    obtain ⟨k, hk⟩ : ∃ k, N - ((s.i 192 15)).toNat = k + 1 := ⟨N - ((s.i 192 15)).toNat - 1, by omega⟩
    rw [hk, FX35_nameToken_b2, if_pos (Int.le_refl _), isub_eq ⟨by omega, by omega⟩, if_pos (by omega)]
    unfold FX35_addName
    rw [e0, f0]; simp only [Option.bind_some]
    rw [hcn] at g0
    exact g0
