set_option maxRecDepth 100000
set_option maxHeartbeats 4000000
/-- one name is asked -/
theorem M_ask {m : Nat} {s : fS} (hm : 1 ≤ m) (S : sS m s) {x : Nat} (hx : x < 1100) (hs0 : 0 ≤ (s.i 192 19)) (hs : (s.i 192 19) ≤ 40) {N : Nat} (hN : 42 ≤ N) {n : Nat} (hlt : (x : Int) < (s.i 192 15)) :
    (mEq s x ∧ FX35_nameToken_b2 N (n + 1) x s = some (65536 + (x : Int), s)) ∨ (¬ mEq s x ∧ FX35_nameToken_b2 N (n + 1) x s = FX35_nameToken_b2 N n ((x : Int) + 1) s) := by
  have ex : ((x : Int)).toNat = x := by omega
  rw [FX35_nameToken_b2, if_neg (by omega), uRI_ok (by omega) (by rw [n_262 hm S]; omega), Option.bind_some, ex]
  by_cases c : s.i 262 x = (s.i 192 19)
  · rw [if_neg (fun w => w c)]; unfold FX35_nameToken_b28
    exact M_mloop hm S hx hs0 hs c N (FX35_nameToken_b2 N n) N 0 (by omega) (by omega) (fun j hj => absurd hj (Nat.not_lt_zero j))
  · rw [if_pos c]; unfold FX35_nameToken_b28
    obtain ⟨k, rfl⟩ : ∃ k, N = k + 1 := ⟨N - 1, by omega⟩
    refine Or.inr ⟨fun w => c w.1, ?_⟩
    rw [FX35_nameToken_b31]; unfold FX35_nameToken_b79
    rw [if_pos rfl, if_pos rfl, iadd_eq ⟨by omega, by omega⟩]
    split <;> rfl
/-- the search among all names: the first one that is the same, or what comes behind them all -/
theorem M_search {m : Nat} {s : fS} (hm : 1 ≤ m) (S : sS m s) (hs0 : 0 ≤ (s.i 192 19)) (hs : (s.i 192 19) ≤ 40) {N : Nat} (hN : 42 ≤ N) (hn1 : (s.i 192 15) ≤ 1096) :
    ∀ (r x n : Nat), (x : Int) + r = (s.i 192 15) → r ≤ n →
      (∃ y : Nat, x ≤ y ∧ (y : Int) < (s.i 192 15) ∧ mEq s y ∧ FX35_nameToken_b2 N n x s = some (65536 + (y : Int), s)) ∨ ((∀ y : Nat, x ≤ y → (y : Int) < (s.i 192 15) → ¬ mEq s y) ∧ FX35_nameToken_b2 N n x s = FX35_nameToken_b2 N (n - r) ((s.i 192 15)) s) := by
  intro r
  induction r with
  | zero =>
    intro x n h1 h2
    have e : (x : Int) = (s.i 192 15) := by omega
    exact Or.inr ⟨fun y h3 h4 => by omega, by rw [e]; rfl⟩
  | succ r ih =>
    intro x n h1 h2
    obtain ⟨n, rfl⟩ : ∃ n', n = n' + 1 := ⟨n - 1, by omega⟩
    rcases M_ask hm S (x := x) (by omega) hs0 hs hN (n := n) (by omega) with ⟨w1, w2⟩ | ⟨w1, w2⟩
    · exact Or.inl ⟨x, Nat.le_refl _, by omega, w1, w2⟩
    · rw [w2]
      have e2 : ((x : Int) + 1) = ((x + 1 : Nat) : Int) := by omega
      rw [e2]
      rcases ih (x + 1) n (by omega) (by omega) with ⟨y, v1, v2, v3, v4⟩ | ⟨v1, v2⟩
      · exact Or.inl ⟨y, by omega, v2, v3, v4⟩
      · refine Or.inr ⟨fun y h3 h4 => ?_, by rw [v2]; congr 1; omega⟩
        rcases Nat.lt_or_ge x y with u | u
        · exact v1 y (by omega) h4
        · have : y = x := by omega
          subst this; exact w1
/-- the characters of a new name are written -/
theorem M_addName {m : Nat} {s : fS} (hm : 1 ≤ m) (S : sS m s) (hs0 : 0 ≤ (s.i 192 19)) (hs : (s.i 192 19) ≤ 40) (hn0 : 0 ≤ (s.i 192 15)) (hn1 : (s.i 192 15) < 1099) (hsp : ∀ k : Nat, 0 ≤ s.i 263 k ∧ s.i 263 k < 256) (N : Nat) :
    ∀ (n k : Nat) (u : fS), sS m u → Ex [261] s u → u.c = s.c → u.z = s.z → (∀ q : Nat, u.i 261 q = if 40 * ((s.i 192 15)).toNat ≤ q ∧ q < 40 * ((s.i 192 15)).toNat + k then i2b (s.i 263 (q - 40 * ((s.i 192 15)).toNat)) else s.i 261 q) → (k : Int) ≤ (s.i 192 19) → (s.i 192 19) - k < n →
      ∃ σ, FX35_addName_b2 N n k u = some ((s.i 192 15), σ) ∧ sS m σ ∧ Ex [192, 261, 262] s σ ∧ σ.c = s.c ∧ σ.z = s.z ∧ (∀ f : Nat, σ.i 192 f = if f = 15 then (s.i 192 15) + 1 else s.i 192 f) ∧ (∀ q : Nat, σ.i 262 q = if q = ((s.i 192 15)).toNat then (s.i 192 19) else s.i 262 q) ∧ (∀ q : Nat, σ.i 261 q = if 40 * ((s.i 192 15)).toNat ≤ q ∧ q < 40 * ((s.i 192 15)).toNat + ((s.i 192 19)).toNat then i2b (s.i 263 (q - 40 * ((s.i 192 15)).toNat)) else s.i 261 q) := by
  intro n
  induction n with
  | zero => intro k u _ _ _ _ _ h1 h2; omega
  | succ n ih =>
    intro k u Su Xu hc hz hu hk hn
    have hb : ∀ a, 192 ≤ a → a < 325 → bA s a := fun a _ h2 => Or.inl (by have := S.c; have := f_lim_1 hm; omega)
    have u192 : u.i 192 = s.i 192 := (Xu.2 192 (hb 192 (by decide) (by decide)) (by decide)).1
    have u262 : u.i 262 = s.i 262 := (Xu.2 262 (hb 262 (by decide) (by decide)) (by decide)).1
    have u263 : u.i 263 = s.i 263 := (Xu.2 263 (hb 263 (by decide) (by decide)) (by decide)).1
    rw [FX35_addName_b2, u192]
    by_cases c : (s.i 192 19) ≤ k
    · rw [if_pos c, uQI_ok hn0 (by rw [n_262 hm Su]; omega), Option.bind_some]
      have p1 : ∀ v, uPI (u.pI 262 (s.i 192 15).toNat (s.i 192 19)) 192 15 v = some ((u.pI 262 (s.i 192 15).toNat (s.i 192 19)).pI 192 15 v) := fun _ => rfl
      have e0 : (u.pI 262 (s.i 192 15).toNat (s.i 192 19)).i 192 = s.i 192 := by rw [pI_ne (by decide), u192]
      rw [e0, iadd_eq ⟨by omega, by omega⟩, p1, Option.bind_some]
      refine ⟨_, by rw [fS.pI_i, if_pos ⟨rfl, rfl⟩, isub_eq ⟨by omega, by omega⟩]; congr 2; omega, (Su.pI _ _ _).pI _ _ _, ((Xu.mono (by decide)).tr ((Ex.pI _ _ _ _).mono (by decide))).tr ((Ex.pI _ _ _ _).mono (by decide)), hc, hz, fun f => ?_, fun q => ?_, fun q => ?_⟩
      · rw [fS.pI_i, pI_ne (by decide), u192]
        by_cases w : f = 15
        · rw [if_pos w, if_pos ⟨rfl, w⟩]
        · rw [if_neg w, if_neg (fun v => w v.2)]
      · rw [pI_ne (by decide), fS.pI_i, u262]
        by_cases w : q = (s.i 192 15).toNat
        · rw [if_pos w, if_pos ⟨rfl, w⟩]
        · rw [if_neg w, if_neg (fun v => w v.2)]
      · have : k = (s.i 192 19).toNat := by omega
        rw [pI_ne (by decide), pI_ne (by decide), hu q, this]
    · have e2 : ((k : Int)).toNat = k := by omega
      rw [if_neg c, uRI_ok (by omega) (by rw [n_263 hm Su]; omega), Option.bind_some, imul_eq ⟨by omega, by omega⟩, iadd_eq (a := 40 * s.i 192 15) ⟨by omega, by omega⟩, uQI_ok (by omega) (by rw [n_261 hm Su]; omega), Option.bind_some, u263, e2, iadd_eq ⟨by omega, by omega⟩]
      have hsk := hsp k
      have hbb : i2b (i2b (s.i 263 k)) = i2b (s.i 263 k) := i2b_id (i2b_r _).1 (i2b_r _).2
      rw [hbb]
      refine ih (k + 1) _ (Su.pI _ _ _) (Xu.tr (Ex.pI _ _ _ _)) hc hz (fun q => ?_) (by omega) (by omega)
      rw [fS.pI_i, hu q]
      have e3 : (40 * s.i 192 15 + (k : Int)).toNat = 40 * (s.i 192 15).toNat + k := by omega
      rw [e3]
      by_cases w : q = 40 * (s.i 192 15).toNat + k
      · rw [if_pos ⟨rfl, w⟩, if_pos (by omega), w]; congr 2; omega
      · rw [if_neg (fun v => w v.2)]
        by_cases v : 40 * (s.i 192 15).toNat ≤ q ∧ q < 40 * (s.i 192 15).toNat + k
        · rw [if_pos v, if_pos (by omega)]
        · rw [if_neg v, if_neg (by omega)]
