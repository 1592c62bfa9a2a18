set_option maxRecDepth 100000
set_option maxHeartbeats 4000000
/-! names of the component: a table with open addressing -/
theorem uRI_ok {s : fS} {a : Nat} {x : Int} (h0 : 0 ≤ x) (h1 : x < s.n a) : uRI s a x = some (s.i a x.toNat) := by unfold uRI; rw [if_pos ⟨h0, by omega⟩]
theorem uQI_ok {s : fS} {a : Nat} {x v : Int} (h0 : 0 ≤ x) (h1 : x < s.n a) : uQI s a x v = some (s.pI a x.toNat v) := by unfold uQI; rw [if_pos ⟨h0, by omega⟩]
theorem uRJ_ok {s : fS} {a : Nat} {x : Int} (h0 : 0 ≤ x) (h1 : x < s.n a) : uRJ s a x = some (s.j a x.toNat) := by unfold uRJ; rw [if_pos ⟨h0, by omega⟩]
theorem uQJ_ok {s : fS} {a : Nat} {x v : Int} (h0 : 0 ≤ x) (h1 : x < s.n a) : uQJ s a x v = some (s.pJ a x.toNat v) := by unfold uQJ; rw [if_pos ⟨h0, by omega⟩]
theorem uZ_0 {α : Type} {r : α} : uZ 0 r = some r := by unfold uZ; rw [if_pos (Or.inl rfl)]
theorem uZ_1 {α : Type} {r : α} : uZ 1 r = some r := by unfold uZ; rw [if_pos (Or.inr rfl)]
/-- a name that stands in a slot, and its characters, as numbers of the store -/
def nOk (s : fS) (x : Int) : Prop := 0 ≤ x ∧ x < s.n 46 ∧ x < s.n 47 ∧ 0 ≤ s.i 47 x.toNat ∧ 0 ≤ s.i 46 x.toNat ∧ s.i 46 x.toNat + s.i 47 x.toNat ≤ s.n 48 ∧ s.n 48 < 1000000
def nEq (s : fS) (x : Int) : Prop := s.i 47 x.toNat = (s.i 44 8) ∧ ∀ k : Nat, (k : Int) < (s.i 44 8) → s.i 48 ((s.i 46 x.toNat).toNat + k) = s.i 49 k
theorem N_mloop {m : Nat} {s : fS} (S : sS m s) {x : Int} (hx : nOk s x) (hs0 : 0 ≤ (s.i 44 8)) (hs : (s.i 44 8) ≤ 40) (he : s.i 47 x.toNat = (s.i 44 8)) (N : Nat) :
    ∀ (n : Nat) (k : Nat), (k : Int) ≤ (s.i 44 8) → (s.i 44 8) - k < n → (∀ j : Nat, j < k → s.i 48 ((s.i 46 x.toNat).toNat + j) = s.i 49 j) →
      ∃ v : Int, FX10_matches_b21 N n x 1 k s = some (v, s) ∧ (v = 1 ∧ nEq s x ∨ v = 0 ∧ ¬ nEq s x) := by
  obtain ⟨h0, h1, h2, h3, h4, h5, h6⟩ := hx
  intro n
  induction n with
  | zero => intro k hk hn; omega
  | succ n ih =>
    intro k hk hn hj
    rw [FX10_matches_b21, if_neg (by decide)]
    by_cases c : (s.i 44 8) ≤ k
    · rw [if_pos c]; unfold FX10_matches_b67; rw [uZ_1]
      exact ⟨1, rfl, Or.inl ⟨rfl, he, fun j hj' => hj j (by omega)⟩⟩
    · rw [if_neg c, uRI_ok h0 h1]
      show ∃ v, (uRI s 48 (iadd (s.i 46 x.toNat) k)).bind _ = _ ∧ _
      rw [iadd_eq ⟨by omega, by omega⟩, uRI_ok (by omega) (by omega)]
      show ∃ v, (uRI s 49 k).bind _ = _ ∧ _
      rw [uRI_ok (by omega) (by rw [n_49 S]; omega)]
      have e1 : (s.i 46 x.toNat + (k : Int)).toNat = (s.i 46 x.toNat).toNat + k := by omega
      have e2 : ((k : Int)).toNat = k := by omega
      show ∃ v, (if ¬ (s.i 48 (s.i 46 x.toNat + (k : Int)).toNat = s.i 49 ((k : Int)).toNat) then _ else _) = _ ∧ _
      rw [e1, e2]
      by_cases d : s.i 48 ((s.i 46 x.toNat).toNat + k) = s.i 49 k
      · rw [if_neg (fun w => w d)]
        unfold FX10_matches_b60
        have := ih (k + 1) (by omega) (by omega) (fun j hj' => by
          rcases Nat.lt_or_ge j k with w | w
          · exact hj j w
          · have : j = k := by omega
            subst this; exact d)
        rw [iadd_eq ⟨by omega, by omega⟩]
        exact this
      · rw [if_pos d]
        unfold FX10_matches_b60
        rw [iadd_eq ⟨by omega, by omega⟩]
        obtain ⟨n', rfl⟩ : ∃ n', n = n' + 1 := ⟨n - 1, by omega⟩
        rw [FX10_matches_b21, if_pos rfl]
        unfold FX10_matches_b67; rw [uZ_0]
        exact ⟨0, rfl, Or.inr ⟨rfl, fun w => d (w.2 k (by omega))⟩⟩
theorem N_matches {m : Nat} {s : fS} (S : sS m s) {x : Int} (hx : nOk s x) (hs0 : 0 ≤ (s.i 44 8)) (hs : (s.i 44 8) ≤ 40) {N : Nat} (hN : 42 ≤ N) :
    ∃ v : Int, FX10_matches N x s = some (v, s) ∧ (v = 1 ∧ nEq s x ∨ v = 0 ∧ ¬ nEq s x) := by
  have hx' := hx
  obtain ⟨h0, h1, h2, h3, h4, h5, h6⟩ := hx'
  unfold FX10_matches
  rw [uRI_ok h0 h2]
  show ∃ v, (if ¬ (s.i 47 x.toNat = (s.i 44 8)) then _ else _) = _ ∧ _
  by_cases c : s.i 47 x.toNat = (s.i 44 8)
  · rw [if_neg (fun w => w c)]; unfold FX10_matches_b18
    exact N_mloop S hx hs0 hs c N N 0 (by omega) (by omega) (fun j hj => absurd hj (Nat.not_lt_zero j))
  · rw [if_pos c]; unfold FX10_matches_b18
    obtain ⟨n, rfl⟩ : ∃ n, N = n + 1 := ⟨N - 1, by omega⟩
    rw [FX10_matches_b21, if_pos rfl]
    unfold FX10_matches_b67; rw [uZ_0]
    exact ⟨0, rfl, Or.inr ⟨rfl, fun w => c w.1⟩⟩
/-- the hash of a row of characters, before it is cut -/
def hF (w : Nat → Int) (h : Int) : Nat → Int
  | 0 => h
  | k + 1 => iadd (imul 31 (hF w h k)) (w k)
theorem hF_congr {w w' : Nat → Int} {h : Int} : ∀ k : Nat, (∀ j, j < k → w j = w' j) → hF w h k = hF w' h k
  | 0, _ => rfl
  | k + 1, e => by
    show iadd (imul 31 (hF w h k)) (w k) = iadd (imul 31 (hF w' h k)) (w' k)
    rw [hF_congr k (fun j hj => e j (by omega)), e k (by omega)]
def hH (w : Nat → Int) (n : Int) : Int := iand (ixor (hF w n n.toNat) (iush (hF w n n.toNat) 12)) 4095
theorem hH_r (w : Nat → Int) (n : Int) : 0 ≤ hH w n ∧ hH w n < 4096 := by
  unfold hH; rw [iand_4095 (by unfold ixor; exact rr_I _)]; omega
theorem hH_congr {w w' : Nat → Int} {n : Int} (e : ∀ j : Nat, (j : Int) < n → w j = w' j) : hH w n = hH w' n := by
  unfold hH; rw [hF_congr n.toNat (fun j hj => e j (by omega))]
theorem N_hloop {m : Nat} {s : fS} (S : sS m s) (hs0 : 0 ≤ (s.i 44 8)) (hs : (s.i 44 8) ≤ 40) (N : Nat) : ∀ (n k : Nat), (k : Int) ≤ (s.i 44 8) → (s.i 44 8) - k < n →
    FX10_seek_b7 N n (hF (s.i 49) ((s.i 44 8)) k) k s = FX10_seek_b44 N N (hH (s.i 49) ((s.i 44 8))) s := by
  intro n
  induction n with
  | zero => intro k h1 h2; omega
  | succ n ih =>
    intro k h1 h2
    rw [FX10_seek_b7]
    by_cases c : (s.i 44 8) ≤ k
    · rw [if_pos c]
      have : k = ((s.i 44 8)).toNat := by omega
      unfold hH; rw [← this]
    · rw [if_neg c, uRI_ok (by omega) (by rw [n_49 S]; omega)]
      show FX10_seek_b7 N n (iadd (imul 31 (hF (s.i 49) ((s.i 44 8)) k)) (s.i 49 ((k : Int)).toNat)) (iadd k 1) s = _
      have e2 : ((k : Int)).toNat = k := by omega
      rw [e2, iadd_eq (a := (k : Int)) ⟨by omega, by omega⟩]
      exact ih (k + 1) (by omega) (by omega)
theorem N_probe {m : Nat} {s : fS} (S : sS m s) (hs0 : 0 ≤ (s.i 44 8)) (hs : (s.i 44 8) ≤ 40) {N : Nat} (hN : 42 ≤ N) (hT : ∀ p : Nat, p < 4096 → s.i 45 p = 0 ∨ nOk s (s.i 45 p)) :
    ∀ (z n l : Nat), l < 4096 → s.i 45 ((l + z) % 4096) = 0 → z < n →
      ∃ j : Nat, j ≤ z ∧ FX10_seek_b44 N n l s = some ((((l + j) % 4096 : Nat) : Int), s) ∧ (s.i 45 ((l + j) % 4096) = 0 ∨ nEq s (s.i 45 ((l + j) % 4096))) ∧ ∀ i : Nat, i < j → s.i 45 ((l + i) % 4096) ≠ 0 ∧ ¬ nEq s (s.i 45 ((l + i) % 4096)) := by
  intro z
  induction z with
  | zero =>
    intro n l hl hz hn
    obtain ⟨n, rfl⟩ : ∃ n', n = n' + 1 := ⟨n - 1, by omega⟩
    have hm : (l + 0) % 4096 = l := by omega
    rw [hm] at hz
    refine ⟨0, Nat.le_refl _, ?_, Or.inl (by rw [hm]; exact hz), fun i hi => absurd hi (Nat.not_lt_zero i)⟩
    rw [FX10_seek_b44, uRI_ok (by omega) (by rw [n_45 S]; omega)]
    show (if s.i 45 ((l : Int)).toNat = 0 then _ else _) = _
    have e2 : ((l : Int)).toNat = l := by omega
    rw [e2, if_pos hz, hm]; rfl
  | succ z ih =>
    intro n l hl hz hn
    obtain ⟨n, rfl⟩ : ∃ n', n = n' + 1 := ⟨n - 1, by omega⟩
    have e2 : ((l : Int)).toNat = l := by omega
    have hm : (l + 0) % 4096 = l := by omega
    have hrd : uRI s 45 (l : Int) = some (s.i 45 l) := by rw [uRI_ok (by omega) (by rw [n_45 S]; omega), e2]
    rw [FX10_seek_b44, hrd]
    show ∃ j : Nat, _ ∧ (if s.i 45 l = 0 then _ else _) = _ ∧ _
    by_cases c : s.i 45 l = 0
    · rw [if_pos c]
      exact ⟨0, Nat.zero_le _, by rw [hm]; rfl, Or.inl (by rw [hm]; exact c), fun i hi => absurd hi (Nat.not_lt_zero i)⟩
    · rw [if_neg c]
      have hok := (hT l hl).resolve_left c
      obtain ⟨v, e, hv⟩ := N_matches S hok hs0 hs hN
      show ∃ j : Nat, _ ∧ (FX10_matches N (s.i 45 l) s).bind _ = _ ∧ _
      rw [e]
      show ∃ j : Nat, _ ∧ (if ¬ (v = 0) then _ else _) = _ ∧ _
      rcases hv with ⟨hv, he⟩ | ⟨hv, he⟩
      · rw [if_pos (by omega)]
        exact ⟨0, Nat.zero_le _, by rw [hm]; rfl, Or.inr (by rw [hm]; exact he), fun i hi => absurd hi (Nat.not_lt_zero i)⟩
      · rw [if_neg (by omega)]
        have hnx : iand (iadd (l : Int) 1) 4095 = (((l + 1) % 4096 : Nat) : Int) := by
          rw [iadd_eq ⟨by omega, by omega⟩, iand_4095 ⟨by omega, by omega⟩]; omega
        show ∃ j : Nat, _ ∧ FX10_seek_b44 N n (iand (iadd (l : Int) 1) 4095) s = _ ∧ _
        rw [hnx]
        have hsh : ∀ i : Nat, ((l + 1) % 4096 + i) % 4096 = (l + (i + 1)) % 4096 := fun i => by omega
        obtain ⟨j, j1, j2, j3, j4⟩ := ih n ((l + 1) % 4096) (by omega) (by rw [hsh]; exact hz) (by omega)
        refine ⟨j + 1, by omega, by rw [j2, hsh], by rw [← hsh]; exact j3, fun i hi => ?_⟩
        rcases Nat.eq_zero_or_pos i with w | w
        · subst w; rw [hm]; exact ⟨c, he⟩
        · have := j4 (i - 1) (by omega)
          rw [hsh] at this
          have e3 : i - 1 + 1 = i := by omega
          rw [e3] at this; exact this
theorem N_seek {m : Nat} {s : fS} (S : sS m s) (hs0 : 0 ≤ (s.i 44 8)) (hs : (s.i 44 8) ≤ 40) {N : Nat} (hN : 5000 ≤ N) (hT : ∀ p : Nat, p < 4096 → s.i 45 p = 0 ∨ nOk s (s.i 45 p)) (hz : ∃ p : Nat, p < 4096 ∧ s.i 45 p = 0) :
    ∃ j : Nat, FX10_seek N s = some (((((hH (s.i 49) ((s.i 44 8))).toNat + j) % 4096 : Nat) : Int), s) ∧ (s.i 45 (((hH (s.i 49) ((s.i 44 8))).toNat + j) % 4096) = 0 ∨ nEq s (s.i 45 (((hH (s.i 49) ((s.i 44 8))).toNat + j) % 4096))) ∧ ∀ i : Nat, i < j → s.i 45 (((hH (s.i 49) ((s.i 44 8))).toNat + i) % 4096) ≠ 0 ∧ ¬ nEq s (s.i 45 (((hH (s.i 49) ((s.i 44 8))).toNat + i) % 4096)) := by
  obtain ⟨p, hp, hz⟩ := hz
  have hr := hH_r (s.i 49) ((s.i 44 8))
  have h0 := N_hloop S hs0 hs N N 0 (by omega) (by omega)
  have e : FX10_seek N s = FX10_seek_b44 N N (hH (s.i 49) ((s.i 44 8))) s := h0
  have e2 : (((hH (s.i 49) ((s.i 44 8))).toNat : Nat) : Int) = hH (s.i 49) ((s.i 44 8)) := Int.toNat_of_nonneg hr.1
  obtain ⟨j, _, j2, j3, j4⟩ := N_probe S hs0 hs (N := N) (by omega) hT ((p + 4096 - (hH (s.i 49) ((s.i 44 8))).toNat) % 4096) N (hH (s.i 49) ((s.i 44 8))).toNat (by omega) (by
    have : ((hH (s.i 49) ((s.i 44 8))).toNat + (p + 4096 - (hH (s.i 49) ((s.i 44 8))).toNat) % 4096) % 4096 = p := by omega
    rw [this]; exact hz) (by omega)
  exact ⟨j, by rw [e, ← e2]; exact j2, j3, j4⟩
