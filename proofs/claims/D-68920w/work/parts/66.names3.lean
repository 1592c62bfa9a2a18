set_option maxRecDepth 100000
set_option maxHeartbeats 4000000
theorem i_lg (a b : Int) : a < b ∨ b ≤ a := by omega
/-- the names that are there, and the table by which they are found -/
def NI (s : fS) : Prop :=
  (256 ≤ (s.i 44 6) ∧ (s.i 44 6) ≤ 1352) ∧ (0 ≤ (s.i 44 5) ∧ (s.i 44 5) ≤ 40 * ((s.i 44 6) - 256)) ∧
  ((s.i 44 6) ≤ s.n 46 ∧ (s.i 44 6) ≤ s.n 47 ∧ (s.i 44 5) ≤ s.n 48 ∧ s.n 46 ≤ 2706 ∧ s.n 47 ≤ 2706 ∧ s.n 48 ≤ 100080) ∧
  (∀ x : Nat, 256 ≤ x → (x : Int) < (s.i 44 6) → 0 ≤ s.i 47 x ∧ s.i 47 x ≤ 40 ∧ 0 ≤ s.i 46 x ∧ s.i 46 x + s.i 47 x ≤ (s.i 44 5)) ∧
  (∀ p : Nat, p < 4096 → s.i 45 p = 0 ∨ (256 ≤ s.i 45 p ∧ s.i 45 p < (s.i 44 6))) ∧
  (∀ p q : Nat, p < 4096 → q < 4096 → s.i 45 p ≠ 0 → s.i 45 p = s.i 45 q → p = q) ∧
  (∀ x : Nat, 256 ≤ x → (x : Int) < (s.i 44 6) → ∃ j : Nat, s.i 45 (((hH (fun k => s.i 48 ((s.i 46 x).toNat + k)) (s.i 47 x)).toNat + j) % 4096) = x ∧ ∀ i : Nat, i < j → s.i 45 (((hH (fun k => s.i 48 ((s.i 46 x).toNat + k)) (s.i 47 x)).toNat + i) % 4096) ≠ 0) ∧
  (∀ x y : Nat, 256 ≤ x → (x : Int) < (s.i 44 6) → 256 ≤ y → (y : Int) < (s.i 44 6) → s.i 47 x = s.i 47 y → (∀ k : Nat, (k : Int) < s.i 47 x → s.i 48 ((s.i 46 x).toNat + k) = s.i 48 ((s.i 46 y).toNat + k)) → x = y)
theorem NI.ok {s : fS} (h : NI s) {x : Nat} (h1 : 256 ≤ x) (h2 : (x : Int) < (s.i 44 6)) : nOk s x := by
  obtain ⟨⟨a1, a2⟩, ⟨b1, b2⟩, ⟨c1, c2, c3, c4, c5, c6⟩, d, _⟩ := h
  have := d x h1 h2
  have e : ((x : Int)).toNat = x := by omega
  unfold nOk; rw [e]
  exact ⟨by omega, by omega, by omega, this.1, this.2.2.1, by omega, by omega⟩
theorem NI.tab {s : fS} (h : NI s) : ∀ p : Nat, p < 4096 → s.i 45 p = 0 ∨ nOk s (s.i 45 p) := fun p hp => by
  rcases h.2.2.2.2.1 p hp with w | w
  · exact Or.inl w
  · have e : (((s.i 45 p).toNat : Nat) : Int) = s.i 45 p := Int.toNat_of_nonneg (by omega)
    have := h.ok (x := (s.i 45 p).toNat) (by omega) (by omega)
    rw [e] at this; exact Or.inr this
theorem NI.free {s : fS} (h : NI s) : ∃ p : Nat, p < 4096 ∧ s.i 45 p = 0 := by
  refine Classical.byContradiction (fun w => ?_)
  have hn : ∀ p : Nat, p < 4096 → s.i 45 p ≠ 0 := fun p hp e => w ⟨p, hp, e⟩
  have := pigeon 4096 (fun p => (s.i 45 p).toNat) 1352 (fun p hp => by
      rcases h.2.2.2.2.1 p hp with v | v
      · exact absurd v (hn p hp)
      · have := h.1; show (s.i 45 p).toNat < 1352; omega) (fun p q hp hq e => by
      refine h.2.2.2.2.2.1 p q hp hq (hn p hp) ?_
      have e' : (s.i 45 p).toNat = (s.i 45 q).toNat := e
      rcases h.2.2.2.2.1 p hp with v | v
      · exact absurd v (hn p hp)
      · rcases h.2.2.2.2.1 q hq with u | u
        · exact absurd u (hn q hq)
        · omega)
  omega
/-- a name that is there is found -/
theorem N_found {m : Nat} {s : fS} (S : sS m s) (h : NI s) (hs0 : 0 ≤ (s.i 44 8)) (hs : (s.i 44 8) ≤ 40) {N : Nat} (hN : 5000 ≤ N) {x : Nat} (h1 : 256 ≤ x) (h2 : (x : Int) < (s.i 44 6)) (hx : nEq s x) :
    ∃ p : Nat, p < 4096 ∧ FX10_seek N s = some ((p : Int), s) ∧ s.i 45 p = x := by
  have e : ((x : Int)).toNat = x := by omega
  have hx' := hx
  unfold nEq at hx'; rw [e] at hx'
  obtain ⟨j, k1, k2, k3⟩ := N_seek S hs0 hs hN h.tab h.free
  obtain ⟨j', l1, l2⟩ := h.2.2.2.2.2.2.1 x h1 h2
  have hh : hH (fun k => s.i 48 ((s.i 46 x).toNat + k)) (s.i 47 x) = hH (s.i 49) ((s.i 44 8)) := by
    rw [hx'.1]; exact hH_congr (fun k hk => hx'.2 k hk)
  rw [hh] at l1 l2
  refine ⟨_, by omega, k1, ?_⟩
  rcases h.2.2.2.2.1 (((hH (s.i 49) ((s.i 44 8))).toNat + j) % 4096) (by omega) with u | u
  · -- an empty place cannot come first
    rcases Nat.lt_trichotomy j j' with w | w | w
    · exact absurd u (l2 j w)
    · subst w; exact l1
    · exact absurd ((k3 j' w).2) (fun w2 => w2 (by rw [l1]; exact hx))
  · have v := k2.resolve_left (by omega)
    have hs1 := h.2.2.2.2.2.2.2 (s.i 45 (((hH (s.i 49) ((s.i 44 8))).toNat + j) % 4096)).toNat x (by omega) (by omega) h1 h2 (by rw [v.1, hx'.1]) (fun k hk => by rw [v.2 k (by rw [v.1] at hk; exact hk), hx'.2 k (by rw [v.1] at hk; exact hk)])
    omega
/-- a name that is not there: a free place, with none free before it -/
theorem N_missing {m : Nat} {s : fS} (S : sS m s) (h : NI s) (hs0 : 0 ≤ (s.i 44 8)) (hs : (s.i 44 8) ≤ 40) {N : Nat} (hN : 5000 ≤ N) (hx : ∀ x : Nat, 256 ≤ x → (x : Int) < (s.i 44 6) → ¬ nEq s x) :
    ∃ p j : Nat, p < 4096 ∧ p = ((hH (s.i 49) ((s.i 44 8))).toNat + j) % 4096 ∧ FX10_seek N s = some ((p : Int), s) ∧ s.i 45 p = 0 ∧ ∀ i : Nat, i < j → s.i 45 (((hH (s.i 49) ((s.i 44 8))).toNat + i) % 4096) ≠ 0 := by
  obtain ⟨j, k1, k2, k3⟩ := N_seek S hs0 hs hN h.tab h.free
  refine ⟨_, j, by omega, rfl, k1, ?_, fun i hi => (k3 i hi).1⟩
  rcases h.2.2.2.2.1 (((hH (s.i 49) ((s.i 44 8))).toNat + j) % 4096) (by omega) with u | u
  · exact u
  · rcases k2 with v | v
    · exact v
    · have e : (((s.i 45 (((hH (s.i 49) ((s.i 44 8))).toNat + j) % 4096)).toNat : Nat) : Int) = s.i 45 (((hH (s.i 49) ((s.i 44 8))).toNat + j) % 4096) := Int.toNat_of_nonneg (by omega)
      exact absurd (by rw [e]; exact v) (hx (s.i 45 (((hH (s.i 49) ((s.i 44 8))).toNat + j) % 4096)).toNat (by omega) (by omega))
/-- a new name, at the free place that was found -/
theorem N_new {m : Nat} {s : fS} (S : sS m s) (h : NI s) (hs0 : 0 ≤ (s.i 44 8)) (hs : (s.i 44 8) ≤ 40) (hc : (s.i 44 6) < 1352) (hx : ∀ x : Nat, 256 ≤ x → (x : Int) < (s.i 44 6) → ¬ nEq s x) {p j : Nat} (hp : p < 4096) (hpj : p = ((hH (s.i 49) ((s.i 44 8))).toNat + j) % 4096) (hp0 : s.i 45 p = 0) (hj : ∀ i : Nat, i < j → s.i 45 (((hH (s.i 49) ((s.i 44 8))).toNat + i) % 4096) ≠ 0) (hr : s.c + 3 ≤ 170145) (hz : s.z + 200000 ≤ 8591047) :
    ∃ σ, FX10_make p s = some ((), σ) ∧ sS m σ ∧ Ex [44, 45, 46, 47, 48] s σ ∧ NI σ ∧ (σ.i 44 6) = (s.i 44 6) + 1 ∧ (σ.i 44 8) = (s.i 44 8) ∧ σ.i 45 p = (s.i 44 6) ∧
      (∀ x : Nat, 256 ≤ x → (x : Int) < (s.i 44 6) → σ.i 47 x = s.i 47 x ∧ ∀ k : Nat, (k : Int) < s.i 47 x → σ.i 48 ((σ.i 46 x).toNat + k) = s.i 48 ((s.i 46 x).toNat + k)) ∧
      (σ.i 47 ((s.i 44 6)).toNat = (s.i 44 8) ∧ ∀ k : Nat, (k : Int) < (s.i 44 8) → σ.i 48 ((σ.i 46 ((s.i 44 6)).toNat).toNat + k) = s.i 49 k) ∧
      σ.c ≤ s.c + 3 ∧ s.z ≤ σ.z ∧ σ.z + 2 * (s.n 46 + s.n 47 + s.n 48) ≤ s.z + 2 * (σ.n 46 + σ.n 47 + σ.n 48) := by
  obtain ⟨⟨a1, a2⟩, ⟨b1, b2⟩, ⟨c1, c2, c3, c4, c5, c6⟩, d, t1, t2, t3, t4⟩ := h
  obtain ⟨σ, f0, f1, f2, f3, f4, f5, f6, f7, f8, f9, f10, f11, f12, f13, f14, f15, f16, f17, f18, f19, f20, f21, f22, f23, f24⟩ := N_make S hp (by omega) (by omega) b1 (by omega) c3 hs0 hs hr hz
  have g1 : ∀ x : Nat, (x : Int) < (s.i 44 6) → σ.i 46 x = s.i 46 x := fun x hx' => f7 x (by omega) (by omega)
  have g2 : ∀ x : Nat, (x : Int) < (s.i 44 6) → σ.i 47 x = s.i 47 x := fun x hx' => f9 x (by omega) (by omega)
  have g3 : ∀ x : Nat, 256 ≤ x → (x : Int) < (s.i 44 6) → ∀ k : Nat, (k : Int) < s.i 47 x → σ.i 48 ((s.i 46 x).toNat + k) = s.i 48 ((s.i 46 x).toNat + k) := fun x h1 h2 k hk => by
    have := d x h1 h2; exact f11 _ (by omega)
  -- the words of old ones and of the new one
  have hold : ∀ x : Nat, 256 ≤ x → (x : Int) < (s.i 44 6) → hH (fun k => σ.i 48 ((σ.i 46 x).toNat + k)) (σ.i 47 x) = hH (fun k => s.i 48 ((s.i 46 x).toNat + k)) (s.i 47 x) := fun x h1 h2 => by
    rw [g1 x h2, g2 x h2]; exact hH_congr (fun k hk => g3 x h1 h2 k hk)
  have hnew : hH (fun k => σ.i 48 ((σ.i 46 (s.i 44 6).toNat).toNat + k)) (σ.i 47 (s.i 44 6).toNat) = hH (s.i 49) (s.i 44 8) := by
    rw [f8, f10]; exact hH_congr (fun k hk => f12 k hk)
  have hcn : (((s.i 44 6).toNat : Nat) : Int) = s.i 44 6 := Int.toNat_of_nonneg (by omega)
  refine ⟨σ, f0, f1, f2, ⟨⟨by omega, by omega⟩, ⟨by omega, by omega⟩, ⟨by omega, by omega, by omega, by omega, by omega, by omega⟩, ?_, ?_, ?_, ?_, ?_⟩, f3, f5, by rw [f6, if_pos rfl], fun x h1 h2 => ⟨g2 x h2, fun k hk => by rw [g1 x h2]; exact g3 x h1 h2 k hk⟩, ⟨f10, fun k hk => by rw [f8]; exact f12 k hk⟩, f22, f23, f24⟩
  · intro x h1 h2
    rcases i_lg (x : Int) (s.i 44 6) with w | w
    · rw [g1 x w, g2 x w]; have := d x h1 w; omega
    · have : x = (s.i 44 6).toNat := by omega
      subst this; rw [f8, f10]; omega
  · intro q hq
    rw [f6]; split
    · exact Or.inr ⟨by omega, by omega⟩
    · rcases t1 q hq with w | w
      · exact Or.inl w
      · exact Or.inr ⟨by omega, by omega⟩
  · intro q q' hq hq' h1 h2
    rw [f6] at h1 h2
    rw [f6] at h2
    by_cases w : q = p <;> by_cases v : q' = p
    · omega
    · rw [if_pos w, if_neg v] at h2; rcases t1 q' hq' with u | u <;> omega
    · rw [if_neg w, if_pos v] at h2; rcases t1 q hq with u | u <;> omega
    · rw [if_neg w] at h1; rw [if_neg w, if_neg v] at h2; exact t2 q q' hq hq' h1 h2
  · intro x h1 h2
    rcases i_lg (x : Int) (s.i 44 6) with w | w
    · obtain ⟨j', l1, l2⟩ := t3 x h1 w
      rw [hold x h1 w]
      refine ⟨j', ?_, fun i hi => ?_⟩
      · rw [f6, if_neg]
        · exact l1
        · intro e; rw [e, hp0] at l1; omega
      · rw [f6]; split
        · omega
        · exact l2 i hi
    · have : x = (s.i 44 6).toNat := by omega
      subst this
      rw [hnew]
      refine ⟨j, by rw [f6, if_pos hpj.symm]; exact hcn.symm, fun i hi => ?_⟩
      rw [f6]; split
      · omega
      · exact hj i hi
  · intro x y h1 h2 h3 h4 e1 e2
    rcases i_lg (x : Int) (s.i 44 6) with w | w <;> rcases i_lg (y : Int) (s.i 44 6) with v | v
    · rw [g2 x w, g2 y v] at e1
      refine t4 x y h1 w h3 v e1 (fun k hk => ?_)
      have := e2 k (by rw [g2 x w]; exact hk)
      rw [g1 x w, g1 y v, g3 x h1 w k hk, g3 y h3 v k (by omega)] at this; exact this
    · have hy : y = (s.i 44 6).toNat := by omega
      subst hy
      refine absurd ?_ (hx x h1 w)
      have ex : ((x : Int)).toNat = x := by omega
      unfold nEq; rw [ex]
      rw [g2 x w, f10] at e1
      refine ⟨e1, fun k hk => ?_⟩
      have := e2 k (by rw [g2 x w, e1]; exact hk)
      rw [g1 x w, g3 x h1 w k (by omega), f8, f12 k hk] at this; exact this
    · have hy : x = (s.i 44 6).toNat := by omega
      subst hy
      refine absurd ?_ (hx y h3 v)
      have ex : ((y : Int)).toNat = y := by omega
      unfold nEq; rw [ex]
      rw [g2 y v, f10] at e1
      refine ⟨e1.symm, fun k hk => ?_⟩
      have := e2 k (by rw [f10]; exact hk)
      rw [g1 y v, g3 y h3 v k (by omega), f8, f12 k hk] at this; exact this.symm
    · omega
