set_option maxRecDepth 100000
set_option maxHeartbeats 4000000
theorem BX35_addOuter_b172 {σo : fS} {q : Unit × fS} {s : fS} (E : bE 1 σo s) (hF : FX35_addOuter_b172 s = some q) : bE 1 σo q.2 := by
  unfold FX35_addOuter_b172 at hF
  exact b_ret E hF
theorem BX35_addOuter_b121 {σo : fS} {q : Unit × fS} {s : fS} {l1 : Int} {l2 : Int} (E : bE 1 σo s) (hF : FX35_addOuter_b121 l1 l2 s = some q) : bE 1 σo q.2 := by
  unfold FX35_addOuter_b121 at hF
  refine b_if hF (fun hF => ?_) (fun hF => ?_)
  ·
    exact BX35_addOuter_b172 E hF
  ·
    refine b_rv hF (fun _ hF => ?_)
    refine b_rv hF (fun _ hF => ?_)
    refine b_rv hF (fun _ hF => ?_)
    refine b_rv hF (fun _ hF => ?_)
    refine b_qJ E (E.S.m1 (Nat.le_of_ble_eq_true rfl) (Nat.le_of_ble_eq_true rfl)) hF (fun _ D10 E10 hF => ?_)
    refine b_rv hF (fun _ hF => ?_)
    refine b_pJ E10 (E10.S.m1 (Nat.le_of_ble_eq_true rfl) (Nat.le_of_ble_eq_true rfl)) hF (fun _ D14 E14 hF => ?_)
    exact BX35_addOuter_b172 E14 hF
theorem BX35_addOuter_b95 {σo : fS} {q : Unit × fS} {s : fS} {l1 : Int} {l2 : Int} (E : bE 1 σo s) (hF : FX35_addOuter_b95 l1 l2 s = some q) : bE 1 σo q.2 := by
  unfold FX35_addOuter_b95 at hF
  refine b_rv hF (fun _ hF => ?_)
  refine b_pJ E (E.S.m1 (Nat.le_of_ble_eq_true rfl) (Nat.le_of_ble_eq_true rfl)) hF (fun _ D5 E5 hF => ?_)
  refine b_pJ E5 (E5.S.m1 (Nat.le_of_ble_eq_true rfl) (Nat.le_of_ble_eq_true rfl)) hF (fun _ D6 E6 hF => ?_)
  exact BX35_addOuter_b121 E6 hF
theorem BX35_addOuter_b85 {σo : fS} {q : Unit × fS} {s : fS} {l1 : Int} {l2 : Int} (E : bE 1 σo s) (hF : FX35_addOuter_b85 l1 l2 s = some q) : bE 1 σo q.2 := by
  unfold FX35_addOuter_b85 at hF
  refine b_if hF (fun hF => ?_) (fun hF => ?_)
  ·
    exact BX35_addOuter_b95 E hF
  ·
    refine b_if hF (fun hF => ?_) (fun hF => ?_)
    ·
      exact BX35_addOuter_b121 E hF
    ·
      exact BX35_addOuter_b95 E hF
theorem BX35_addOuter {σo : fS} {q : Unit × fS} {s : fS} {p0 : Int} (E : bE 1 σo s) (hF : FX35_addOuter p0 s = some q) : bE 1 σo q.2 := by
  unfold FX35_addOuter at hF
  refine b_rv hF (fun _ hF => ?_)
  refine b_if hF (fun hF => ?_) (fun hF => ?_)
  ·
    exact BX35_addOuter_b85 E hF
  ·
    refine b_rv hF (fun _ hF => ?_)
    refine b_pJ E (E.S.m1 (Nat.le_of_ble_eq_true rfl) (Nat.le_of_ble_eq_true rfl)) hF (fun _ D7 E7 hF => ?_)
    refine b_rv hF (fun _ hF => ?_)
    refine b_pJ E7 (E7.S.m1 (Nat.le_of_ble_eq_true rfl) (Nat.le_of_ble_eq_true rfl)) hF (fun _ D10 E10 hF => ?_)
    refine b_if hF (fun hF => ?_) (fun hF => ?_)
    ·
      exact BX35_addOuter_b85 E10 hF
    ·
      refine b_pJ E10 (E10.S.m1 (Nat.le_of_ble_eq_true rfl) (Nat.le_of_ble_eq_true rfl)) hF (fun _ D16 E16 hF => ?_)
      refine b_pJ E16 (E16.S.m1 (Nat.le_of_ble_eq_true rfl) (Nat.le_of_ble_eq_true rfl)) hF (fun _ D18 E18 hF => ?_)
      exact BX35_addOuter_b85 E18 hF
theorem BX35_nothing_b32 {σo : fS} {q : Unit × fS} {N : Nat} : ∀ {n : Nat} {s : fS} {l1 : Int}, bE 1 σo s → FX35_nothing_b32 N n l1 s = some q → bE 1 σo q.2 := by
  intro n
  induction n with
  | zero => intro s l1 E  hF; simp [FX35_nothing_b32] at hF
  | succ n ih =>
    intro s l1 E  hF
    rw [FX35_nothing_b32] at hF
    refine b_if hF (fun hF => ?_) (fun hF => ?_)
    ·
      exact b_ret E hF
    ·
      refine b_qJ E (E.S.m1 (Nat.le_of_ble_eq_true rfl) (Nat.le_of_ble_eq_true rfl)) hF (fun _ D2 E2 hF => ?_)
      exact ih E2 hF
theorem BX35_nothing {σo : fS} {q : Unit × fS} {N : Nat} {s : fS} (E : bE 1 σo s) (hF : FX35_nothing N s = some q) : bE 1 σo q.2 := by
  unfold FX35_nothing at hF
  refine b_pZ E (E.S.m1 (Nat.le_of_ble_eq_true rfl) (Nat.le_of_ble_eq_true rfl)) hF (fun _ D1 E1 hF => ?_)
  refine b_pJ E1 (E1.S.m1 (Nat.le_of_ble_eq_true rfl) (Nat.le_of_ble_eq_true rfl)) hF (fun _ D2 E2 hF => ?_)
  refine b_pJ E2 (E2.S.m1 (Nat.le_of_ble_eq_true rfl) (Nat.le_of_ble_eq_true rfl)) hF (fun _ D3 E3 hF => ?_)
  refine b_pJ E3 (E3.S.m1 (Nat.le_of_ble_eq_true rfl) (Nat.le_of_ble_eq_true rfl)) hF (fun _ D4 E4 hF => ?_)
  refine b_pJ E4 (E4.S.m1 (Nat.le_of_ble_eq_true rfl) (Nat.le_of_ble_eq_true rfl)) hF (fun _ D5 E5 hF => ?_)
  refine b_pJ E5 (E5.S.m1 (Nat.le_of_ble_eq_true rfl) (Nat.le_of_ble_eq_true rfl)) hF (fun _ D6 E6 hF => ?_)
  exact BX35_nothing_b32 (N := N) E6 hF
theorem BX35_addUpTo_b42 {σo : fS} {q : Unit × fS} {N : Nat} : ∀ {n : Nat} {s : fS} {l1 : Int} {l4 : Int}, bE 1 σo s → FX35_addUpTo_b42 N n l1 l4 s = some q → bE 1 σo q.2 := by
  intro n
  induction n with
  | zero => intro s l1 l4 E  hF; simp [FX35_addUpTo_b42] at hF
  | succ n ih =>
    intro s l1 l4 E  hF
    rw [FX35_addUpTo_b42] at hF
    refine b_if hF (fun hF => ?_) (fun hF => ?_)
    ·
      exact b_ret E hF
    ·
      refine b_call E (fun _ hq => (BX35_addOuter (bE.rf E.S) hq)) hF (fun _ hq2 D2 E2 hF => ?_)
      exact ih E2 hF
theorem BX35_addUpTo_b33 {σo : fS} {q : Unit × fS} {N : Nat} {s : fS} {l1 : Int} {s1 : Int} (E : bE 1 σo s) (hF : FX35_addUpTo_b33 N l1 s1 s = some q) : bE 1 σo q.2 := by
  unfold FX35_addUpTo_b33 at hF
  refine b_pJ E (E.S.m1 (Nat.le_of_ble_eq_true rfl) (Nat.le_of_ble_eq_true rfl)) hF (fun _ D1 E1 hF => ?_)
  exact BX35_addUpTo_b42 (N := N) E1 hF
theorem BX35_addUpTo {σo : fS} {q : Unit × fS} {N : Nat} {s : fS} {p0 : Int} (E : bE 1 σo s) (hF : FX35_addUpTo N p0 s = some q) : bE 1 σo q.2 := by
  unfold FX35_addUpTo at hF
  refine b_call E (fun _ hq => (BX35_nothing (N := N) (bE.rf E.S) hq)) hF (fun _ hq2 D2 E2 hF => ?_)
  refine b_rv hF (fun _ hF => ?_)
  refine b_if hF (fun hF => ?_) (fun hF => ?_)
  ·
    exact BX35_addUpTo_b33 (N := N) E2 hF
  ·
    exact BX35_addUpTo_b33 (N := N) E2 hF
theorem BX35_isNear_b21 {σo : fS} {q : Int × fS} {s : fS} {s0 : Int} (E : bE 1 σo s) (hF : FX35_isNear_b21 s0 s = some q) : bE 1 σo q.2 := by
  unfold FX35_isNear_b21 at hF
  exact b_z E hF
theorem BX35_isNear_b20 {σo : fS} {q : Int × fS} {s : fS} (E : bE 1 σo s) (hF : FX35_isNear_b20 s = some q) : bE 1 σo q.2 := by
  unfold FX35_isNear_b20 at hF
  exact BX35_isNear_b21 E hF
theorem BX35_isNear {σo : fS} {q : Int × fS} {s : fS} {p0 : Int} (E : bE 1 σo s) (hF : FX35_isNear p0 s = some q) : bE 1 σo q.2 := by
  unfold FX35_isNear at hF
  refine b_if hF (fun hF => ?_) (fun hF => ?_)
  ·
    exact BX35_isNear_b20 E hF
  ·
    refine b_if hF (fun hF => ?_) (fun hF => ?_)
    ·
      exact BX35_isNear_b20 E hF
    ·
      exact BX35_isNear_b21 E hF
theorem BX35_areNear_b153 {σo : fS} {q : Int × fS} {N : Nat} {K4 : Int → Int → fS → Option (Int × fS)} (hk4 : ∀ {s : fS} {l1 : Int} {l2 : Int}, bE 1 σo s → K4 l1 l2 s = some q → bE 1 σo q.2) {s : fS} {l2 : Int} {s0 : Int} (E : bE 1 σo s) (hF : FX35_areNear_b153 N K4 l2 s0 s = some q) : bE 1 σo q.2 := by
  unfold FX35_areNear_b153 at hF
  exact hk4 E hF
theorem BX35_areNear_b148 {σo : fS} {q : Int × fS} {N : Nat} {K4 : Int → Int → fS → Option (Int × fS)} (hk4 : ∀ {s : fS} {l1 : Int} {l2 : Int}, bE 1 σo s → K4 l1 l2 s = some q → bE 1 σo q.2) {s : fS} {l2 : Int} (E : bE 1 σo s) (hF : FX35_areNear_b148 N K4 l2 s = some q) : bE 1 σo q.2 := by
  unfold FX35_areNear_b148 at hF
  exact BX35_areNear_b153 (N := N) (K4 := K4) @hk4 E hF
theorem BX35_areNear_b152 {σo : fS} {q : Int × fS} {N : Nat} {K4 : Int → Int → fS → Option (Int × fS)} (hk4 : ∀ {s : fS} {l1 : Int} {l2 : Int}, bE 1 σo s → K4 l1 l2 s = some q → bE 1 σo q.2) {s : fS} {l2 : Int} (E : bE 1 σo s) (hF : FX35_areNear_b152 N K4 l2 s = some q) : bE 1 σo q.2 := by
  unfold FX35_areNear_b152 at hF
  exact BX35_areNear_b153 (N := N) (K4 := K4) @hk4 E hF
theorem BX35_areNear_b84 {σo : fS} {q : Int × fS} {N : Nat} {K4 : Int → Int → fS → Option (Int × fS)} (hk4 : ∀ {s : fS} {l1 : Int} {l2 : Int}, bE 1 σo s → K4 l1 l2 s = some q → bE 1 σo q.2) {s : fS} {l2 : Int} {l3 : Int} {s0 : Int} (E : bE 1 σo s) (hF : FX35_areNear_b84 N K4 l2 l3 s0 s = some q) : bE 1 σo q.2 := by
  unfold FX35_areNear_b84 at hF
  refine b_if hF (fun hF => ?_) (fun hF => ?_)
  ·
    exact BX35_areNear_b152 (N := N) (K4 := K4) @hk4 E hF
  ·
    refine b_if hF (fun hF => ?_) (fun hF => ?_)
    ·
      refine b_rv hF (fun _ hF => ?_)
      refine b_rv hF (fun _ hF => ?_)
      refine b_call E (fun _ hq => (BX35_isNear (bE.rf E.S) hq)) hF (fun _ hq5 D5 E5 hF => ?_)
      refine b_if hF (fun hF => ?_) (fun hF => ?_)
      ·
        exact BX35_areNear_b152 (N := N) (K4 := K4) @hk4 E5 hF
      ·
        exact BX35_areNear_b148 (N := N) (K4 := K4) @hk4 E5 hF
    ·
      refine b_rv hF (fun _ hF => ?_)
      refine b_if hF (fun hF => ?_) (fun hF => ?_)
      ·
        exact BX35_areNear_b152 (N := N) (K4 := K4) @hk4 E hF
      ·
        refine b_rv hF (fun _ hF => ?_)
        refine b_rv hF (fun _ hF => ?_)
        refine b_if hF (fun hF => ?_) (fun hF => ?_)
        ·
          exact BX35_areNear_b152 (N := N) (K4 := K4) @hk4 E hF
        ·
          exact BX35_areNear_b148 (N := N) (K4 := K4) @hk4 E hF
theorem BX35_areNear_b83 {σo : fS} {q : Int × fS} {N : Nat} {K4 : Int → Int → fS → Option (Int × fS)} (hk4 : ∀ {s : fS} {l1 : Int} {l2 : Int}, bE 1 σo s → K4 l1 l2 s = some q → bE 1 σo q.2) {s : fS} {l2 : Int} {l3 : Int} (E : bE 1 σo s) (hF : FX35_areNear_b83 N K4 l2 l3 s = some q) : bE 1 σo q.2 := by
  unfold FX35_areNear_b83 at hF
  exact BX35_areNear_b84 (N := N) (K4 := K4) @hk4 E hF
theorem BX35_areNear_b53 {σo : fS} {q : Int × fS} {N : Nat} {K4 : Int → Int → fS → Option (Int × fS)} (hk4 : ∀ {s : fS} {l1 : Int} {l2 : Int}, bE 1 σo s → K4 l1 l2 s = some q → bE 1 σo q.2) {s : fS} {l1 : Int} {l2 : Int} {l3 : Int} {s0 : Int} (E : bE 1 σo s) (hF : FX35_areNear_b53 N K4 l1 l2 l3 s0 s = some q) : bE 1 σo q.2 := by
  unfold FX35_areNear_b53 at hF
  refine b_if hF (fun hF => ?_) (fun hF => ?_)
  ·
    exact BX35_areNear_b83 (N := N) (K4 := K4) @hk4 E hF
  ·
    refine b_rv hF (fun _ hF => ?_)
    refine b_call E (fun _ hq => (BX35_isNear (bE.rf E.S) hq)) hF (fun _ hq3 D3 E3 hF => ?_)
    refine b_if hF (fun hF => ?_) (fun hF => ?_)
    ·
      exact BX35_areNear_b83 (N := N) (K4 := K4) @hk4 E3 hF
    ·
      refine b_call E3 (fun _ hq => (BX35_isNear (bE.rf E3.S) hq)) hF (fun _ hq4 D4 E4 hF => ?_)
      refine b_if hF (fun hF => ?_) (fun hF => ?_)
      ·
        exact BX35_areNear_b83 (N := N) (K4 := K4) @hk4 E4 hF
      ·
        exact BX35_areNear_b84 (N := N) (K4 := K4) @hk4 E4 hF
theorem BX35_areNear_b26 {σo : fS} {q : Int × fS} {N : Nat} {K4 : Int → Int → fS → Option (Int × fS)} (hk4 : ∀ {s : fS} {l1 : Int} {l2 : Int}, bE 1 σo s → K4 l1 l2 s = some q → bE 1 σo q.2) {s : fS} {l1 : Int} {l2 : Int} {s0 : Int} (E : bE 1 σo s) (hF : FX35_areNear_b26 N K4 l1 l2 s0 s = some q) : bE 1 σo q.2 := by
  unfold FX35_areNear_b26 at hF
  refine b_if hF (fun hF => ?_) (fun hF => ?_)
  ·
    refine b_rv hF (fun _ hF => ?_)
    exact BX35_areNear_b53 (N := N) (K4 := K4) @hk4 E hF
  ·
    refine b_rv hF (fun _ hF => ?_)
    refine b_rv hF (fun _ hF => ?_)
    exact BX35_areNear_b53 (N := N) (K4 := K4) @hk4 E hF
theorem BX35_areNear_b4 {σo : fS} {q : Int × fS} {N : Nat} : ∀ {n : Nat} {s : fS} {l1 : Int} {l2 : Int}, bE 1 σo s → FX35_areNear_b4 N n l1 l2 s = some q → bE 1 σo q.2 := by
  intro n
  induction n with
  | zero => intro s l1 l2 E  hF; simp [FX35_areNear_b4] at hF
  | succ n ih =>
    intro s l1 l2 E  hF
    rw [FX35_areNear_b4] at hF
    refine b_if hF (fun hF => ?_) (fun hF => ?_)
    ·
      exact b_z E hF
    ·
      refine b_rv hF (fun _ hF => ?_)
      refine b_if hF (fun hF => ?_) (fun hF => ?_)
      ·
        exact BX35_areNear_b26 (N := N) (K4 := FX35_areNear_b4 N n) @ih E hF
      ·
        exact BX35_areNear_b26 (N := N) (K4 := FX35_areNear_b4 N n) @ih E hF
theorem BX35_areNear {σo : fS} {q : Int × fS} {N : Nat} {s : fS} (E : bE 1 σo s) (hF : FX35_areNear N s = some q) : bE 1 σo q.2 := by
  unfold FX35_areNear at hF
  exact BX35_areNear_b4 (N := N) E hF
theorem BX35_now {σo : fS} {q : Int × fS} {s : fS} {p0 : Int} (E : bE 1 σo s) (hF : FX35_now p0 s = some q) : bE 1 σo q.2 := by
  unfold FX35_now at hF
  refine b_rv hF (fun _ hF => ?_)
  exact b_ret E hF
theorem BX35_around {σo : fS} {q : Unit × fS} {s : fS} {p0 : Int} {p1 : Int} (E : bE 1 σo s) (hF : FX35_around p0 p1 s = some q) : bE 1 σo q.2 := by
  unfold FX35_around at hF
  refine b_call E (fun _ hq => (BX35_now (bE.rf E.S) hq)) hF (fun _ hq4 D4 E4 hF => ?_)
  refine b_qI E4 (E4.S.m1 (Nat.le_of_ble_eq_true rfl) (Nat.le_of_ble_eq_true rfl)) hF (fun _ D5 E5 hF => ?_)
  refine b_call E5 (fun _ hq => (BX35_now (bE.rf E5.S) hq)) hF (fun _ hq9 D9 E9 hF => ?_)
  refine b_qI E9 (E9.S.m1 (Nat.le_of_ble_eq_true rfl) (Nat.le_of_ble_eq_true rfl)) hF (fun _ D10 E10 hF => ?_)
  refine b_call E10 (fun _ hq => (BX35_now (bE.rf E10.S) hq)) hF (fun _ hq14 D14 E14 hF => ?_)
  refine b_qI E14 (E14.S.m1 (Nat.le_of_ble_eq_true rfl) (Nat.le_of_ble_eq_true rfl)) hF (fun _ D15 E15 hF => ?_)
  refine b_call E15 (fun _ hq => (BX35_now (bE.rf E15.S) hq)) hF (fun _ hq19 D19 E19 hF => ?_)
  refine b_qI E19 (E19.S.m1 (Nat.le_of_ble_eq_true rfl) (Nat.le_of_ble_eq_true rfl)) hF (fun _ D20 E20 hF => ?_)
  exact b_ret E20 hF
theorem BX35_fail_b16 {σo : fS} {q : Unit × fS} {s : fS} {s1 : Int} (E : bE 1 σo s) (hF : FX35_fail_b16 s1 s = some q) : bE 1 σo q.2 := by
  unfold FX35_fail_b16 at hF
  refine b_pI E (E.S.m1 (Nat.le_of_ble_eq_true rfl) (Nat.le_of_ble_eq_true rfl)) hF (fun _ D1 E1 hF => ?_)
  exact b_ret E1 hF
theorem BX35_fail {σo : fS} {q : Unit × fS} {s : fS} {p0 : Int} (E : bE 1 σo s) (hF : FX35_fail p0 s = some q) : bE 1 σo q.2 := by
  unfold FX35_fail at hF
  refine b_if hF (fun hF => ?_) (fun hF => ?_)
  ·
    exact BX35_fail_b16 E hF
  ·
    exact BX35_fail_b16 E hF
theorem BX35_small_b39 {σo : fS} {q : Int × fS} {SN : fS → Option (Int × fS)} (hsN : ∀ {s : fS} {q}, bS 1 s → SN s = some q → bE 1 s q.2) {s : fS} {s0 : Int} (E : bE 1 σo s) (hF : FX35_small_b39 SN s0 s = some q) : bE 1 σo q.2 := by
  unfold FX35_small_b39 at hF
  exact b_ret E hF
theorem BX35_small_b27 {σo : fS} {q : Int × fS} {SN : fS → Option (Int × fS)} (hsN : ∀ {s : fS} {q}, bS 1 s → SN s = some q → bE 1 s q.2) {s : fS} {l2 : Int} (E : bE 1 σo s) (hF : FX35_small_b27 SN l2 s = some q) : bE 1 σo q.2 := by
  unfold FX35_small_b27 at hF
  refine b_if hF (fun hF => ?_) (fun hF => ?_)
  ·
    exact BX35_small_b39 (SN := SN) @hsN E hF
  ·
    exact BX35_small_b39 (SN := SN) @hsN E hF
theorem BX35_small_b21 {σo : fS} {q : Int × fS} {SN : fS → Option (Int × fS)} (hsN : ∀ {s : fS} {q}, bS 1 s → SN s = some q → bE 1 s q.2) {s : fS} {l2 : Int} (E : bE 1 σo s) (hF : FX35_small_b21 SN l2 s = some q) : bE 1 σo q.2 := by
  unfold FX35_small_b21 at hF
  refine b_call E (fun _ hq => (BX35_fail (bE.rf E.S) hq)) hF (fun _ hq2 D2 E2 hF => ?_)
  exact BX35_small_b27 (SN := SN) @hsN E2 hF
theorem BX35_small {σo : fS} {q : Int × fS} {SN : fS → Option (Int × fS)} (hsN : ∀ {s : fS} {q}, bS 1 s → SN s = some q → bE 1 s q.2) {s : fS} {p0 : Int} (E : bE 1 σo s) (hF : FX35_small SN p0 s = some q) : bE 1 σo q.2 := by
  unfold FX35_small at hF
  refine b_call E (fun _ hq => (hsN E.S hq)) hF (fun _ hq2 D2 E2 hF => ?_)
  refine b_if hF (fun hF => ?_) (fun hF => ?_)
  ·
    exact BX35_small_b27 (SN := SN) @hsN E2 hF
  ·
    refine b_if hF (fun hF => ?_) (fun hF => ?_)
    ·
      exact BX35_small_b21 (SN := SN) @hsN E2 hF
    ·
      refine b_if hF (fun hF => ?_) (fun hF => ?_)
      ·
        exact BX35_small_b27 (SN := SN) @hsN E2 hF
      ·
        exact BX35_small_b21 (SN := SN) @hsN E2 hF
theorem BX35_at_b104 {σo : fS} {q : Int × fS} {SN : fS → Option (Int × fS)} (hsN : ∀ {s : fS} {q}, bS 1 s → SN s = some q → bE 1 s q.2) {s : fS} {s0 : Int} (E : bE 1 σo s) (hF : FX35_at_b104 SN s0 s = some q) : bE 1 σo q.2 := by
  unfold FX35_at_b104 at hF
  exact b_ret E hF
theorem BX35_at {σo : fS} {q : Int × fS} {SN : fS → Option (Int × fS)} (hsN : ∀ {s : fS} {q}, bS 1 s → SN s = some q → bE 1 s q.2) {s : fS} {p0 : Int} (E : bE 1 σo s) (hF : FX35_at SN p0 s = some q) : bE 1 σo q.2 := by
  unfold FX35_at at hF
  refine b_if hF (fun hF => ?_) (fun hF => ?_)
  ·
    refine b_if hF (fun hF => ?_) (fun hF => ?_)
    ·
      refine b_if hF (fun hF => ?_) (fun hF => ?_)
      ·
        refine b_if hF (fun hF => ?_) (fun hF => ?_)
        ·
          refine b_if hF (fun hF => ?_) (fun hF => ?_)
          ·
            exact BX35_at_b104 (SN := SN) @hsN E hF
          ·
            exact BX35_at_b104 (SN := SN) @hsN E hF
        ·
          exact BX35_at_b104 (SN := SN) @hsN E hF
      ·
        refine b_call E (fun _ hq => (BX35_small (SN := SN) @hsN (bE.rf E.S) hq)) hF (fun _ hq2 D2 E2 hF => ?_)
        exact b_ret E2 hF
    ·
      refine b_call E (fun _ hq => (BX35_small (SN := SN) @hsN (bE.rf E.S) hq)) hF (fun _ hq4 D4 E4 hF => ?_)
      exact b_ret E4 hF
  ·
    refine b_call E (fun _ hq => (BX35_small (SN := SN) @hsN (bE.rf E.S) hq)) hF (fun _ hq6 D6 E6 hF => ?_)
    exact b_ret E6 hF
theorem BX35_bad_b82 {σo : fS} {q : Int × fS} {s : fS} {s0 : Int} (E : bE 1 σo s) (hF : FX35_bad_b82 s0 s = some q) : bE 1 σo q.2 := by
  unfold FX35_bad_b82 at hF
  exact b_ret E hF
theorem BX35_bad_b50 {σo : fS} {q : Int × fS} {s : fS} {l4 : Int} (E : bE 1 σo s) (hF : FX35_bad_b50 l4 s = some q) : bE 1 σo q.2 := by
  unfold FX35_bad_b50 at hF
  refine b_if hF (fun hF => ?_) (fun hF => ?_)
  ·
    exact BX35_bad_b82 E hF
  ·
    exact BX35_bad_b82 E hF
theorem BX35_bad {σo : fS} {q : Int × fS} {s : fS} {p0 : Int} {p1 : Int} (E : bE 1 σo s) (hF : FX35_bad p0 p1 s = some q) : bE 1 σo q.2 := by
  unfold FX35_bad at hF
  refine b_if hF (fun hF => ?_) (fun hF => ?_)
  ·
    refine b_if hF (fun hF => ?_) (fun hF => ?_)
    ·
      refine b_if hF (fun hF => ?_) (fun hF => ?_)
      ·
        exact BX35_bad_b50 E hF
      ·
        refine b_dv hF (fun hF => ?_)
        exact BX35_bad_b50 E hF
    ·
      refine b_dv hF (fun hF => ?_)
      exact BX35_bad_b50 E hF
  ·
    exact b_ret E hF
theorem BX35_badness_b64 {σo : fS} {q : Int × fS} {s : fS} {s0 : Int} (E : bE 1 σo s) (hF : FX35_badness_b64 s0 s = some q) : bE 1 σo q.2 := by
  unfold FX35_badness_b64 at hF
  exact b_ret E hF
theorem BX35_badness_b90 {σo : fS} {q : Int × fS} {s : fS} {s0 : Int} (E : bE 1 σo s) (hF : FX35_badness_b90 s0 s = some q) : bE 1 σo q.2 := by
  unfold FX35_badness_b90 at hF
  exact b_ret E hF
theorem BX35_badness {σo : fS} {q : Int × fS} {s : fS} (E : bE 1 σo s) (hF : FX35_badness s = some q) : bE 1 σo q.2 := by
  unfold FX35_badness at hF
  refine b_if hF (fun hF => ?_) (fun hF => ?_)
  ·
    refine b_if hF (fun hF => ?_) (fun hF => ?_)
    ·
      refine b_if hF (fun hF => ?_) (fun hF => ?_)
      ·
        refine b_call E (fun _ hq => (BX35_bad (bE.rf E.S) hq)) hF (fun _ hq5 D5 E5 hF => ?_)
        exact BX35_badness_b90 E5 hF
      ·
        exact BX35_badness_b90 E hF
    ·
      refine b_rv hF (fun _ hF => ?_)
      refine b_rv hF (fun _ hF => ?_)
      refine b_rv hF (fun _ hF => ?_)
      refine b_if hF (fun hF => ?_) (fun hF => ?_)
      ·
        refine b_rv hF (fun _ hF => ?_)
        refine b_call E (fun _ hq => (BX35_bad (bE.rf E.S) hq)) hF (fun _ hq14 D14 E14 hF => ?_)
        exact BX35_badness_b64 E14 hF
      ·
        exact BX35_badness_b64 E hF
  ·
    exact b_ret E hF
theorem BX35_bare_b16 {σo : fS} {q : Int × fS} {s : fS} {s0 : Int} (E : bE 1 σo s) (hF : FX35_bare_b16 s0 s = some q) : bE 1 σo q.2 := by
  unfold FX35_bare_b16 at hF
  exact b_ret E hF
theorem BX35_bare {σo : fS} {q : Int × fS} {s : fS} {p0 : Int} (E : bE 1 σo s) (hF : FX35_bare p0 s = some q) : bE 1 σo q.2 := by
  unfold FX35_bare at hF
  refine b_if hF (fun hF => ?_) (fun hF => ?_)
  ·
    exact BX35_bare_b16 E hF
  ·
    exact BX35_bare_b16 E hF
theorem BX35_isCharacter_b15 {σo : fS} {q : Int × fS} {s : fS} {s0 : Int} (E : bE 1 σo s) (hF : FX35_isCharacter_b15 s0 s = some q) : bE 1 σo q.2 := by
  unfold FX35_isCharacter_b15 at hF
  exact b_z E hF
theorem BX35_isCharacter_b14 {σo : fS} {q : Int × fS} {s : fS} (E : bE 1 σo s) (hF : FX35_isCharacter_b14 s = some q) : bE 1 σo q.2 := by
  unfold FX35_isCharacter_b14 at hF
  exact BX35_isCharacter_b15 E hF
theorem BX35_isCharacter {σo : fS} {q : Int × fS} {s : fS} {p0 : Int} (E : bE 1 σo s) (hF : FX35_isCharacter p0 s = some q) : bE 1 σo q.2 := by
  unfold FX35_isCharacter at hF
  refine b_if hF (fun hF => ?_) (fun hF => ?_)
  ·
    exact BX35_isCharacter_b14 E hF
  ·
    refine b_if hF (fun hF => ?_) (fun hF => ?_)
    ·
      exact BX35_isCharacter_b14 E hF
    ·
      exact BX35_isCharacter_b15 E hF
theorem BX35_isOf_b21 {σo : fS} {q : Int × fS} {s : fS} {s0 : Int} (E : bE 1 σo s) (hF : FX35_isOf_b21 s0 s = some q) : bE 1 σo q.2 := by
  unfold FX35_isOf_b21 at hF
  exact b_z E hF
theorem BX35_isOf_b20 {σo : fS} {q : Int × fS} {s : fS} (E : bE 1 σo s) (hF : FX35_isOf_b20 s = some q) : bE 1 σo q.2 := by
  unfold FX35_isOf_b20 at hF
  exact BX35_isOf_b21 E hF
theorem BX35_isOf {σo : fS} {q : Int × fS} {s : fS} {p0 : Int} {p1 : Int} (E : bE 1 σo s) (hF : FX35_isOf p0 p1 s = some q) : bE 1 σo q.2 := by
  unfold FX35_isOf at hF
  refine b_call E (fun _ hq => (BX35_isCharacter (bE.rf E.S) hq)) hF (fun _ hq1 D1 E1 hF => ?_)
  refine b_if hF (fun hF => ?_) (fun hF => ?_)
  ·
    exact BX35_isOf_b20 E1 hF
  ·
    refine b_if hF (fun hF => ?_) (fun hF => ?_)
    ·
      exact BX35_isOf_b20 E1 hF
    ·
      exact BX35_isOf_b21 E1 hF
theorem BX35_bareOf_b29 {σo : fS} {q : Unit × fS} {N : Nat} {s : fS} (E : bE 1 σo s) (hF : FX35_bareOf_b29 N s = some q) : bE 1 σo q.2 := by
  unfold FX35_bareOf_b29 at hF
  exact b_ret E hF
theorem BX35_bareOf_b101 {σo : fS} {q : Unit × fS} {N : Nat} {K35 : Int → Int → Int → Int → fS → Option (Unit × fS)} (hk35 : ∀ {s : fS} {l1 : Int} {l2 : Int} {l3 : Int} {l4 : Int}, bE 1 σo s → K35 l1 l2 l3 l4 s = some q → bE 1 σo q.2) {s : fS} {l1 : Int} {l2 : Int} {l3 : Int} {l4 : Int} (E : bE 1 σo s) (hF : FX35_bareOf_b101 N K35 l1 l2 l3 l4 s = some q) : bE 1 σo q.2 := by
  unfold FX35_bareOf_b101 at hF
  exact hk35 E hF
theorem BX35_bareOf_b87 {σo : fS} {q : Unit × fS} {N : Nat} {K35 : Int → Int → Int → Int → fS → Option (Unit × fS)} (hk35 : ∀ {s : fS} {l1 : Int} {l2 : Int} {l3 : Int} {l4 : Int}, bE 1 σo s → K35 l1 l2 l3 l4 s = some q → bE 1 σo q.2) {s : fS} {l1 : Int} {l2 : Int} {l4 : Int} {s0 : Int} (E : bE 1 σo s) (hF : FX35_bareOf_b87 N K35 l1 l2 l4 s0 s = some q) : bE 1 σo q.2 := by
  unfold FX35_bareOf_b87 at hF
  refine b_if hF (fun hF => ?_) (fun hF => ?_)
  ·
    exact BX35_bareOf_b101 (N := N) (K35 := K35) @hk35 E hF
  ·
    refine b_if hF (fun hF => ?_) (fun hF => ?_)
    ·
      exact BX35_bareOf_b101 (N := N) (K35 := K35) @hk35 E hF
    ·
      exact b_ret E hF
theorem BX35_bareOf_b110 {σo : fS} {q : Unit × fS} {N : Nat} : ∀ {n : Nat} {s : fS} {l1 : Int} {l2 : Int} {l4 : Int}, bE 1 σo s → FX35_bareOf_b110 N n l1 l2 l4 s = some q → bE 1 σo q.2 := by
  intro n
  induction n with
  | zero => intro s l1 l2 l4 E  hF; simp [FX35_bareOf_b110] at hF
  | succ n ih =>
    intro s l1 l2 l4 E  hF
    rw [FX35_bareOf_b110] at hF
    refine b_if hF (fun hF => ?_) (fun hF => ?_)
    ·
      refine b_qI E (E.S.m1 (Nat.le_of_ble_eq_true rfl) (Nat.le_of_ble_eq_true rfl)) hF (fun _ D2 E2 hF => ?_)
      exact b_ret E2 hF
    ·
      refine b_rv hF (fun _ hF => ?_)
      refine b_qI E (E.S.m1 (Nat.le_of_ble_eq_true rfl) (Nat.le_of_ble_eq_true rfl)) hF (fun _ D6 E6 hF => ?_)
      exact ih E6 hF
theorem BX35_bareOf_b35 {σo : fS} {q : Unit × fS} {N : Nat} : ∀ {n : Nat} {s : fS} {l1 : Int} {l2 : Int} {l3 : Int} {l4 : Int}, bE 1 σo s → FX35_bareOf_b35 N n l1 l2 l3 l4 s = some q → bE 1 σo q.2 := by
  intro n
  induction n with
  | zero => intro s l1 l2 l3 l4 E  hF; simp [FX35_bareOf_b35] at hF
  | succ n ih =>
    intro s l1 l2 l3 l4 E  hF
    rw [FX35_bareOf_b35] at hF
    refine b_if hF (fun hF => ?_) (fun hF => ?_)
    ·
      exact BX35_bareOf_b110 (N := N) E hF
    ·
      refine b_rv hF (fun _ hF => ?_)
      refine b_call E (fun _ hq => (BX35_isOf (bE.rf E.S) hq)) hF (fun _ hq3 D3 E3 hF => ?_)
      refine b_if hF (fun hF => ?_) (fun hF => ?_)
      ·
        refine b_call E3 (fun _ hq => (BX35_isOf (bE.rf E3.S) hq)) hF (fun _ hq4 D4 E4 hF => ?_)
        refine b_if hF (fun hF => ?_) (fun hF => ?_)
        ·
          exact BX35_bareOf_b87 (N := N) (K35 := FX35_bareOf_b35 N n) @ih E4 hF
        ·
          exact BX35_bareOf_b87 (N := N) (K35 := FX35_bareOf_b35 N n) @ih E4 hF
      ·
        exact BX35_bareOf_b87 (N := N) (K35 := FX35_bareOf_b35 N n) @ih E3 hF
theorem BX35_bareOf {σo : fS} {q : Unit × fS} {N : Nat} {s : fS} {p0 : Int} (E : bE 1 σo s) (hF : FX35_bareOf N p0 s = some q) : bE 1 σo q.2 := by
  unfold FX35_bareOf at hF
  refine b_rv hF (fun _ hF => ?_)
  refine b_if hF (fun hF => ?_) (fun hF => ?_)
  ·
    exact BX35_bareOf_b29 (N := N) E hF
  ·
    refine b_rv hF (fun _ hF => ?_)
    refine b_call E (fun _ hq => (BX35_isOf (bE.rf E.S) hq)) hF (fun _ hq5 D5 E5 hF => ?_)
    refine b_if hF (fun hF => ?_) (fun hF => ?_)
    ·
      exact BX35_bareOf_b35 (N := N) E5 hF
    ·
      exact BX35_bareOf_b29 (N := N) E5 hF
theorem BX35_beginLine_b82 {σo : fS} {q : Int × fS} {N : Nat} : ∀ {n : Nat} {s : fS} {l1 : Int} {l2 : Int} {l3 : Int}, bE 1 σo s → FX35_beginLine_b82 N n l1 l2 l3 s = some q → bE 1 σo q.2 := by
  intro n
  induction n with
  | zero => intro s l1 l2 l3 E  hF; simp [FX35_beginLine_b82] at hF
  | succ n ih =>
    intro s l1 l2 l3 E  hF
    rw [FX35_beginLine_b82] at hF
    refine b_if hF (fun hF => ?_) (fun hF => ?_)
    ·
      refine b_qI E (E.S.m1 (Nat.le_of_ble_eq_true rfl) (Nat.le_of_ble_eq_true rfl)) hF (fun _ D3 E3 hF => ?_)
      refine b_pI E3 (E3.S.m1 (Nat.le_of_ble_eq_true rfl) (Nat.le_of_ble_eq_true rfl)) hF (fun _ D5 E5 hF => ?_)
      refine b_pI E5 (E5.S.m1 (Nat.le_of_ble_eq_true rfl) (Nat.le_of_ble_eq_true rfl)) hF (fun _ D6 E6 hF => ?_)
      refine b_pI E6 (E6.S.m1 (Nat.le_of_ble_eq_true rfl) (Nat.le_of_ble_eq_true rfl)) hF (fun _ D7 E7 hF => ?_)
      refine b_pI E7 (E7.S.m1 (Nat.le_of_ble_eq_true rfl) (Nat.le_of_ble_eq_true rfl)) hF (fun _ D9 E9 hF => ?_)
      refine b_pI E9 (E9.S.m1 (Nat.le_of_ble_eq_true rfl) (Nat.le_of_ble_eq_true rfl)) hF (fun _ D10 E10 hF => ?_)
      exact b_ret E10 hF
    ·
      refine b_rv hF (fun _ hF => ?_)
      refine b_qI E (E.S.m1 (Nat.le_of_ble_eq_true rfl) (Nat.le_of_ble_eq_true rfl)) hF (fun _ D15 E15 hF => ?_)
      refine b_pI E15 (E15.S.m1 (Nat.le_of_ble_eq_true rfl) (Nat.le_of_ble_eq_true rfl)) hF (fun _ D17 E17 hF => ?_)
      exact ih E17 hF
theorem BX35_beginLine_b72 {σo : fS} {q : Int × fS} {N : Nat} {s : fS} {l1 : Int} {l2 : Int} (E : bE 1 σo s) (hF : FX35_beginLine_b72 N l1 l2 s = some q) : bE 1 σo q.2 := by
  unfold FX35_beginLine_b72 at hF
  refine b_pI E (E.S.m1 (Nat.le_of_ble_eq_true rfl) (Nat.le_of_ble_eq_true rfl)) hF (fun _ D1 E1 hF => ?_)
  exact BX35_beginLine_b82 (N := N) E1 hF
theorem BX35_beginLine_b45 {σo : fS} {q : Int × fS} {N : Nat} : ∀ {n : Nat} {s : fS} {l1 : Int} {l2 : Int}, bE 1 σo s → FX35_beginLine_b45 N n l1 l2 s = some q → bE 1 σo q.2 := by
  intro n
  induction n with
  | zero => intro s l1 l2 E  hF; simp [FX35_beginLine_b45] at hF
  | succ n ih =>
    intro s l1 l2 E  hF
    rw [FX35_beginLine_b45] at hF
    refine b_if hF (fun hF => ?_) (fun hF => ?_)
    ·
      exact BX35_beginLine_b72 (N := N) E hF
    ·
      refine b_rv hF (fun _ hF => ?_)
      refine b_if hF (fun hF => ?_) (fun hF => ?_)
      ·
        exact BX35_beginLine_b72 (N := N) E hF
      ·
        exact ih E hF
theorem BX35_beginLine_b43 {σo : fS} {q : Int × fS} {N : Nat} {s : fS} {l1 : Int} (E : bE 1 σo s) (hF : FX35_beginLine_b43 N l1 s = some q) : bE 1 σo q.2 := by
  unfold FX35_beginLine_b43 at hF
  exact BX35_beginLine_b45 (N := N) E hF
theorem BX35_beginLine_b18 {σo : fS} {q : Int × fS} {N : Nat} : ∀ {n : Nat} {s : fS} {l1 : Int}, bE 1 σo s → FX35_beginLine_b18 N n l1 s = some q → bE 1 σo q.2 := by
  intro n
  induction n with
  | zero => intro s l1 E  hF; simp [FX35_beginLine_b18] at hF
  | succ n ih =>
    intro s l1 E  hF
    rw [FX35_beginLine_b18] at hF
    refine b_if hF (fun hF => ?_) (fun hF => ?_)
    ·
      exact BX35_beginLine_b43 (N := N) E hF
    ·
      refine b_rv hF (fun _ hF => ?_)
      refine b_if hF (fun hF => ?_) (fun hF => ?_)
      ·
        exact BX35_beginLine_b43 (N := N) E hF
      ·
        exact ih E hF
theorem BX35_beginLine {σo : fS} {q : Int × fS} {N : Nat} {s : fS} (E : bE 1 σo s) (hF : FX35_beginLine N s = some q) : bE 1 σo q.2 := by
  unfold FX35_beginLine at hF
  refine b_if hF (fun hF => ?_) (fun hF => ?_)
  ·
    exact BX35_beginLine_b18 (N := N) E hF
  ·
    exact b_ret E hF
theorem BX35_mode {σo : fS} {q : Int × fS} {s : fS} (E : bE 1 σo s) (hF : FX35_mode s = some q) : bE 1 σo q.2 := by
  unfold FX35_mode at hF
  refine b_rv hF (fun _ hF => ?_)
  exact b_ret E hF
theorem BX35_openPage_b86 {σo : fS} {q : Unit × fS} {N : Nat} {K0 : fS → Option (Unit × fS)} (hk0 : ∀ {s : fS} , bE 1 σo s → K0 s = some q → bE 1 σo q.2) {s : fS} {s1 : Int} (E : bE 1 σo s) (hF : FX35_openPage_b86 N K0 s1 s = some q) : bE 1 σo q.2 := by
  unfold FX35_openPage_b86 at hF
  refine b_pI E (E.S.m1 (Nat.le_of_ble_eq_true rfl) (Nat.le_of_ble_eq_true rfl)) hF (fun _ D1 E1 hF => ?_)
  exact hk0 E1 hF
theorem BX35_openPage_b62 {σo : fS} {q : Unit × fS} {N : Nat} {K0 : fS → Option (Unit × fS)} (hk0 : ∀ {s : fS} , bE 1 σo s → K0 s = some q → bE 1 σo q.2) {s : fS} {l2 : Int} {s1 : Int} (E : bE 1 σo s) (hF : FX35_openPage_b62 N K0 l2 s1 s = some q) : bE 1 σo q.2 := by
  unfold FX35_openPage_b62 at hF
  refine b_pI E (E.S.m1 (Nat.le_of_ble_eq_true rfl) (Nat.le_of_ble_eq_true rfl)) hF (fun _ D1 E1 hF => ?_)
  refine b_call E1 (fun _ hq => (BX35_now (bE.rf E1.S) hq)) hF (fun _ hq3 D3 E3 hF => ?_)
  refine b_pI E3 (E3.S.m1 (Nat.le_of_ble_eq_true rfl) (Nat.le_of_ble_eq_true rfl)) hF (fun _ D4 E4 hF => ?_)
  refine b_if hF (fun hF => ?_) (fun hF => ?_)
  ·
    exact BX35_openPage_b86 (N := N) (K0 := K0) @hk0 E4 hF
  ·
    exact BX35_openPage_b86 (N := N) (K0 := K0) @hk0 E4 hF
theorem BX35_openPage_b105 {σo : fS} {q : Unit × fS} {N : Nat} {s : fS} (E : bE 1 σo s) (hF : FX35_openPage_b105 N s = some q) : bE 1 σo q.2 := by
  unfold FX35_openPage_b105 at hF
  exact b_ret E hF
theorem BX35_openPage_b0 {σo : fS} {q : Unit × fS} {N : Nat} : ∀ {n : Nat} {s : fS} , bE 1 σo s → FX35_openPage_b0 N n s = some q → bE 1 σo q.2 := by
  intro n
  induction n with
  | zero => intro s  E  hF; simp [FX35_openPage_b0] at hF
  | succ n ih =>
    intro s  E  hF
    rw [FX35_openPage_b0] at hF
    refine b_if hF (fun hF => ?_) (fun hF => ?_)
    ·
      exact BX35_openPage_b105 (N := N) E hF
    ·
      refine b_if hF (fun hF => ?_) (fun hF => ?_)
      ·
        exact BX35_openPage_b105 (N := N) E hF
      ·
        refine b_rv hF (fun _ hF => ?_)
        refine b_if hF (fun hF => ?_) (fun hF => ?_)
        ·
          refine b_pI E (E.S.m1 (Nat.le_of_ble_eq_true rfl) (Nat.le_of_ble_eq_true rfl)) hF (fun _ D8 E8 hF => ?_)
          exact ih E8 hF
        ·
          refine b_pZ E (E.S.m1 (Nat.le_of_ble_eq_true rfl) (Nat.le_of_ble_eq_true rfl)) hF (fun _ D9 E9 hF => ?_)
          refine b_call E9 (fun _ hq => (BX35_now (bE.rf E9.S) hq)) hF (fun _ hq11 D11 E11 hF => ?_)
          refine b_call E11 (fun _ hq => (BX35_now (bE.rf E11.S) hq)) hF (fun _ hq13 D13 E13 hF => ?_)
          refine b_if hF (fun hF => ?_) (fun hF => ?_)
          ·
            exact BX35_openPage_b62 (N := N) (K0 := FX35_openPage_b0 N n) @ih E13 hF
          ·
            exact BX35_openPage_b62 (N := N) (K0 := FX35_openPage_b0 N n) @ih E13 hF
theorem BX35_openPage {σo : fS} {q : Unit × fS} {N : Nat} {s : fS} (E : bE 1 σo s) (hF : FX35_openPage N s = some q) : bE 1 σo q.2 := by
  unfold FX35_openPage at hF
  exact BX35_openPage_b0 (N := N) E hF
theorem BX35_penaltyAt_b29 {σo : fS} {q : Int × fS} {s : fS} {s0 : Int} (E : bE 1 σo s) (hF : FX35_penaltyAt_b29 s0 s = some q) : bE 1 σo q.2 := by
  unfold FX35_penaltyAt_b29 at hF
  exact b_ret E hF
theorem BX35_penaltyAt_b69 {σo : fS} {q : Int × fS} {s : fS} {s0 : Int} (E : bE 1 σo s) (hF : FX35_penaltyAt_b69 s0 s = some q) : bE 1 σo q.2 := by
  unfold FX35_penaltyAt_b69 at hF
  exact b_ret E hF
theorem BX35_penaltyAt_b66 {σo : fS} {q : Int × fS} {s : fS} (E : bE 1 σo s) (hF : FX35_penaltyAt_b66 s = some q) : bE 1 σo q.2 := by
  unfold FX35_penaltyAt_b66 at hF
  exact BX35_penaltyAt_b69 E hF
theorem BX35_penaltyAt_b92 {σo : fS} {q : Int × fS} {s : fS} {s0 : Int} (E : bE 1 σo s) (hF : FX35_penaltyAt_b92 s0 s = some q) : bE 1 σo q.2 := by
  unfold FX35_penaltyAt_b92 at hF
  exact b_ret E hF
theorem BX35_penaltyAt {σo : fS} {q : Int × fS} {s : fS} {p0 : Int} (E : bE 1 σo s) (hF : FX35_penaltyAt p0 s = some q) : bE 1 σo q.2 := by
  unfold FX35_penaltyAt at hF
  refine b_rv hF (fun _ hF => ?_)
  refine b_if hF (fun hF => ?_) (fun hF => ?_)
  ·
    refine b_rv hF (fun _ hF => ?_)
    refine b_if hF (fun hF => ?_) (fun hF => ?_)
    ·
      refine b_rv hF (fun _ hF => ?_)
      refine b_if hF (fun hF => ?_) (fun hF => ?_)
      ·
        exact BX35_penaltyAt_b92 E hF
      ·
        refine b_rv hF (fun _ hF => ?_)
        exact BX35_penaltyAt_b92 E hF
    ·
      refine b_if hF (fun hF => ?_) (fun hF => ?_)
      ·
        exact BX35_penaltyAt_b66 E hF
      ·
        refine b_rv hF (fun _ hF => ?_)
        refine b_if hF (fun hF => ?_) (fun hF => ?_)
        ·
          exact BX35_penaltyAt_b66 E hF
        ·
          exact BX35_penaltyAt_b69 E hF
  ·
    refine b_rv hF (fun _ hF => ?_)
    refine b_if hF (fun hF => ?_) (fun hF => ?_)
    ·
      exact BX35_penaltyAt_b29 E hF
    ·
      exact BX35_penaltyAt_b29 E hF
theorem BX35_cost_b44 {σo : fS} {q : Int × fS} {s : fS} {s0 : Int} (E : bE 1 σo s) (hF : FX35_cost_b44 s0 s = some q) : bE 1 σo q.2 := by
  unfold FX35_cost_b44 at hF
  exact b_ret E hF
theorem BX35_cost {σo : fS} {q : Int × fS} {s : fS} {p0 : Int} (E : bE 1 σo s) (hF : FX35_cost p0 s = some q) : bE 1 σo q.2 := by
  unfold FX35_cost at hF
  refine b_call E (fun _ hq => (BX35_badness (bE.rf E.S) hq)) hF (fun _ hq2 D2 E2 hF => ?_)
  refine b_if hF (fun hF => ?_) (fun hF => ?_)
  ·
    refine b_if hF (fun hF => ?_) (fun hF => ?_)
    ·
      refine b_if hF (fun hF => ?_) (fun hF => ?_)
      ·
        exact BX35_cost_b44 E2 hF
      ·
        exact BX35_cost_b44 E2 hF
    ·
      exact BX35_cost_b44 E2 hF
  ·
    exact BX35_cost_b44 E2 hF
theorem BX35_breaks_b139 {σo : fS} {q : Int × fS} {N : Nat} {s : fS} (E : bE 1 σo s) (hF : FX35_breaks_b139 N s = some q) : bE 1 σo q.2 := by
  unfold FX35_breaks_b139 at hF
  exact b_ret E hF
theorem BX35_breaks_b141 {σo : fS} {q : Int × fS} {N : Nat} {K38 : Int → fS → Option (Int × fS)} (hk38 : ∀ {s : fS} {l1 : Int}, bE 1 σo s → K38 l1 s = some q → bE 1 σo q.2) {s : fS} {l1 : Int} (E : bE 1 σo s) (hF : FX35_breaks_b141 N K38 l1 s = some q) : bE 1 σo q.2 := by
  unfold FX35_breaks_b141 at hF
  refine b_call E (fun _ hq => (BX35_addOuter (bE.rf E.S) hq)) hF (fun _ hq2 D2 E2 hF => ?_)
  exact hk38 E2 hF
theorem BX35_breaks_b122 {σo : fS} {q : Int × fS} {N : Nat} {K38 : Int → fS → Option (Int × fS)} (hk38 : ∀ {s : fS} {l1 : Int}, bE 1 σo s → K38 l1 s = some q → bE 1 σo q.2) {s : fS} {l1 : Int} {l2 : Int} {l3 : Int} {s1 : Int} (E : bE 1 σo s) (hF : FX35_breaks_b122 N K38 l1 l2 l3 s1 s = some q) : bE 1 σo q.2 := by
  unfold FX35_breaks_b122 at hF
  refine b_pI E (E.S.m1 (Nat.le_of_ble_eq_true rfl) (Nat.le_of_ble_eq_true rfl)) hF (fun _ D1 E1 hF => ?_)
  refine b_if hF (fun hF => ?_) (fun hF => ?_)
  ·
    exact BX35_breaks_b139 (N := N) E1 hF
  ·
    refine b_if hF (fun hF => ?_) (fun hF => ?_)
    ·
      exact BX35_breaks_b141 (N := N) (K38 := K38) @hk38 E1 hF
    ·
      exact BX35_breaks_b139 (N := N) E1 hF
theorem BX35_breaks_b102 {σo : fS} {q : Int × fS} {N : Nat} {K38 : Int → fS → Option (Int × fS)} (hk38 : ∀ {s : fS} {l1 : Int}, bE 1 σo s → K38 l1 s = some q → bE 1 σo q.2) {s : fS} {l1 : Int} {l2 : Int} {l3 : Int} {s1 : Int} (E : bE 1 σo s) (hF : FX35_breaks_b102 N K38 l1 l2 l3 s1 s = some q) : bE 1 σo q.2 := by
  unfold FX35_breaks_b102 at hF
  refine b_pI E (E.S.m1 (Nat.le_of_ble_eq_true rfl) (Nat.le_of_ble_eq_true rfl)) hF (fun _ D1 E1 hF => ?_)
  refine b_if hF (fun hF => ?_) (fun hF => ?_)
  ·
    exact BX35_breaks_b122 (N := N) (K38 := K38) @hk38 E1 hF
  ·
    exact BX35_breaks_b122 (N := N) (K38 := K38) @hk38 E1 hF
theorem BX35_breaks_b66 {σo : fS} {q : Int × fS} {N : Nat} {K38 : Int → fS → Option (Int × fS)} (hk38 : ∀ {s : fS} {l1 : Int}, bE 1 σo s → K38 l1 s = some q → bE 1 σo q.2) {s : fS} {l1 : Int} (E : bE 1 σo s) (hF : FX35_breaks_b66 N K38 l1 s = some q) : bE 1 σo q.2 := by
  unfold FX35_breaks_b66 at hF
  refine b_call E (fun _ hq => (BX35_penaltyAt (bE.rf E.S) hq)) hF (fun _ hq2 D2 E2 hF => ?_)
  refine b_if hF (fun hF => ?_) (fun hF => ?_)
  ·
    exact BX35_breaks_b141 (N := N) (K38 := K38) @hk38 E2 hF
  ·
    refine b_call E2 (fun _ hq => (BX35_cost (bE.rf E2.S) hq)) hF (fun _ hq4 D4 E4 hF => ?_)
    refine b_if hF (fun hF => ?_) (fun hF => ?_)
    ·
      exact BX35_breaks_b102 (N := N) (K38 := K38) @hk38 E4 hF
    ·
      exact BX35_breaks_b102 (N := N) (K38 := K38) @hk38 E4 hF
theorem BX35_breaks_b152 {σo : fS} {q : Int × fS} {N : Nat} {s : fS} (E : bE 1 σo s) (hF : FX35_breaks_b152 N s = some q) : bE 1 σo q.2 := by
  unfold FX35_breaks_b152 at hF
  exact b_ret E hF
theorem BX35_breaks_b38 {σo : fS} {q : Int × fS} {N : Nat} : ∀ {n : Nat} {s : fS} {l1 : Int}, bE 1 σo s → FX35_breaks_b38 N n l1 s = some q → bE 1 σo q.2 := by
  intro n
  induction n with
  | zero => intro s l1 E  hF; simp [FX35_breaks_b38] at hF
  | succ n ih =>
    intro s l1 E  hF
    rw [FX35_breaks_b38] at hF
    refine b_if hF (fun hF => ?_) (fun hF => ?_)
    ·
      exact BX35_breaks_b152 (N := N) E hF
    ·
      refine b_rv hF (fun _ hF => ?_)
      refine b_if hF (fun hF => ?_) (fun hF => ?_)
      ·
        exact BX35_breaks_b66 (N := N) (K38 := FX35_breaks_b38 N n) @ih E hF
      ·
        refine b_if hF (fun hF => ?_) (fun hF => ?_)
        ·
          exact BX35_breaks_b152 (N := N) E hF
        ·
          exact BX35_breaks_b66 (N := N) (K38 := FX35_breaks_b38 N n) @ih E hF
theorem BX35_breaks {σo : fS} {q : Int × fS} {N : Nat} {s : fS} (E : bE 1 σo s) (hF : FX35_breaks N s = some q) : bE 1 σo q.2 := by
  unfold FX35_breaks at hF
  refine b_pI E (E.S.m1 (Nat.le_of_ble_eq_true rfl) (Nat.le_of_ble_eq_true rfl)) hF (fun _ D1 E1 hF => ?_)
  refine b_pI E1 (E1.S.m1 (Nat.le_of_ble_eq_true rfl) (Nat.le_of_ble_eq_true rfl)) hF (fun _ D2 E2 hF => ?_)
  refine b_if hF (fun hF => ?_) (fun hF => ?_)
  ·
    refine b_call E2 (fun _ hq => (BX35_addUpTo (N := N) (bE.rf E2.S) hq)) hF (fun _ hq6 D6 E6 hF => ?_)
    exact BX35_breaks_b38 (N := N) E6 hF
  ·
    exact b_ret E2 hF
theorem BX35_pageOrder_b35 {σo : fS} {q : Int × fS} {N : Nat} {K5 : Int → Int → Int → fS → Option (Int × fS)} (hk5 : ∀ {s : fS} {l1 : Int} {l3 : Int} {l4 : Int}, bE 1 σo s → K5 l1 l3 l4 s = some q → bE 1 σo q.2) {s : fS} {l1 : Int} {l4 : Int} {s0 : Int} (E : bE 1 σo s) (hF : FX35_pageOrder_b35 N K5 l1 l4 s0 s = some q) : bE 1 σo q.2 := by
  unfold FX35_pageOrder_b35 at hF
  exact hk5 E hF
theorem BX35_pageOrder_b42 {σo : fS} {q : Int × fS} {N : Nat} {s : fS} {l3 : Int} (E : bE 1 σo s) (hF : FX35_pageOrder_b42 N l3 s = some q) : bE 1 σo q.2 := by
  unfold FX35_pageOrder_b42 at hF
  exact b_ret E hF
theorem BX35_pageOrder_b5 {σo : fS} {q : Int × fS} {N : Nat} : ∀ {n : Nat} {s : fS} {l1 : Int} {l3 : Int} {l4 : Int}, bE 1 σo s → FX35_pageOrder_b5 N n l1 l3 l4 s = some q → bE 1 σo q.2 := by
  intro n
  induction n with
  | zero => intro s l1 l3 l4 E  hF; simp [FX35_pageOrder_b5] at hF
  | succ n ih =>
    intro s l1 l3 l4 E  hF
    rw [FX35_pageOrder_b5] at hF
    refine b_if hF (fun hF => ?_) (fun hF => ?_)
    ·
      exact BX35_pageOrder_b42 (N := N) E hF
    ·
      refine b_if hF (fun hF => ?_) (fun hF => ?_)
      ·
        exact BX35_pageOrder_b42 (N := N) E hF
      ·
        refine b_rv hF (fun _ hF => ?_)
        refine b_if hF (fun hF => ?_) (fun hF => ?_)
        ·
          exact BX35_pageOrder_b35 (N := N) (K5 := FX35_pageOrder_b5 N n) @ih E hF
        ·
          exact BX35_pageOrder_b35 (N := N) (K5 := FX35_pageOrder_b5 N n) @ih E hF
theorem BX35_pageOrder {σo : fS} {q : Int × fS} {N : Nat} {s : fS} {p0 : Int} (E : bE 1 σo s) (hF : FX35_pageOrder N p0 s = some q) : bE 1 σo q.2 := by
  unfold FX35_pageOrder at hF
  exact BX35_pageOrder_b5 (N := N) E hF
theorem BX35_nearestOf_b81 {σo : fS} {q : Int × fS} {N : Nat} {s : fS} {s0 : Int} (E : bE 1 σo s) (hF : FX35_nearestOf_b81 N s0 s = some q) : bE 1 σo q.2 := by
  unfold FX35_nearestOf_b81 at hF
  exact b_ret E hF
theorem BX35_nearestOf_b10 {σo : fS} {q : Int × fS} {N : Nat} : ∀ {n : Nat} {s : fS} {l0 : Int} {l2 : Int} {l4 : Int} {l6 : Int} {l8 : Int} {l10 : Int}, bE 1 σo s → FX35_nearestOf_b10 N n l0 l2 l4 l6 l8 l10 s = some q → bE 1 σo q.2 := by
  intro n
  induction n with
  | zero => intro s l0 l2 l4 l6 l8 l10 E  hF; simp [FX35_nearestOf_b10] at hF
  | succ n ih =>
    intro s l0 l2 l4 l6 l8 l10 E  hF
    rw [FX35_nearestOf_b10] at hF
    refine b_if hF (fun hF => ?_) (fun hF => ?_)
    ·
      refine b_if hF (fun hF => ?_) (fun hF => ?_)
      ·
        exact BX35_nearestOf_b81 (N := N) E hF
      ·
        exact BX35_nearestOf_b81 (N := N) E hF
    ·
      refine b_dv hF (fun hF => ?_)
      refine b_dv hF (fun hF => ?_)
      exact ih E hF
theorem BX35_nearestOf {σo : fS} {q : Int × fS} {N : Nat} {s : fS} {p0 : Int} {p1 : Int} {p2 : Int} (E : bE 1 σo s) (hF : FX35_nearestOf N p0 p1 p2 s = some q) : bE 1 σo q.2 := by
  unfold FX35_nearestOf at hF
  exact BX35_nearestOf_b10 (N := N) E hF
theorem BX35_stands_b85 {σo : fS} {q : Int × fS} {N : Nat} {s : fS} {l7 : Int} (E : bE 1 σo s) (hF : FX35_stands_b85 N l7 s = some q) : bE 1 σo q.2 := by
  unfold FX35_stands_b85 at hF
  exact b_ret E hF
theorem BX35_stands_b128 {σo : fS} {q : Int × fS} {N : Nat} {s : fS} {l5 : Int} {s0 : Int} {s1 : Int} (E : bE 1 σo s) (hF : FX35_stands_b128 N l5 s0 s1 s = some q) : bE 1 σo q.2 := by
  unfold FX35_stands_b128 at hF
  refine b_call E (fun _ hq => (BX35_nearestOf (N := N) (bE.rf E.S) hq)) hF (fun _ hq2 D2 E2 hF => ?_)
  exact b_ret E2 hF
theorem BX35_stands_b46 {σo : fS} {q : Int × fS} {N : Nat} {s : fS} {l1 : Int} {l2 : Int} {l4 : Int} {s0 : Int} (E : bE 1 σo s) (hF : FX35_stands_b46 N l1 l2 l4 s0 s = some q) : bE 1 σo q.2 := by
  unfold FX35_stands_b46 at hF
  refine b_call E (fun _ hq => (BX35_addUpTo (N := N) (bE.rf E.S) hq)) hF (fun _ hq2 D2 E2 hF => ?_)
  refine b_rv hF (fun _ hF => ?_)
  refine b_if hF (fun hF => ?_) (fun hF => ?_)
  ·
    exact BX35_stands_b85 (N := N) E2 hF
  ·
    refine b_if hF (fun hF => ?_) (fun hF => ?_)
    ·
      refine b_if hF (fun hF => ?_) (fun hF => ?_)
      ·
        refine b_if hF (fun hF => ?_) (fun hF => ?_)
        ·
          exact BX35_stands_b128 (N := N) E2 hF
        ·
          exact BX35_stands_b128 (N := N) E2 hF
      ·
        refine b_rv hF (fun _ hF => ?_)
        refine b_call E2 (fun _ hq => (BX35_nearestOf (N := N) (bE.rf E2.S) hq)) hF (fun _ hq9 D9 E9 hF => ?_)
        exact b_ret E9 hF
    ·
      exact BX35_stands_b85 (N := N) E2 hF
theorem BX35_stands {σo : fS} {q : Int × fS} {N : Nat} {s : fS} {p0 : Int} (E : bE 1 σo s) (hF : FX35_stands N p0 s = some q) : bE 1 σo q.2 := by
  unfold FX35_stands at hF
  refine b_call E (fun _ hq => (BX35_addUpTo (N := N) (bE.rf E.S) hq)) hF (fun _ hq3 D3 E3 hF => ?_)
  refine b_call E3 (fun _ hq => (BX35_pageOrder (N := N) (bE.rf E3.S) hq)) hF (fun _ hq7 D7 E7 hF => ?_)
  refine b_if hF (fun hF => ?_) (fun hF => ?_)
  ·
    exact BX35_stands_b46 (N := N) E7 hF
  ·
    refine b_rv hF (fun _ hF => ?_)
    exact BX35_stands_b46 (N := N) E7 hF
theorem BX35_pageWidth_b108 {σo : fS} {q : Int × fS} {N : Nat} {K7 : Int → Int → fS → Option (Int × fS)} (hk7 : ∀ {s : fS} {l1 : Int} {l3 : Int}, bE 1 σo s → K7 l1 l3 s = some q → bE 1 σo q.2) {s : fS} {l1 : Int} {l3 : Int} (E : bE 1 σo s) (hF : FX35_pageWidth_b108 N K7 l1 l3 s = some q) : bE 1 σo q.2 := by
  unfold FX35_pageWidth_b108 at hF
  exact hk7 E hF
theorem BX35_pageWidth_b107 {σo : fS} {q : Int × fS} {N : Nat} {K7 : Int → Int → fS → Option (Int × fS)} (hk7 : ∀ {s : fS} {l1 : Int} {l3 : Int}, bE 1 σo s → K7 l1 l3 s = some q → bE 1 σo q.2) {s : fS} {l3 : Int} {s0 : Int} (E : bE 1 σo s) (hF : FX35_pageWidth_b107 N K7 l3 s0 s = some q) : bE 1 σo q.2 := by
  unfold FX35_pageWidth_b107 at hF
  exact BX35_pageWidth_b108 (N := N) (K7 := K7) @hk7 E hF
theorem BX35_pageWidth_b92 {σo : fS} {q : Int × fS} {N : Nat} {K7 : Int → Int → fS → Option (Int × fS)} (hk7 : ∀ {s : fS} {l1 : Int} {l3 : Int}, bE 1 σo s → K7 l1 l3 s = some q → bE 1 σo q.2) {s : fS} {l1 : Int} {l3 : Int} {s0 : Int} (E : bE 1 σo s) (hF : FX35_pageWidth_b92 N K7 l1 l3 s0 s = some q) : bE 1 σo q.2 := by
  unfold FX35_pageWidth_b92 at hF
  refine b_if hF (fun hF => ?_) (fun hF => ?_)
  ·
    exact BX35_pageWidth_b107 (N := N) (K7 := K7) @hk7 E hF
  ·
    exact BX35_pageWidth_b107 (N := N) (K7 := K7) @hk7 E hF
theorem BX35_pageWidth_b39 {σo : fS} {q : Int × fS} {N : Nat} {K7 : Int → Int → fS → Option (Int × fS)} (hk7 : ∀ {s : fS} {l1 : Int} {l3 : Int}, bE 1 σo s → K7 l1 l3 s = some q → bE 1 σo q.2) {s : fS} {l1 : Int} {l3 : Int} {s0 : Int} (E : bE 1 σo s) (hF : FX35_pageWidth_b39 N K7 l1 l3 s0 s = some q) : bE 1 σo q.2 := by
  unfold FX35_pageWidth_b39 at hF
  refine b_if hF (fun hF => ?_) (fun hF => ?_)
  ·
    refine b_rv hF (fun _ hF => ?_)
    refine b_rv hF (fun _ hF => ?_)
    refine b_rv hF (fun _ hF => ?_)
    exact BX35_pageWidth_b92 (N := N) (K7 := K7) @hk7 E hF
  ·
    refine b_rv hF (fun _ hF => ?_)
    refine b_if hF (fun hF => ?_) (fun hF => ?_)
    ·
      refine b_rv hF (fun _ hF => ?_)
      exact BX35_pageWidth_b92 (N := N) (K7 := K7) @hk7 E hF
    ·
      exact BX35_pageWidth_b92 (N := N) (K7 := K7) @hk7 E hF
theorem BX35_pageWidth_b7 {σo : fS} {q : Int × fS} {N : Nat} : ∀ {n : Nat} {s : fS} {l1 : Int} {l3 : Int}, bE 1 σo s → FX35_pageWidth_b7 N n l1 l3 s = some q → bE 1 σo q.2 := by
  intro n
  induction n with
  | zero => intro s l1 l3 E  hF; simp [FX35_pageWidth_b7] at hF
  | succ n ih =>
    intro s l1 l3 E  hF
    rw [FX35_pageWidth_b7] at hF
    refine b_if hF (fun hF => ?_) (fun hF => ?_)
    ·
      exact b_ret E hF
    ·
      refine b_rv hF (fun _ hF => ?_)
      refine b_if hF (fun hF => ?_) (fun hF => ?_)
      ·
        exact BX35_pageWidth_b108 (N := N) (K7 := FX35_pageWidth_b7 N n) @ih E hF
      ·
        refine b_rv hF (fun _ hF => ?_)
        refine b_if hF (fun hF => ?_) (fun hF => ?_)
        ·
          exact BX35_pageWidth_b39 (N := N) (K7 := FX35_pageWidth_b7 N n) @ih E hF
        ·
          exact BX35_pageWidth_b39 (N := N) (K7 := FX35_pageWidth_b7 N n) @ih E hF
theorem BX35_pageWidth {σo : fS} {q : Int × fS} {N : Nat} {s : fS} (E : bE 1 σo s) (hF : FX35_pageWidth N s = some q) : bE 1 σo q.2 := by
  unfold FX35_pageWidth at hF
  exact BX35_pageWidth_b7 (N := N) E hF
theorem BX35_note {σo : fS} {q : Int × fS} {s : fS} {p0 : Int} {p1 : Int} {p2 : Int} {p3 : Int} {p4 : Int} {p5 : Int} {p6 : Int} (E : bE 1 σo s) (hF : FX35_note p0 p1 p2 p3 p4 p5 p6 s = some q) : bE 1 σo q.2 := by
  unfold FX35_note at hF
  refine b_if hF (fun hF => ?_) (fun hF => ?_)
  ·
    refine b_qI E (E.S.m1 (Nat.le_of_ble_eq_true rfl) (Nat.le_of_ble_eq_true rfl)) hF (fun _ D4 E4 hF => ?_)
    refine b_qI E4 (E4.S.m1 (Nat.le_of_ble_eq_true rfl) (Nat.le_of_ble_eq_true rfl)) hF (fun _ D7 E7 hF => ?_)
    refine b_qJ E7 (E7.S.m1 (Nat.le_of_ble_eq_true rfl) (Nat.le_of_ble_eq_true rfl)) hF (fun _ D10 E10 hF => ?_)
    refine b_qJ E10 (E10.S.m1 (Nat.le_of_ble_eq_true rfl) (Nat.le_of_ble_eq_true rfl)) hF (fun _ D13 E13 hF => ?_)
    refine b_qJ E13 (E13.S.m1 (Nat.le_of_ble_eq_true rfl) (Nat.le_of_ble_eq_true rfl)) hF (fun _ D16 E16 hF => ?_)
    refine b_qJ E16 (E16.S.m1 (Nat.le_of_ble_eq_true rfl) (Nat.le_of_ble_eq_true rfl)) hF (fun _ D19 E19 hF => ?_)
    refine b_qJ E19 (E19.S.m1 (Nat.le_of_ble_eq_true rfl) (Nat.le_of_ble_eq_true rfl)) hF (fun _ D22 E22 hF => ?_)
    refine b_pI E22 (E22.S.m1 (Nat.le_of_ble_eq_true rfl) (Nat.le_of_ble_eq_true rfl)) hF (fun _ D24 E24 hF => ?_)
    exact b_ret E24 hF
  ·
    exact b_ret E hF
theorem BX35_layPage_b163 {σo : fS} {q : Int × fS} {N : Nat} {SL : Int → Int → Int → fS → Option (Int × fS)} {K7 : Int → Int → fS → Option (Int × fS)} (hsL : ∀ {s : fS} {x1 : Int} {x2 : Int} {x3 : Int} {q}, bS 1 s → SL x1 x2 x3 s = some q → bE 1 s q.2) (hk7 : ∀ {s : fS} {l1 : Int} {l2 : Int}, bE 1 σo s → K7 l1 l2 s = some q → bE 1 σo q.2) {s : fS} {l1 : Int} {l2 : Int} (E : bE 1 σo s) (hF : FX35_layPage_b163 N SL K7 l1 l2 s = some q) : bE 1 σo q.2 := by
  unfold FX35_layPage_b163 at hF
  exact hk7 E hF
theorem BX35_layPage_b162 {σo : fS} {q : Int × fS} {N : Nat} {SL : Int → Int → Int → fS → Option (Int × fS)} {K7 : Int → Int → fS → Option (Int × fS)} (hsL : ∀ {s : fS} {x1 : Int} {x2 : Int} {x3 : Int} {q}, bS 1 s → SL x1 x2 x3 s = some q → bE 1 s q.2) (hk7 : ∀ {s : fS} {l1 : Int} {l2 : Int}, bE 1 σo s → K7 l1 l2 s = some q → bE 1 σo q.2) {s : fS} {l2 : Int} {s0 : Int} (E : bE 1 σo s) (hF : FX35_layPage_b162 N SL K7 l2 s0 s = some q) : bE 1 σo q.2 := by
  unfold FX35_layPage_b162 at hF
  exact BX35_layPage_b163 (N := N) (SL := SL) (K7 := K7) @hsL @hk7 E hF
theorem BX35_layPage_b157 {σo : fS} {q : Int × fS} {N : Nat} {SL : Int → Int → Int → fS → Option (Int × fS)} {K7 : Int → Int → fS → Option (Int × fS)} (hsL : ∀ {s : fS} {x1 : Int} {x2 : Int} {x3 : Int} {q}, bS 1 s → SL x1 x2 x3 s = some q → bE 1 s q.2) (hk7 : ∀ {s : fS} {l1 : Int} {l2 : Int}, bE 1 σo s → K7 l1 l2 s = some q → bE 1 σo q.2) {s : fS} {l2 : Int} (E : bE 1 σo s) (hF : FX35_layPage_b157 N SL K7 l2 s = some q) : bE 1 σo q.2 := by
  unfold FX35_layPage_b157 at hF
  exact BX35_layPage_b162 (N := N) (SL := SL) (K7 := K7) @hsL @hk7 E hF
theorem BX35_layPage_b100 {σo : fS} {q : Int × fS} {N : Nat} {SL : Int → Int → Int → fS → Option (Int × fS)} {K7 : Int → Int → fS → Option (Int × fS)} (hsL : ∀ {s : fS} {x1 : Int} {x2 : Int} {x3 : Int} {q}, bS 1 s → SL x1 x2 x3 s = some q → bE 1 s q.2) (hk7 : ∀ {s : fS} {l1 : Int} {l2 : Int}, bE 1 σo s → K7 l1 l2 s = some q → bE 1 σo q.2) {s : fS} {l2 : Int} {s0 : Int} (E : bE 1 σo s) (hF : FX35_layPage_b100 N SL K7 l2 s0 s = some q) : bE 1 σo q.2 := by
  unfold FX35_layPage_b100 at hF
  refine b_if hF (fun hF => ?_) (fun hF => ?_)
  ·
    exact BX35_layPage_b157 (N := N) (SL := SL) (K7 := K7) @hsL @hk7 E hF
  ·
    refine b_rv hF (fun _ hF => ?_)
    refine b_rv hF (fun _ hF => ?_)
    refine b_if hF (fun hF => ?_) (fun hF => ?_)
    ·
      exact BX35_layPage_b157 (N := N) (SL := SL) (K7 := K7) @hsL @hk7 E hF
    ·
      refine b_call E (fun _ hq => (BX35_stands (N := N) (bE.rf E.S) hq)) hF (fun _ hq6 D6 E6 hF => ?_)
      refine b_rv hF (fun _ hF => ?_)
      refine b_rv hF (fun _ hF => ?_)
      refine b_call E6 (fun _ hq => (BX35_note (bE.rf E6.S) hq)) hF (fun _ hq12 D12 E12 hF => ?_)
      refine b_if hF (fun hF => ?_) (fun hF => ?_)
      ·
        exact BX35_layPage_b162 (N := N) (SL := SL) (K7 := K7) @hsL @hk7 E12 hF
      ·
        exact BX35_layPage_b157 (N := N) (SL := SL) (K7 := K7) @hsL @hk7 E12 hF
theorem BX35_layPage_b64 {σo : fS} {q : Int × fS} {N : Nat} {SL : Int → Int → Int → fS → Option (Int × fS)} {K7 : Int → Int → fS → Option (Int × fS)} (hsL : ∀ {s : fS} {x1 : Int} {x2 : Int} {x3 : Int} {q}, bS 1 s → SL x1 x2 x3 s = some q → bE 1 s q.2) (hk7 : ∀ {s : fS} {l1 : Int} {l2 : Int}, bE 1 σo s → K7 l1 l2 s = some q → bE 1 σo q.2) {s : fS} {l1 : Int} {l2 : Int} (E : bE 1 σo s) (hF : FX35_layPage_b64 N SL K7 l1 l2 s = some q) : bE 1 σo q.2 := by
  unfold FX35_layPage_b64 at hF
  refine b_rv hF (fun _ hF => ?_)
  refine b_if hF (fun hF => ?_) (fun hF => ?_)
  ·
    exact BX35_layPage_b163 (N := N) (SL := SL) (K7 := K7) @hsL @hk7 E hF
  ·
    refine b_rv hF (fun _ hF => ?_)
    refine b_if hF (fun hF => ?_) (fun hF => ?_)
    ·
      refine b_rv hF (fun _ hF => ?_)
      exact BX35_layPage_b100 (N := N) (SL := SL) (K7 := K7) @hsL @hk7 E hF
    ·
      refine b_call E (fun _ hq => (BX35_pageWidth (N := N) (bE.rf E.S) hq)) hF (fun _ hq8 D8 E8 hF => ?_)
      exact BX35_layPage_b100 (N := N) (SL := SL) (K7 := K7) @hsL @hk7 E8 hF
theorem BX35_layPage_b169 {σo : fS} {q : Int × fS} {N : Nat} {SL : Int → Int → Int → fS → Option (Int × fS)} (hsL : ∀ {s : fS} {x1 : Int} {x2 : Int} {x3 : Int} {q}, bS 1 s → SL x1 x2 x3 s = some q → bE 1 s q.2) {s : fS} {l1 : Int} (E : bE 1 σo s) (hF : FX35_layPage_b169 N SL l1 s = some q) : bE 1 σo q.2 := by
  unfold FX35_layPage_b169 at hF
  exact b_z E hF
theorem BX35_layPage_b7 {σo : fS} {q : Int × fS} {N : Nat} {SL : Int → Int → Int → fS → Option (Int × fS)} (hsL : ∀ {s : fS} {x1 : Int} {x2 : Int} {x3 : Int} {q}, bS 1 s → SL x1 x2 x3 s = some q → bE 1 s q.2) : ∀ {n : Nat} {s : fS} {l1 : Int} {l2 : Int}, bE 1 σo s → FX35_layPage_b7 N SL n l1 l2 s = some q → bE 1 σo q.2 := by
  intro n
  induction n with
  | zero => intro s l1 l2 E  hF; simp [FX35_layPage_b7] at hF
  | succ n ih =>
    intro s l1 l2 E  hF
    rw [FX35_layPage_b7] at hF
    refine b_if hF (fun hF => ?_) (fun hF => ?_)
    ·
      exact BX35_layPage_b169 (N := N) (SL := SL) @hsL E hF
    ·
      refine b_if hF (fun hF => ?_) (fun hF => ?_)
      ·
        exact BX35_layPage_b169 (N := N) (SL := SL) @hsL E hF
      ·
        refine b_rv hF (fun _ hF => ?_)
        refine b_if hF (fun hF => ?_) (fun hF => ?_)
        ·
          exact BX35_layPage_b64 (N := N) (SL := SL) (K7 := FX35_layPage_b7 N SL n) @hsL @ih E hF
        ·
          refine b_rv hF (fun _ hF => ?_)
          refine b_if hF (fun hF => ?_) (fun hF => ?_)
          ·
            exact BX35_layPage_b64 (N := N) (SL := SL) (K7 := FX35_layPage_b7 N SL n) @hsL @ih E hF
          ·
            refine b_rv hF (fun _ hF => ?_)
            refine b_rv hF (fun _ hF => ?_)
            refine b_call E (fun _ hq => (BX35_stands (N := N) (bE.rf E.S) hq)) hF (fun _ hq11 D11 E11 hF => ?_)
            refine b_call E11 (fun _ hq => (hsL E11.S hq)) hF (fun _ hq13 D13 E13 hF => ?_)
            exact BX35_layPage_b163 (N := N) (SL := SL) (K7 := FX35_layPage_b7 N SL n) @hsL @ih E13 hF
theorem BX35_layPage {σo : fS} {q : Int × fS} {N : Nat} {SL : Int → Int → Int → fS → Option (Int × fS)} (hsL : ∀ {s : fS} {x1 : Int} {x2 : Int} {x3 : Int} {q}, bS 1 s → SL x1 x2 x3 s = some q → bE 1 s q.2) {s : fS} (E : bE 1 σo s) (hF : FX35_layPage N SL s = some q) : bE 1 σo q.2 := by
  unfold FX35_layPage at hF
  exact BX35_layPage_b7 (N := N) (SL := SL) @hsL E hF
theorem BX35_counter {σo : fS} {q : Int × fS} {s : fS} {p0 : Int} (E : bE 1 σo s) (hF : FX35_counter p0 s = some q) : bE 1 σo q.2 := by
  unfold FX35_counter at hF
  refine b_call E (fun _ hq => (BX35_now (bE.rf E.S) hq)) hF (fun _ hq2 D2 E2 hF => ?_)
  exact b_ret E2 hF
theorem BX38_findMoves_b6 {σo : fS} {q : Unit × fS} {N : Nat} : ∀ {n : Nat} {s : fS} {l1 : Int} {l2 : Int} {l3 : Int}, bE 1 σo s → FX38_findMoves_b6 N n l1 l2 l3 s = some q → bE 1 σo q.2 := by
  intro n
  induction n with
  | zero => intro s l1 l2 l3 E  hF; simp [FX38_findMoves_b6] at hF
  | succ n ih =>
    intro s l1 l2 l3 E  hF
    rw [FX38_findMoves_b6] at hF
    refine b_if hF (fun hF => ?_) (fun hF => ?_)
    ·
      exact b_ret E hF
    ·
      refine b_rv hF (fun _ hF => ?_)
      refine b_qI E (E.S.m1 (Nat.le_of_ble_eq_true rfl) (Nat.le_of_ble_eq_true rfl)) hF (fun _ D5 E5 hF => ?_)
      refine b_rv hF (fun _ hF => ?_)
      refine b_qI E5 (E5.S.m1 (Nat.le_of_ble_eq_true rfl) (Nat.le_of_ble_eq_true rfl)) hF (fun _ D9 E9 hF => ?_)
      refine b_rv hF (fun _ hF => ?_)
      refine b_rv hF (fun _ hF => ?_)
      refine b_rv hF (fun _ hF => ?_)
      exact ih E9 hF
theorem BX38_findMoves {σo : fS} {q : Unit × fS} {N : Nat} {s : fS} (E : bE 1 σo s) (hF : FX38_findMoves N s = some q) : bE 1 σo q.2 := by
  unfold FX38_findMoves at hF
  exact BX38_findMoves_b6 (N := N) E hF
theorem BX38_lay {σo : fS} {q : Unit × fS} {s : fS} {p0 : Int} (E : bE 1 σo s) (hF : FX38_lay p0 s = some q) : bE 1 σo q.2 := by
  unfold FX38_lay at hF
  refine b_qI E (E.S.m1 (Nat.le_of_ble_eq_true rfl) (Nat.le_of_ble_eq_true rfl)) hF (fun _ D3 E3 hF => ?_)
  refine b_pI E3 (E3.S.m1 (Nat.le_of_ble_eq_true rfl) (Nat.le_of_ble_eq_true rfl)) hF (fun _ D5 E5 hF => ?_)
  exact b_ret E5 hF
theorem BX38_layNumber_b4 {σo : fS} {q : Unit × fS} {N : Nat} : ∀ {n : Nat} {s : fS} {l1 : Int} {l3 : Int}, bE 1 σo s → FX38_layNumber_b4 N n l1 l3 s = some q → bE 1 σo q.2 := by
  intro n
  induction n with
  | zero => intro s l1 l3 E  hF; simp [FX38_layNumber_b4] at hF
  | succ n ih =>
    intro s l1 l3 E  hF
    rw [FX38_layNumber_b4] at hF
    refine b_if hF (fun hF => ?_) (fun hF => ?_)
    ·
      exact b_ret E hF
    ·
      refine b_call E (fun _ hq => (BX38_lay (bE.rf E.S) hq)) hF (fun _ hq2 D2 E2 hF => ?_)
      exact ih E2 hF
theorem BX38_layNumber {σo : fS} {q : Unit × fS} {N : Nat} {s : fS} {p0 : Int} {p1 : Int} (E : bE 1 σo s) (hF : FX38_layNumber N p0 p1 s = some q) : bE 1 σo q.2 := by
  unfold FX38_layNumber at hF
  exact BX38_layNumber_b4 (N := N) E hF
theorem BX38_bytesOf_b51 {σo : fS} {q : Int × fS} {s : fS} {s0 : Int} (E : bE 1 σo s) (hF : FX38_bytesOf_b51 s0 s = some q) : bE 1 σo q.2 := by
  unfold FX38_bytesOf_b51 at hF
  exact b_ret E hF
theorem BX38_bytesOf_b50 {σo : fS} {q : Int × fS} {s : fS} (E : bE 1 σo s) (hF : FX38_bytesOf_b50 s = some q) : bE 1 σo q.2 := by
  unfold FX38_bytesOf_b50 at hF
  exact BX38_bytesOf_b51 E hF
theorem BX38_bytesOf_b34 {σo : fS} {q : Int × fS} {s : fS} {l0 : Int} (E : bE 1 σo s) (hF : FX38_bytesOf_b34 l0 s = some q) : bE 1 σo q.2 := by
  unfold FX38_bytesOf_b34 at hF
  refine b_if hF (fun hF => ?_) (fun hF => ?_)
  ·
    exact BX38_bytesOf_b50 E hF
  ·
    refine b_if hF (fun hF => ?_) (fun hF => ?_)
    ·
      exact BX38_bytesOf_b50 E hF
    ·
      exact BX38_bytesOf_b51 E hF
theorem BX38_bytesOf_b17 {σo : fS} {q : Int × fS} {s : fS} {l0 : Int} (E : bE 1 σo s) (hF : FX38_bytesOf_b17 l0 s = some q) : bE 1 σo q.2 := by
  unfold FX38_bytesOf_b17 at hF
  refine b_if hF (fun hF => ?_) (fun hF => ?_)
  ·
    exact BX38_bytesOf_b34 E hF
  ·
    refine b_if hF (fun hF => ?_) (fun hF => ?_)
    ·
      exact BX38_bytesOf_b34 E hF
    ·
      exact BX38_bytesOf_b51 E hF
theorem BX38_bytesOf {σo : fS} {q : Int × fS} {s : fS} {p0 : Int} (E : bE 1 σo s) (hF : FX38_bytesOf p0 s = some q) : bE 1 σo q.2 := by
  unfold FX38_bytesOf at hF
  refine b_if hF (fun hF => ?_) (fun hF => ?_)
  ·
    exact BX38_bytesOf_b17 E hF
  ·
    refine b_if hF (fun hF => ?_) (fun hF => ?_)
    ·
      exact BX38_bytesOf_b17 E hF
    ·
      exact BX38_bytesOf_b51 E hF
theorem BX38_comes_b35 {σo : fS} {q : Int × fS} {N : Nat} {K8 : Nat → Int → Int → Int → fS → Option (Int × fS)} (hk8 : ∀ {s : fS} {l1 : Nat} {l3 : Int} {l4 : Int} {l5 : Int}, bE 1 σo s → bO 1 s l1 → K8 l1 l3 l4 l5 s = some q → bE 1 σo q.2) {s : fS} {l1 : Nat} {l3 : Int} {l5 : Int} {s0 : Int} (E : bE 1 σo s) (ol1 : bO 1 s l1) (hF : FX38_comes_b35 N K8 l1 l3 l5 s0 s = some q) : bE 1 σo q.2 := by
  unfold FX38_comes_b35 at hF
  exact hk8 E ol1 hF
theorem BX38_comes_b30 {σo : fS} {q : Int × fS} {N : Nat} {K8 : Nat → Int → Int → Int → fS → Option (Int × fS)} (hk8 : ∀ {s : fS} {l1 : Nat} {l3 : Int} {l4 : Int} {l5 : Int}, bE 1 σo s → bO 1 s l1 → K8 l1 l3 l4 l5 s = some q → bE 1 σo q.2) {s : fS} {l1 : Nat} {l3 : Int} {l5 : Int} (E : bE 1 σo s) (ol1 : bO 1 s l1) (hF : FX38_comes_b30 N K8 l1 l3 l5 s = some q) : bE 1 σo q.2 := by
  unfold FX38_comes_b30 at hF
  exact BX38_comes_b35 (N := N) (K8 := K8) @hk8 E ol1 hF
theorem BX38_comes_b8 {σo : fS} {q : Int × fS} {N : Nat} : ∀ {n : Nat} {s : fS} {l1 : Nat} {l3 : Int} {l4 : Int} {l5 : Int}, bE 1 σo s → bO 1 s l1 → FX38_comes_b8 N n l1 l3 l4 l5 s = some q → bE 1 σo q.2 := by
  intro n
  induction n with
  | zero => intro s l1 l3 l4 l5 E ol1 hF; simp [FX38_comes_b8] at hF
  | succ n ih =>
    intro s l1 l3 l4 l5 E ol1 hF
    rw [FX38_comes_b8] at hF
    refine b_if hF (fun hF => ?_) (fun hF => ?_)
    ·
      exact b_z E hF
    ·
      refine b_if hF (fun hF => ?_) (fun hF => ?_)
      ·
        exact BX38_comes_b30 (N := N) (K8 := FX38_comes_b8 N n) @ih E ol1 hF
      ·
        refine b_KA hF (fun hF => ?_)
        refine b_rv hF (fun _ hF => ?_)
        refine b_if hF (fun hF => ?_) (fun hF => ?_)
        ·
          exact BX38_comes_b35 (N := N) (K8 := FX38_comes_b8 N n) @ih E ol1 hF
        ·
          exact BX38_comes_b30 (N := N) (K8 := FX38_comes_b8 N n) @ih E ol1 hF
theorem BX38_comes {σo : fS} {q : Int × fS} {N : Nat} {s : fS} {p0 : Nat} {p1 : Int} {p2 : Int} (E : bE 1 σo s) (op0 : bO 1 s p0) (hF : FX38_comes N p0 p1 p2 s = some q) : bE 1 σo q.2 := by
  unfold FX38_comes at hF
  exact BX38_comes_b8 (N := N) E op0 hF
