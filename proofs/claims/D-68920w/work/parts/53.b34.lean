set_option maxRecDepth 100000
set_option maxHeartbeats 4000000
theorem BX35_first {σo : fS} {q : Unit × fS} {s : fS} {p0 : Int} {p1 : Int} (E : bE 1 σo s) (hF : FX35_first p0 p1 s = some q) : bE 1 σo q.2 := by
  unfold FX35_first at hF
  refine b_qI E (E.S.m1 (Nat.le_of_ble_eq_true rfl) (Nat.le_of_ble_eq_true rfl)) hF (fun _ D2 E2 hF => ?_)
  exact b_ret E2 hF
theorem BX35_addName_b2 {σo : fS} {q : Int × fS} {N : Nat} : ∀ {n : Nat} {s : fS} {l1 : Int}, bE 1 σo s → FX35_addName_b2 N n l1 s = some q → bE 1 σo q.2 := by
  intro n
  induction n with
  | zero => intro s l1 E  hF; simp [FX35_addName_b2] at hF
  | succ n ih =>
    intro s l1 E  hF
    rw [FX35_addName_b2] at hF
    refine b_if hF (fun hF => ?_) (fun hF => ?_)
    ·
      refine b_qI E (E.S.m1 (Nat.le_of_ble_eq_true rfl) (Nat.le_of_ble_eq_true rfl)) hF (fun _ D5 E5 hF => ?_)
      refine b_pI E5 (E5.S.m1 (Nat.le_of_ble_eq_true rfl) (Nat.le_of_ble_eq_true rfl)) hF (fun _ D7 E7 hF => ?_)
      exact b_ret E7 hF
    ·
      refine b_rv hF (fun _ hF => ?_)
      refine b_qI E (E.S.m1 (Nat.le_of_ble_eq_true rfl) (Nat.le_of_ble_eq_true rfl)) hF (fun _ D13 E13 hF => ?_)
      exact ih E13 hF
theorem BX35_addName {σo : fS} {q : Int × fS} {N : Nat} {s : fS} (E : bE 1 σo s) (hF : FX35_addName N s = some q) : bE 1 σo q.2 := by
  unfold FX35_addName at hF
  exact BX35_addName_b2 (N := N) E hF
theorem BX35_primitives_b73 {σo : fS} {q : Unit × fS} {N : Nat} {K7 : Nat → Int → fS → Option (Unit × fS)} (hk7 : ∀ {s : fS} {l1 : Nat} {l2 : Int}, bE 1 σo s → K7 l1 l2 s = some q → bE 1 σo q.2) {s : fS} {l1 : Nat} {l2 : Int} (E : bE 1 σo s) (hF : FX35_primitives_b73 N K7 l1 l2 s = some q) : bE 1 σo q.2 := by
  unfold FX35_primitives_b73 at hF
  exact hk7 E hF
theorem BX35_primitives_b7 {σo : fS} {q : Unit × fS} {N : Nat} : ∀ {n : Nat} {s : fS} {l1 : Nat} {l2 : Int}, bE 1 σo s → FX35_primitives_b7 N n l1 l2 s = some q → bE 1 σo q.2 := by
  intro n
  induction n with
  | zero => intro s l1 l2 E  hF; simp [FX35_primitives_b7] at hF
  | succ n ih =>
    intro s l1 l2 E  hF
    rw [FX35_primitives_b7] at hF
    refine b_rv hF (fun _ hF => ?_)
    refine b_call E (fun _ hq => (BJ1_length (d := 1) (bE.rf E.S) hq)) hF (fun _ hq2 D2 E2 hF => ?_)
    refine b_if hF (fun hF => ?_) (fun hF => ?_)
    ·
      exact b_ret E2 hF
    ·
      refine b_rv hF (fun _ hF => ?_)
      refine b_call E2 (fun _ hq => (BJ1_charAt (d := 1) (bE.rf E2.S) hq)) hF (fun _ hq4 D4 E4 hF => ?_)
      refine b_if hF (fun hF => ?_) (fun hF => ?_)
      ·
        refine b_rv hF (fun _ hF => ?_)
        refine b_call E4 (fun _ hq => (BJ1_charAt (d := 1) (bE.rf E4.S) hq)) hF (fun _ hq8 D8 E8 hF => ?_)
        refine b_qI E8 (E8.S.m1 (Nat.le_of_ble_eq_true rfl) (Nat.le_of_ble_eq_true rfl)) hF (fun _ D9 E9 hF => ?_)
        refine b_pI E9 (E9.S.m1 (Nat.le_of_ble_eq_true rfl) (Nat.le_of_ble_eq_true rfl)) hF (fun _ D11 E11 hF => ?_)
        exact BX35_primitives_b73 (N := N) (K7 := FX35_primitives_b7 N n) @ih E11 hF
      ·
        refine b_call E4 (fun _ hq => (BX35_addName (N := N) (bE.rf E4.S) hq)) hF (fun _ hq13 D13 E13 hF => ?_)
        refine b_qI E13 (E13.S.m1 (Nat.le_of_ble_eq_true rfl) (Nat.le_of_ble_eq_true rfl)) hF (fun _ D15 E15 hF => ?_)
        refine b_pI E15 (E15.S.m1 (Nat.le_of_ble_eq_true rfl) (Nat.le_of_ble_eq_true rfl)) hF (fun _ D16 E16 hF => ?_)
        exact BX35_primitives_b73 (N := N) (K7 := FX35_primitives_b7 N n) @ih E16 hF
theorem BX35_primitives {σo : fS} {q : Unit × fS} {N : Nat} {s : fS} {p0 : Nat} (E : bE 1 σo s) (hF : FX35_primitives N p0 s = some q) : bE 1 σo q.2 := by
  unfold FX35_primitives at hF
  refine b_pI E (E.S.m1 (Nat.le_of_ble_eq_true rfl) (Nat.le_of_ble_eq_true rfl)) hF (fun _ D1 E1 hF => ?_)
  exact BX35_primitives_b7 (N := N) E1 hF
theorem BX35_clear_b275 {σo : fS} {q : Unit × fS} {N : Nat} {K207 : Int → fS → Option (Unit × fS)} (hk207 : ∀ {s : fS} {l1 : Int}, bE 1 σo s → K207 l1 s = some q → bE 1 σo q.2) {s : fS} {l1 : Int} {s1 : Int} {s2 : Int} (E : bE 1 σo s) (hF : FX35_clear_b275 N K207 l1 s1 s2 s = some q) : bE 1 σo q.2 := by
  unfold FX35_clear_b275 at hF
  refine b_qI E (E.S.m1 (Nat.le_of_ble_eq_true rfl) (Nat.le_of_ble_eq_true rfl)) hF (fun _ D1 E1 hF => ?_)
  exact hk207 E1 hF
theorem BX35_clear_b254 {σo : fS} {q : Unit × fS} {N : Nat} {K207 : Int → fS → Option (Unit × fS)} (hk207 : ∀ {s : fS} {l1 : Int}, bE 1 σo s → K207 l1 s = some q → bE 1 σo q.2) {s : fS} {l1 : Int} {s0 : Int} (E : bE 1 σo s) (hF : FX35_clear_b254 N K207 l1 s0 s = some q) : bE 1 σo q.2 := by
  unfold FX35_clear_b254 at hF
  refine b_if hF (fun hF => ?_) (fun hF => ?_)
  ·
    exact BX35_clear_b275 (N := N) (K207 := K207) @hk207 E hF
  ·
    exact BX35_clear_b275 (N := N) (K207 := K207) @hk207 E hF
theorem BX35_clear_b249 {σo : fS} {q : Unit × fS} {N : Nat} {K207 : Int → fS → Option (Unit × fS)} (hk207 : ∀ {s : fS} {l1 : Int}, bE 1 σo s → K207 l1 s = some q → bE 1 σo q.2) {s : fS} {l1 : Int} (E : bE 1 σo s) (hF : FX35_clear_b249 N K207 l1 s = some q) : bE 1 σo q.2 := by
  unfold FX35_clear_b249 at hF
  exact BX35_clear_b254 (N := N) (K207 := K207) @hk207 E hF
theorem BX35_clear_b253 {σo : fS} {q : Unit × fS} {N : Nat} {K207 : Int → fS → Option (Unit × fS)} (hk207 : ∀ {s : fS} {l1 : Int}, bE 1 σo s → K207 l1 s = some q → bE 1 σo q.2) {s : fS} {l1 : Int} (E : bE 1 σo s) (hF : FX35_clear_b253 N K207 l1 s = some q) : bE 1 σo q.2 := by
  unfold FX35_clear_b253 at hF
  exact BX35_clear_b254 (N := N) (K207 := K207) @hk207 E hF
theorem BX35_clear_b237 {σo : fS} {q : Unit × fS} {N : Nat} {K207 : Int → fS → Option (Unit × fS)} (hk207 : ∀ {s : fS} {l1 : Int}, bE 1 σo s → K207 l1 s = some q → bE 1 σo q.2) {s : fS} {l1 : Int} (E : bE 1 σo s) (hF : FX35_clear_b237 N K207 l1 s = some q) : bE 1 σo q.2 := by
  unfold FX35_clear_b237 at hF
  refine b_if hF (fun hF => ?_) (fun hF => ?_)
  ·
    exact BX35_clear_b253 (N := N) (K207 := K207) @hk207 E hF
  ·
    refine b_if hF (fun hF => ?_) (fun hF => ?_)
    ·
      exact BX35_clear_b253 (N := N) (K207 := K207) @hk207 E hF
    ·
      exact BX35_clear_b249 (N := N) (K207 := K207) @hk207 E hF
theorem BX35_clear_b207 {σo : fS} {q : Unit × fS} {N : Nat} : ∀ {n : Nat} {s : fS} {l1 : Int}, bE 1 σo s → FX35_clear_b207 N n l1 s = some q → bE 1 σo q.2 := by
  intro n
  induction n with
  | zero => intro s l1 E  hF; simp [FX35_clear_b207] at hF
  | succ n ih =>
    intro s l1 E  hF
    rw [FX35_clear_b207] at hF
    refine b_if hF (fun hF => ?_) (fun hF => ?_)
    ·
      refine b_qI E (E.S.m1 (Nat.le_of_ble_eq_true rfl) (Nat.le_of_ble_eq_true rfl)) hF (fun _ D2 E2 hF => ?_)
      refine b_call E2 (fun _ hq => (BX35_first (bE.rf E2.S) hq)) hF (fun _ hq4 D4 E4 hF => ?_)
      refine b_call E4 (fun _ hq => (BX35_first (bE.rf E4.S) hq)) hF (fun _ hq6 D6 E6 hF => ?_)
      refine b_call E6 (fun _ hq => (BX35_first (bE.rf E6.S) hq)) hF (fun _ hq8 D8 E8 hF => ?_)
      refine b_call E8 (fun _ hq => (BX35_first (bE.rf E8.S) hq)) hF (fun _ hq10 D10 E10 hF => ?_)
      refine b_call E10 (fun _ hq => (BX35_first (bE.rf E10.S) hq)) hF (fun _ hq12 D12 E12 hF => ?_)
      refine b_call E12 (fun _ hq => (BX35_first (bE.rf E12.S) hq)) hF (fun _ hq14 D14 E14 hF => ?_)
      refine b_call E14 (fun _ hq => (BX35_first (bE.rf E14.S) hq)) hF (fun _ hq16 D16 E16 hF => ?_)
      refine b_call E16 (fun _ hq => (BX35_first (bE.rf E16.S) hq)) hF (fun _ hq18 D18 E18 hF => ?_)
      refine b_call E18 (fun _ hq => (BX35_first (bE.rf E18.S) hq)) hF (fun _ hq20 D20 E20 hF => ?_)
      refine b_call E20 (fun _ hq => (BX35_first (bE.rf E20.S) hq)) hF (fun _ hq22 D22 E22 hF => ?_)
      refine b_call E22 (fun _ hq => (BX35_first (bE.rf E22.S) hq)) hF (fun _ hq24 D24 E24 hF => ?_)
      refine b_call E24 (fun _ hq => (BX35_first (bE.rf E24.S) hq)) hF (fun _ hq26 D26 E26 hF => ?_)
      refine b_call E26 (fun _ hq => (BX35_first (bE.rf E26.S) hq)) hF (fun _ hq28 D28 E28 hF => ?_)
      refine b_call E28 (fun _ hq => (BX35_first (bE.rf E28.S) hq)) hF (fun _ hq30 D30 E30 hF => ?_)
      refine b_call E30 (fun _ hq => (BX35_first (bE.rf E30.S) hq)) hF (fun _ hq32 D32 E32 hF => ?_)
      refine b_call E32 (fun _ hq => (BX35_first (bE.rf E32.S) hq)) hF (fun _ hq34 D34 E34 hF => ?_)
      refine b_call E34 (fun _ hq => (BX35_first (bE.rf E34.S) hq)) hF (fun _ hq36 D36 E36 hF => ?_)
      refine b_call E36 (fun _ hq => (BX35_first (bE.rf E36.S) hq)) hF (fun _ hq38 D38 E38 hF => ?_)
      refine b_call E38 (fun _ hq => (BX35_first (bE.rf E38.S) hq)) hF (fun _ hq40 D40 E40 hF => ?_)
      refine b_call E40 (fun _ hq => (BX35_first (bE.rf E40.S) hq)) hF (fun _ hq42 D42 E42 hF => ?_)
      refine b_call E42 (fun _ hq => (BX35_first (bE.rf E42.S) hq)) hF (fun _ hq44 D44 E44 hF => ?_)
      refine b_call E44 (fun _ hq => (BX35_first (bE.rf E44.S) hq)) hF (fun _ hq46 D46 E46 hF => ?_)
      refine b_call E46 (fun _ hq => (BX35_first (bE.rf E46.S) hq)) hF (fun _ hq48 D48 E48 hF => ?_)
      refine b_call E48 (fun _ hq => (BX35_first (bE.rf E48.S) hq)) hF (fun _ hq50 D50 E50 hF => ?_)
      refine b_call E50 (fun _ hq => (BX35_first (bE.rf E50.S) hq)) hF (fun _ hq52 D52 E52 hF => ?_)
      refine b_call E52 (fun _ hq => (BX35_first (bE.rf E52.S) hq)) hF (fun _ hq54 D54 E54 hF => ?_)
      refine b_call E54 (fun _ hq => (BX35_first (bE.rf E54.S) hq)) hF (fun _ hq56 D56 E56 hF => ?_)
      refine b_call E56 (fun _ hq => (BX35_first (bE.rf E56.S) hq)) hF (fun _ hq58 D58 E58 hF => ?_)
      refine b_call E58 (fun _ hq => (BX35_first (bE.rf E58.S) hq)) hF (fun _ hq60 D60 E60 hF => ?_)
      refine b_call E60 (fun _ hq => (BX35_first (bE.rf E60.S) hq)) hF (fun _ hq62 D62 E62 hF => ?_)
      refine b_call E62 (fun _ hq => (BX35_first (bE.rf E62.S) hq)) hF (fun _ hq64 D64 E64 hF => ?_)
      refine b_call E64 (fun _ hq => (BX35_first (bE.rf E64.S) hq)) hF (fun _ hq66 D66 E66 hF => ?_)
      refine b_call E66 (fun _ hq => (BX35_first (bE.rf E66.S) hq)) hF (fun _ hq68 D68 E68 hF => ?_)
      refine b_call E68 (fun _ hq => (BX35_first (bE.rf E68.S) hq)) hF (fun _ hq70 D70 E70 hF => ?_)
      refine b_call E70 (fun _ hq => (BX35_first (bE.rf E70.S) hq)) hF (fun _ hq72 D72 E72 hF => ?_)
      refine b_call E72 (fun _ hq => (BX35_first (bE.rf E72.S) hq)) hF (fun _ hq74 D74 E74 hF => ?_)
      refine b_call E74 (fun _ hq => (BX35_primitives (N := N) (bE.rf E74.S) hq)) hF (fun _ hq76 D76 E76 hF => ?_)
      refine b_call E76 (fun _ hq => (BX35_primitives (N := N) (bE.rf E76.S) hq)) hF (fun _ hq78 D78 E78 hF => ?_)
      exact b_ret E78 hF
    ·
      refine b_qI E (E.S.m1 (Nat.le_of_ble_eq_true rfl) (Nat.le_of_ble_eq_true rfl)) hF (fun _ D80 E80 hF => ?_)
      refine b_if hF (fun hF => ?_) (fun hF => ?_)
      ·
        exact BX35_clear_b237 (N := N) (K207 := FX35_clear_b207 N n) @ih E80 hF
      ·
        refine b_if hF (fun hF => ?_) (fun hF => ?_)
        ·
          exact BX35_clear_b249 (N := N) (K207 := FX35_clear_b207 N n) @ih E80 hF
        ·
          exact BX35_clear_b237 (N := N) (K207 := FX35_clear_b207 N n) @ih E80 hF
theorem BX35_clear_b185 {σo : fS} {q : Unit × fS} {N : Nat} : ∀ {n : Nat} {s : fS} {l1 : Int}, bE 1 σo s → FX35_clear_b185 N n l1 s = some q → bE 1 σo q.2 := by
  intro n
  induction n with
  | zero => intro s l1 E  hF; simp [FX35_clear_b185] at hF
  | succ n ih =>
    intro s l1 E  hF
    rw [FX35_clear_b185] at hF
    refine b_if hF (fun hF => ?_) (fun hF => ?_)
    ·
      exact BX35_clear_b207 (N := N) E hF
    ·
      refine b_qI E (E.S.m1 (Nat.le_of_ble_eq_true rfl) (Nat.le_of_ble_eq_true rfl)) hF (fun _ D2 E2 hF => ?_)
      exact ih E2 hF
theorem BX35_clear {σo : fS} {q : Unit × fS} {N : Nat} {s : fS} (E : bE 1 σo s) (hF : FX35_clear N s = some q) : bE 1 σo q.2 := by
  unfold FX35_clear at hF
  refine b_pI E (E.S.m1 (Nat.le_of_ble_eq_true rfl) (Nat.le_of_ble_eq_true rfl)) hF (fun _ D1 E1 hF => ?_)
  refine b_pI E1 (E1.S.m1 (Nat.le_of_ble_eq_true rfl) (Nat.le_of_ble_eq_true rfl)) hF (fun _ D2 E2 hF => ?_)
  refine b_pI E2 (E2.S.m1 (Nat.le_of_ble_eq_true rfl) (Nat.le_of_ble_eq_true rfl)) hF (fun _ D3 E3 hF => ?_)
  refine b_pI E3 (E3.S.m1 (Nat.le_of_ble_eq_true rfl) (Nat.le_of_ble_eq_true rfl)) hF (fun _ D4 E4 hF => ?_)
  refine b_pI E4 (E4.S.m1 (Nat.le_of_ble_eq_true rfl) (Nat.le_of_ble_eq_true rfl)) hF (fun _ D5 E5 hF => ?_)
  refine b_pI E5 (E5.S.m1 (Nat.le_of_ble_eq_true rfl) (Nat.le_of_ble_eq_true rfl)) hF (fun _ D6 E6 hF => ?_)
  refine b_pI E6 (E6.S.m1 (Nat.le_of_ble_eq_true rfl) (Nat.le_of_ble_eq_true rfl)) hF (fun _ D7 E7 hF => ?_)
  refine b_pI E7 (E7.S.m1 (Nat.le_of_ble_eq_true rfl) (Nat.le_of_ble_eq_true rfl)) hF (fun _ D8 E8 hF => ?_)
  refine b_pI E8 (E8.S.m1 (Nat.le_of_ble_eq_true rfl) (Nat.le_of_ble_eq_true rfl)) hF (fun _ D9 E9 hF => ?_)
  refine b_pI E9 (E9.S.m1 (Nat.le_of_ble_eq_true rfl) (Nat.le_of_ble_eq_true rfl)) hF (fun _ D10 E10 hF => ?_)
  refine b_pI E10 (E10.S.m1 (Nat.le_of_ble_eq_true rfl) (Nat.le_of_ble_eq_true rfl)) hF (fun _ D11 E11 hF => ?_)
  refine b_pI E11 (E11.S.m1 (Nat.le_of_ble_eq_true rfl) (Nat.le_of_ble_eq_true rfl)) hF (fun _ D12 E12 hF => ?_)
  refine b_pI E12 (E12.S.m1 (Nat.le_of_ble_eq_true rfl) (Nat.le_of_ble_eq_true rfl)) hF (fun _ D13 E13 hF => ?_)
  refine b_pZ E13 (E13.S.m1 (Nat.le_of_ble_eq_true rfl) (Nat.le_of_ble_eq_true rfl)) hF (fun _ D14 E14 hF => ?_)
  refine b_pI E14 (E14.S.m1 (Nat.le_of_ble_eq_true rfl) (Nat.le_of_ble_eq_true rfl)) hF (fun _ D15 E15 hF => ?_)
  refine b_pI E15 (E15.S.m1 (Nat.le_of_ble_eq_true rfl) (Nat.le_of_ble_eq_true rfl)) hF (fun _ D16 E16 hF => ?_)
  refine b_pI E16 (E16.S.m1 (Nat.le_of_ble_eq_true rfl) (Nat.le_of_ble_eq_true rfl)) hF (fun _ D17 E17 hF => ?_)
  refine b_qI E17 (E17.S.m1 (Nat.le_of_ble_eq_true rfl) (Nat.le_of_ble_eq_true rfl)) hF (fun _ D19 E19 hF => ?_)
  refine b_qI E19 (E19.S.m1 (Nat.le_of_ble_eq_true rfl) (Nat.le_of_ble_eq_true rfl)) hF (fun _ D21 E21 hF => ?_)
  refine b_qI E21 (E21.S.m1 (Nat.le_of_ble_eq_true rfl) (Nat.le_of_ble_eq_true rfl)) hF (fun _ D23 E23 hF => ?_)
  refine b_pI E23 (E23.S.m1 (Nat.le_of_ble_eq_true rfl) (Nat.le_of_ble_eq_true rfl)) hF (fun _ D24 E24 hF => ?_)
  refine b_pI E24 (E24.S.m1 (Nat.le_of_ble_eq_true rfl) (Nat.le_of_ble_eq_true rfl)) hF (fun _ D25 E25 hF => ?_)
  refine b_pI E25 (E25.S.m1 (Nat.le_of_ble_eq_true rfl) (Nat.le_of_ble_eq_true rfl)) hF (fun _ D26 E26 hF => ?_)
  refine b_pI E26 (E26.S.m1 (Nat.le_of_ble_eq_true rfl) (Nat.le_of_ble_eq_true rfl)) hF (fun _ D27 E27 hF => ?_)
  refine b_pZ E27 (E27.S.m1 (Nat.le_of_ble_eq_true rfl) (Nat.le_of_ble_eq_true rfl)) hF (fun _ D28 E28 hF => ?_)
  refine b_pI E28 (E28.S.m1 (Nat.le_of_ble_eq_true rfl) (Nat.le_of_ble_eq_true rfl)) hF (fun _ D29 E29 hF => ?_)
  refine b_pI E29 (E29.S.m1 (Nat.le_of_ble_eq_true rfl) (Nat.le_of_ble_eq_true rfl)) hF (fun _ D30 E30 hF => ?_)
  refine b_pI E30 (E30.S.m1 (Nat.le_of_ble_eq_true rfl) (Nat.le_of_ble_eq_true rfl)) hF (fun _ D31 E31 hF => ?_)
  refine b_pI E31 (E31.S.m1 (Nat.le_of_ble_eq_true rfl) (Nat.le_of_ble_eq_true rfl)) hF (fun _ D32 E32 hF => ?_)
  refine b_pI E32 (E32.S.m1 (Nat.le_of_ble_eq_true rfl) (Nat.le_of_ble_eq_true rfl)) hF (fun _ D33 E33 hF => ?_)
  refine b_pI E33 (E33.S.m1 (Nat.le_of_ble_eq_true rfl) (Nat.le_of_ble_eq_true rfl)) hF (fun _ D34 E34 hF => ?_)
  refine b_pI E34 (E34.S.m1 (Nat.le_of_ble_eq_true rfl) (Nat.le_of_ble_eq_true rfl)) hF (fun _ D35 E35 hF => ?_)
  refine b_pI E35 (E35.S.m1 (Nat.le_of_ble_eq_true rfl) (Nat.le_of_ble_eq_true rfl)) hF (fun _ D36 E36 hF => ?_)
  refine b_pI E36 (E36.S.m1 (Nat.le_of_ble_eq_true rfl) (Nat.le_of_ble_eq_true rfl)) hF (fun _ D38 E38 hF => ?_)
  exact BX35_clear_b185 (N := N) E38 hF
theorem BX35_about_b16 {σo : fS} {q : Int × fS} {s : fS} {l1 : Int} {s1 : Int} (E : bE 1 σo s) (hF : FX35_about_b16 l1 s1 s = some q) : bE 1 σo q.2 := by
  unfold FX35_about_b16 at hF
  refine b_pI E (E.S.m1 (Nat.le_of_ble_eq_true rfl) (Nat.le_of_ble_eq_true rfl)) hF (fun _ D1 E1 hF => ?_)
  refine b_if hF (fun hF => ?_) (fun hF => ?_)
  ·
    refine b_if hF (fun hF => ?_) (fun hF => ?_)
    ·
      exact b_ret E1 hF
    ·
      refine b_if hF (fun hF => ?_) (fun hF => ?_)
      ·
        exact b_ret E1 hF
      ·
        refine b_if hF (fun hF => ?_) (fun hF => ?_)
        ·
          exact b_ret E1 hF
        ·
          refine b_if hF (fun hF => ?_) (fun hF => ?_)
          ·
            refine b_rv hF (fun _ hF => ?_)
            exact b_ret E1 hF
          ·
            refine b_if hF (fun hF => ?_) (fun hF => ?_)
            ·
              exact b_ret E1 hF
            ·
              refine b_if hF (fun hF => ?_) (fun hF => ?_)
              ·
                exact b_ret E1 hF
              ·
                refine b_if hF (fun hF => ?_) (fun hF => ?_)
                ·
                  exact b_ret E1 hF
                ·
                  exact b_ret E1 hF
  ·
    exact b_ret E1 hF
theorem BX35_about_b11 {σo : fS} {q : Int × fS} {s : fS} {l1 : Int} (E : bE 1 σo s) (hF : FX35_about_b11 l1 s = some q) : bE 1 σo q.2 := by
  unfold FX35_about_b11 at hF
  exact BX35_about_b16 E hF
theorem BX35_about {σo : fS} {q : Int × fS} {s : fS} {p0 : Int} (E : bE 1 σo s) (hF : FX35_about p0 s = some q) : bE 1 σo q.2 := by
  unfold FX35_about at hF
  refine b_if hF (fun hF => ?_) (fun hF => ?_)
  ·
    exact BX35_about_b11 E hF
  ·
    refine b_if hF (fun hF => ?_) (fun hF => ?_)
    ·
      exact BX35_about_b16 E hF
    ·
      exact BX35_about_b11 E hF
theorem BX35_isSolid_b19 {σo : fS} {q : Int × fS} {s : fS} {s0 : Int} (E : bE 1 σo s) (hF : FX35_isSolid_b19 s0 s = some q) : bE 1 σo q.2 := by
  unfold FX35_isSolid_b19 at hF
  exact b_z E hF
theorem BX35_isSolid_b14 {σo : fS} {q : Int × fS} {s : fS} (E : bE 1 σo s) (hF : FX35_isSolid_b14 s = some q) : bE 1 σo q.2 := by
  unfold FX35_isSolid_b14 at hF
  exact BX35_isSolid_b19 E hF
theorem BX35_isSolid {σo : fS} {q : Int × fS} {s : fS} {p0 : Int} (E : bE 1 σo s) (hF : FX35_isSolid p0 s = some q) : bE 1 σo q.2 := by
  unfold FX35_isSolid at hF
  refine b_if hF (fun hF => ?_) (fun hF => ?_)
  ·
    exact BX35_isSolid_b14 E hF
  ·
    refine b_if hF (fun hF => ?_) (fun hF => ?_)
    ·
      exact BX35_isSolid_b14 E hF
    ·
      refine b_if hF (fun hF => ?_) (fun hF => ?_)
      ·
        exact BX35_isSolid_b19 E hF
      ·
        exact BX35_isSolid_b14 E hF
theorem BX35_isSize_b21 {σo : fS} {q : Int × fS} {s : fS} {s0 : Int} (E : bE 1 σo s) (hF : FX35_isSize_b21 s0 s = some q) : bE 1 σo q.2 := by
  unfold FX35_isSize_b21 at hF
  exact b_z E hF
theorem BX35_isSize_b20 {σo : fS} {q : Int × fS} {s : fS} (E : bE 1 σo s) (hF : FX35_isSize_b20 s = some q) : bE 1 σo q.2 := by
  unfold FX35_isSize_b20 at hF
  exact BX35_isSize_b21 E hF
theorem BX35_isSize {σo : fS} {q : Int × fS} {s : fS} {p0 : Int} (E : bE 1 σo s) (hF : FX35_isSize p0 s = some q) : bE 1 σo q.2 := by
  unfold FX35_isSize at hF
  refine b_if hF (fun hF => ?_) (fun hF => ?_)
  ·
    exact BX35_isSize_b20 E hF
  ·
    refine b_if hF (fun hF => ?_) (fun hF => ?_)
    ·
      exact BX35_isSize_b20 E hF
    ·
      exact BX35_isSize_b21 E hF
theorem BX35_grow_b33 {σo : fS} {q : Unit × fS} {s : fS} {s1 : Int} (E : bE 1 σo s) (hF : FX35_grow_b33 s1 s = some q) : bE 1 σo q.2 := by
  unfold FX35_grow_b33 at hF
  refine b_pZ E (E.S.m1 (Nat.le_of_ble_eq_true rfl) (Nat.le_of_ble_eq_true rfl)) hF (fun _ D1 E1 hF => ?_)
  exact b_ret E1 hF
theorem BX35_grow_b32 {σo : fS} {q : Unit × fS} {s : fS} (E : bE 1 σo s) (hF : FX35_grow_b32 s = some q) : bE 1 σo q.2 := by
  unfold FX35_grow_b32 at hF
  exact BX35_grow_b33 E hF
theorem BX35_grow {σo : fS} {q : Unit × fS} {s : fS} {p0 : Int} (E : bE 1 σo s) (hF : FX35_grow p0 s = some q) : bE 1 σo q.2 := by
  unfold FX35_grow at hF
  refine b_pJ E (E.S.m1 (Nat.le_of_ble_eq_true rfl) (Nat.le_of_ble_eq_true rfl)) hF (fun _ D2 E2 hF => ?_)
  refine b_if hF (fun hF => ?_) (fun hF => ?_)
  ·
    exact BX35_grow_b32 E2 hF
  ·
    refine b_call E2 (fun _ hq => (BX35_isSize (bE.rf E2.S) hq)) hF (fun _ hq5 D5 E5 hF => ?_)
    refine b_if hF (fun hF => ?_) (fun hF => ?_)
    ·
      exact BX35_grow_b32 E5 hF
    ·
      exact BX35_grow_b33 E5 hF
theorem BX35_sizeOf_b45 {σo : fS} {q : Int × fS} {s : fS} {s0 : Int} (E : bE 1 σo s) (hF : FX35_sizeOf_b45 s0 s = some q) : bE 1 σo q.2 := by
  unfold FX35_sizeOf_b45 at hF
  exact b_ret E hF
theorem BX35_sizeOf_b89 {σo : fS} {q : Int × fS} {s : fS} {s0 : Int} (E : bE 1 σo s) (hF : FX35_sizeOf_b89 s0 s = some q) : bE 1 σo q.2 := by
  unfold FX35_sizeOf_b89 at hF
  exact b_ret E hF
theorem BX35_sizeOf {σo : fS} {q : Int × fS} {s : fS} {p0 : Nat} {p1 : Int} {p2 : Int} (E : bE 1 σo s) (op0 : bO 1 s p0) (hF : FX35_sizeOf p0 p1 p2 s = some q) : bE 1 σo q.2 := by
  unfold FX35_sizeOf at hF
  refine b_KA hF (fun hF => ?_)
  refine b_rv hF (fun _ hF => ?_)
  refine b_if hF (fun hF => ?_) (fun hF => ?_)
  ·
    refine b_KA hF (fun hF => ?_)
    refine b_rv hF (fun _ hF => ?_)
    refine b_if hF (fun hF => ?_) (fun hF => ?_)
    ·
      refine b_KA hF (fun hF => ?_)
      refine b_rv hF (fun _ hF => ?_)
      refine b_if hF (fun hF => ?_) (fun hF => ?_)
      ·
        refine b_if hF (fun hF => ?_) (fun hF => ?_)
        ·
          refine b_rv hF (fun _ hF => ?_)
          exact BX35_sizeOf_b89 E hF
        ·
          refine b_rv hF (fun _ hF => ?_)
          exact BX35_sizeOf_b89 E hF
      ·
        refine b_rv hF (fun _ hF => ?_)
        exact BX35_sizeOf_b89 E hF
    ·
      refine b_KA hF (fun hF => ?_)
      refine b_rv hF (fun _ hF => ?_)
      refine b_if hF (fun hF => ?_) (fun hF => ?_)
      ·
        refine b_KA hF (fun hF => ?_)
        refine b_rv hF (fun _ hF => ?_)
        exact BX35_sizeOf_b45 E hF
      ·
        exact BX35_sizeOf_b45 E hF
  ·
    refine b_KA hF (fun hF => ?_)
    refine b_rv hF (fun _ hF => ?_)
    exact b_ret E hF
theorem BX35_isRunning_b25 {σo : fS} {q : Int × fS} {s : fS} {s0 : Int} (E : bE 1 σo s) (hF : FX35_isRunning_b25 s0 s = some q) : bE 1 σo q.2 := by
  unfold FX35_isRunning_b25 at hF
  exact b_z E hF
theorem BX35_isRunning_b24 {σo : fS} {q : Int × fS} {s : fS} (E : bE 1 σo s) (hF : FX35_isRunning_b24 s = some q) : bE 1 σo q.2 := by
  unfold FX35_isRunning_b24 at hF
  exact BX35_isRunning_b25 E hF
theorem BX35_isRunning {σo : fS} {q : Int × fS} {s : fS} {p0 : Nat} {p1 : Int} {p2 : Int} (E : bE 1 σo s) (op0 : bO 1 s p0) (hF : FX35_isRunning p0 p1 p2 s = some q) : bE 1 σo q.2 := by
  unfold FX35_isRunning at hF
  refine b_KA hF (fun hF => ?_)
  refine b_rv hF (fun _ hF => ?_)
  refine b_if hF (fun hF => ?_) (fun hF => ?_)
  ·
    exact BX35_isRunning_b24 E hF
  ·
    refine b_KA hF (fun hF => ?_)
    refine b_rv hF (fun _ hF => ?_)
    refine b_if hF (fun hF => ?_) (fun hF => ?_)
    ·
      exact BX35_isRunning_b24 E hF
    ·
      exact BX35_isRunning_b25 E hF
theorem BX35_greater_b39 {σo : fS} {q : Int × fS} {s : fS} {s0 : Int} (E : bE 1 σo s) (hF : FX35_greater_b39 s0 s = some q) : bE 1 σo q.2 := by
  unfold FX35_greater_b39 at hF
  exact b_ret E hF
theorem BX35_greater_b25 {σo : fS} {q : Int × fS} {s : fS} {l1 : Int} {l3 : Int} {s1 : Int} (E : bE 1 σo s) (hF : FX35_greater_b25 l1 l3 s1 s = some q) : bE 1 σo q.2 := by
  unfold FX35_greater_b25 at hF
  refine b_pZ E (E.S.m1 (Nat.le_of_ble_eq_true rfl) (Nat.le_of_ble_eq_true rfl)) hF (fun _ D1 E1 hF => ?_)
  refine b_if hF (fun hF => ?_) (fun hF => ?_)
  ·
    exact BX35_greater_b39 E1 hF
  ·
    exact BX35_greater_b39 E1 hF
theorem BX35_greater_b20 {σo : fS} {q : Int × fS} {s : fS} {l1 : Int} {l3 : Int} (E : bE 1 σo s) (hF : FX35_greater_b20 l1 l3 s = some q) : bE 1 σo q.2 := by
  unfold FX35_greater_b20 at hF
  exact BX35_greater_b25 E hF
theorem BX35_greater_b24 {σo : fS} {q : Int × fS} {s : fS} {l1 : Int} {l3 : Int} (E : bE 1 σo s) (hF : FX35_greater_b24 l1 l3 s = some q) : bE 1 σo q.2 := by
  unfold FX35_greater_b24 at hF
  exact BX35_greater_b25 E hF
theorem BX35_greater {σo : fS} {q : Int × fS} {s : fS} {p0 : Int} {p1 : Int} {p2 : Int} (E : bE 1 σo s) (hF : FX35_greater p0 p1 p2 s = some q) : bE 1 σo q.2 := by
  unfold FX35_greater at hF
  refine b_if hF (fun hF => ?_) (fun hF => ?_)
  ·
    exact BX35_greater_b24 E hF
  ·
    refine b_if hF (fun hF => ?_) (fun hF => ?_)
    ·
      exact BX35_greater_b20 E hF
    ·
      refine b_call E (fun _ hq => (BX35_isSize (bE.rf E.S) hq)) hF (fun _ hq2 D2 E2 hF => ?_)
      refine b_if hF (fun hF => ?_) (fun hF => ?_)
      ·
        exact BX35_greater_b24 E2 hF
      ·
        exact BX35_greater_b20 E2 hF
theorem BX35_addSolid_b104 {σo : fS} {q : Unit × fS} {s : fS} {s1 : Int} (E : bE 1 σo s) (hF : FX35_addSolid_b104 s1 s = some q) : bE 1 σo q.2 := by
  unfold FX35_addSolid_b104 at hF
  refine b_pJ E (E.S.m1 (Nat.le_of_ble_eq_true rfl) (Nat.le_of_ble_eq_true rfl)) hF (fun _ D1 E1 hF => ?_)
  exact b_ret E1 hF
theorem BX35_addSolid_b101 {σo : fS} {q : Unit × fS} {s : fS} {s2 : Int} {s3 : Int} {s4 : Int} (E : bE 1 σo s) (hF : FX35_addSolid_b101 s2 s3 s4 s = some q) : bE 1 σo q.2 := by
  unfold FX35_addSolid_b101 at hF
  refine b_call E (fun _ hq => (BX35_greater (bE.rf E.S) hq)) hF (fun _ hq2 D2 E2 hF => ?_)
  exact BX35_addSolid_b104 E2 hF
theorem BX35_addSolid_b223 {σo : fS} {q : Unit × fS} {s : fS} {s1 : Int} (E : bE 1 σo s) (hF : FX35_addSolid_b223 s1 s = some q) : bE 1 σo q.2 := by
  unfold FX35_addSolid_b223 at hF
  refine b_pJ E (E.S.m1 (Nat.le_of_ble_eq_true rfl) (Nat.le_of_ble_eq_true rfl)) hF (fun _ D1 E1 hF => ?_)
  exact b_ret E1 hF
theorem BX35_addSolid_b220 {σo : fS} {q : Unit × fS} {s : fS} {s2 : Int} {s3 : Int} {s4 : Int} (E : bE 1 σo s) (hF : FX35_addSolid_b220 s2 s3 s4 s = some q) : bE 1 σo q.2 := by
  unfold FX35_addSolid_b220 at hF
  refine b_call E (fun _ hq => (BX35_greater (bE.rf E.S) hq)) hF (fun _ hq2 D2 E2 hF => ?_)
  exact BX35_addSolid_b223 E2 hF
theorem BX35_addSolid_b170 {σo : fS} {q : Unit × fS} {s : fS} {l1 : Nat} {l2 : Int} {l4 : Int} {s1 : Int} (E : bE 1 σo s) (ol1 : bO 1 s l1) (hF : FX35_addSolid_b170 l1 l2 l4 s1 s = some q) : bE 1 σo q.2 := by
  unfold FX35_addSolid_b170 at hF
  refine b_pJ E (E.S.m1 (Nat.le_of_ble_eq_true rfl) (Nat.le_of_ble_eq_true rfl)) hF (fun _ D1 E1 hF => ?_)
  refine b_call E1 (fun _ hq => (BX35_isRunning (bE.rf E1.S) (ol1.up D1) hq)) hF (fun _ hq3 D3 E3 hF => ?_)
  refine b_if hF (fun hF => ?_) (fun hF => ?_)
  ·
    refine b_call E3 (fun _ hq => (BX35_sizeOf (bE.rf E3.S) ((ol1.up D1).up D3) hq)) hF (fun _ hq6 D6 E6 hF => ?_)
    refine b_KA hF (fun hF => ?_)
    refine b_rv hF (fun _ hF => ?_)
    refine b_if hF (fun hF => ?_) (fun hF => ?_)
    ·
      exact BX35_addSolid_b220 E6 hF
    ·
      exact BX35_addSolid_b220 E6 hF
  ·
    exact BX35_addSolid_b223 E3 hF
theorem BX35_addSolid_b167 {σo : fS} {q : Unit × fS} {s : fS} {l1 : Nat} {l2 : Int} {l4 : Int} {s2 : Int} {s3 : Int} {s4 : Int} (E : bE 1 σo s) (ol1 : bO 1 s l1) (hF : FX35_addSolid_b167 l1 l2 l4 s2 s3 s4 s = some q) : bE 1 σo q.2 := by
  unfold FX35_addSolid_b167 at hF
  refine b_call E (fun _ hq => (BX35_greater (bE.rf E.S) hq)) hF (fun _ hq2 D2 E2 hF => ?_)
  exact BX35_addSolid_b170 E2 (ol1.up D2) hF
theorem BX35_addSolid_b16 {σo : fS} {q : Unit × fS} {s : fS} {l1 : Nat} {l2 : Int} {l3 : Int} {s0 : Int} (E : bE 1 σo s) (ol1 : bO 1 s l1) (hF : FX35_addSolid_b16 l1 l2 l3 s0 s = some q) : bE 1 σo q.2 := by
  unfold FX35_addSolid_b16 at hF
  refine b_if hF (fun hF => ?_) (fun hF => ?_)
  ·
    refine b_call E (fun _ hq => (BX35_sizeOf (bE.rf E.S) ol1 hq)) hF (fun _ hq2 D2 E2 hF => ?_)
    refine b_call E2 (fun _ hq => (BX35_grow (bE.rf E2.S) hq)) hF (fun _ hq4 D4 E4 hF => ?_)
    refine b_call E4 (fun _ hq => (BX35_isRunning (bE.rf E4.S) ((ol1.up D2).up D4) hq)) hF (fun _ hq6 D6 E6 hF => ?_)
    refine b_if hF (fun hF => ?_) (fun hF => ?_)
    ·
      refine b_call E6 (fun _ hq => (BX35_sizeOf (bE.rf E6.S) (((ol1.up D2).up D4).up D6) hq)) hF (fun _ hq9 D9 E9 hF => ?_)
      refine b_KA hF (fun hF => ?_)
      refine b_rv hF (fun _ hF => ?_)
      refine b_if hF (fun hF => ?_) (fun hF => ?_)
      ·
        exact BX35_addSolid_b167 E9 ((((ol1.up D2).up D4).up D6).up D9) hF
      ·
        exact BX35_addSolid_b167 E9 ((((ol1.up D2).up D4).up D6).up D9) hF
    ·
      exact BX35_addSolid_b170 E6 (((ol1.up D2).up D4).up D6) hF
  ·
    refine b_call E (fun _ hq => (BX35_grow (bE.rf E.S) hq)) hF (fun _ hq14 D14 E14 hF => ?_)
    refine b_call E14 (fun _ hq => (BX35_sizeOf (bE.rf E14.S) (ol1.up D14) hq)) hF (fun _ hq16 D16 E16 hF => ?_)
    refine b_call E16 (fun _ hq => (BX35_grow (bE.rf E16.S) hq)) hF (fun _ hq18 D18 E18 hF => ?_)
    refine b_call E18 (fun _ hq => (BX35_sizeOf (bE.rf E18.S) (((ol1.up D14).up D16).up D18) hq)) hF (fun _ hq20 D20 E20 hF => ?_)
    refine b_pJ E20 (E20.S.m1 (Nat.le_of_ble_eq_true rfl) (Nat.le_of_ble_eq_true rfl)) hF (fun _ D21 E21 hF => ?_)
    refine b_call E21 (fun _ hq => (BX35_isRunning (bE.rf E21.S) (((((ol1.up D14).up D16).up D18).up D20).up D21) hq)) hF (fun _ hq23 D23 E23 hF => ?_)
    refine b_if hF (fun hF => ?_) (fun hF => ?_)
    ·
      refine b_call E23 (fun _ hq => (BX35_sizeOf (bE.rf E23.S) ((((((ol1.up D14).up D16).up D18).up D20).up D21).up D23) hq)) hF (fun _ hq26 D26 E26 hF => ?_)
      refine b_KA hF (fun hF => ?_)
      refine b_rv hF (fun _ hF => ?_)
      refine b_if hF (fun hF => ?_) (fun hF => ?_)
      ·
        exact BX35_addSolid_b101 E26 hF
      ·
        exact BX35_addSolid_b101 E26 hF
    ·
      exact BX35_addSolid_b104 E23 hF
theorem BX35_addSolid {σo : fS} {q : Unit × fS} {s : fS} {p0 : Nat} {p1 : Int} {p2 : Int} (E : bE 1 σo s) (op0 : bO 1 s p0) (hF : FX35_addSolid p0 p1 p2 s = some q) : bE 1 σo q.2 := by
  unfold FX35_addSolid at hF
  refine b_KA hF (fun hF => ?_)
  refine b_rv hF (fun _ hF => ?_)
  refine b_if hF (fun hF => ?_) (fun hF => ?_)
  ·
    exact BX35_addSolid_b16 E op0 hF
  ·
    refine b_KA hF (fun hF => ?_)
    refine b_rv hF (fun _ hF => ?_)
    exact BX35_addSolid_b16 E op0 hF
theorem BX35_add_b133 {σo : fS} {q : Unit × fS} {s : fS} (E : bE 1 σo s) (hF : FX35_add_b133 s = some q) : bE 1 σo q.2 := by
  unfold FX35_add_b133 at hF
  exact b_ret E hF
theorem BX35_add_b130 {σo : fS} {q : Unit × fS} {s : fS} {s1 : Int} (E : bE 1 σo s) (hF : FX35_add_b130 s1 s = some q) : bE 1 σo q.2 := by
  unfold FX35_add_b130 at hF
  refine b_pZ E (E.S.m1 (Nat.le_of_ble_eq_true rfl) (Nat.le_of_ble_eq_true rfl)) hF (fun _ D1 E1 hF => ?_)
  exact BX35_add_b133 E1 hF
theorem BX35_add_b129 {σo : fS} {q : Unit × fS} {s : fS} (E : bE 1 σo s) (hF : FX35_add_b129 s = some q) : bE 1 σo q.2 := by
  unfold FX35_add_b129 at hF
  exact BX35_add_b130 E hF
theorem BX35_add_b34 {σo : fS} {q : Unit × fS} {s : fS} {l1 : Nat} {l2 : Int} (E : bE 1 σo s) (ol1 : bO 1 s l1) (hF : FX35_add_b34 l1 l2 s = some q) : bE 1 σo q.2 := by
  unfold FX35_add_b34 at hF
  refine b_KA hF (fun hF => ?_)
  refine b_rv hF (fun _ hF => ?_)
  refine b_call E (fun _ hq => (BX35_grow (bE.rf E.S) hq)) hF (fun _ hq3 D3 E3 hF => ?_)
  refine b_KA hF (fun hF => ?_)
  refine b_rv hF (fun _ hF => ?_)
  refine b_if hF (fun hF => ?_) (fun hF => ?_)
  ·
    exact BX35_add_b133 E3 hF
  ·
    refine b_KA hF (fun hF => ?_)
    refine b_rv hF (fun _ hF => ?_)
    refine b_rv hF (fun _ hF => ?_)
    refine b_KA hF (fun hF => ?_)
    refine b_rv hF (fun _ hF => ?_)
    refine b_qJ E3 (E3.S.m1 (Nat.le_of_ble_eq_true rfl) (Nat.le_of_ble_eq_true rfl)) hF (fun _ D10 E10 hF => ?_)
    refine b_KA hF (fun hF => ?_)
    refine b_rv hF (fun _ hF => ?_)
    refine b_pJ E10 (E10.S.m1 (Nat.le_of_ble_eq_true rfl) (Nat.le_of_ble_eq_true rfl)) hF (fun _ D13 E13 hF => ?_)
    refine b_if hF (fun hF => ?_) (fun hF => ?_)
    ·
      exact BX35_add_b129 E13 hF
    ·
      refine b_rv hF (fun _ hF => ?_)
      refine b_call E13 (fun _ hq => (BX35_isSize (bE.rf E13.S) hq)) hF (fun _ hq17 D17 E17 hF => ?_)
      refine b_if hF (fun hF => ?_) (fun hF => ?_)
      ·
        exact BX35_add_b129 E17 hF
      ·
        refine b_call E17 (fun _ hq => (BX35_isSize (bE.rf E17.S) hq)) hF (fun _ hq19 D19 E19 hF => ?_)
        refine b_if hF (fun hF => ?_) (fun hF => ?_)
        ·
          exact BX35_add_b129 E19 hF
        ·
          exact BX35_add_b130 E19 hF
theorem BX35_add {σo : fS} {q : Unit × fS} {s : fS} {p0 : Nat} {p1 : Int} {p2 : Int} (E : bE 1 σo s) (op0 : bO 1 s p0) (hF : FX35_add p0 p1 p2 s = some q) : bE 1 σo q.2 := by
  unfold FX35_add at hF
  refine b_KA hF (fun hF => ?_)
  refine b_rv hF (fun _ hF => ?_)
  refine b_call E (fun _ hq => (BX35_isSolid (bE.rf E.S) hq)) hF (fun _ hq2 D2 E2 hF => ?_)
  refine b_if hF (fun hF => ?_) (fun hF => ?_)
  ·
    refine b_if hF (fun hF => ?_) (fun hF => ?_)
    ·
      exact BX35_add_b34 E2 (op0.up D2) hF
    ·
      refine b_call E2 (fun _ hq => (BX35_grow (bE.rf E2.S) hq)) hF (fun _ hq5 D5 E5 hF => ?_)
      refine b_pJ E5 (E5.S.m1 (Nat.le_of_ble_eq_true rfl) (Nat.le_of_ble_eq_true rfl)) hF (fun _ D6 E6 hF => ?_)
      exact BX35_add_b34 E6 (((op0.up D2).up D5).up D6) hF
  ·
    refine b_call E2 (fun _ hq => (BX35_addSolid (bE.rf E2.S) (op0.up D2) hq)) hF (fun _ hq8 D8 E8 hF => ?_)
    exact b_ret E8 hF
