set_option maxRecDepth 100000
set_option maxHeartbeats 4000000
theorem BX8_decide_b162 {σo : fS} {q : (Unit ⊕ Nat) × fS} {N : Nat} {RE : Int → fS → Option ((Unit ⊕ Nat) × fS)} {RN : fS → Option ((Int ⊕ Nat) × fS)} (hrE : ∀ {s : fS} {x1 : Int} {q}, bS 0 s → RE x1 s = some q → bE 0 s q.2) (hrN : ∀ {s : fS} {q}, bS 0 s → RN s = some q → bE 0 s q.2) {s : fS} (E : bE 0 σo s) (hF : FX8_decide_b162 N RE RN s = some q) : bE 0 σo q.2 := by
  unfold FX8_decide_b162 at hF
  exact b_ret E hF
theorem BX8_decide_b144 {σo : fS} {q : (Unit ⊕ Nat) × fS} {N : Nat} {RE : Int → fS → Option ((Unit ⊕ Nat) × fS)} {RN : fS → Option ((Int ⊕ Nat) × fS)} (hrE : ∀ {s : fS} {x1 : Int} {q}, bS 0 s → RE x1 s = some q → bE 0 s q.2) (hrN : ∀ {s : fS} {q}, bS 0 s → RN s = some q → bE 0 s q.2) {s : fS} {l4 : Int} {s1 : Int} {s2 : Int} (E : bE 0 σo s) (hF : FX8_decide_b144 N RE RN l4 s1 s2 s = some q) : bE 0 σo q.2 := by
  unfold FX8_decide_b144 at hF
  refine b_qI E (E.S.c0 (Nat.le_of_ble_eq_true rfl)) hF (fun _ D1 E1 hF => ?_)
  refine b_if hF (fun hF => ?_) (fun hF => ?_)
  ·
    exact BX8_decide_b162 (N := N) (RE := RE) (RN := RN) @hrE @hrN E1 hF
  ·
    refine b_pI E1 (E1.S.c0 (Nat.le_of_ble_eq_true rfl)) hF (fun _ D3 E3 hF => ?_)
    exact BX8_decide_b162 (N := N) (RE := RE) (RN := RN) @hrE @hrN E3 hF
theorem BX8_decide_b122 {σo : fS} {q : (Unit ⊕ Nat) × fS} {N : Nat} {RE : Int → fS → Option ((Unit ⊕ Nat) × fS)} {RN : fS → Option ((Int ⊕ Nat) × fS)} (hrE : ∀ {s : fS} {x1 : Int} {q}, bS 0 s → RE x1 s = some q → bE 0 s q.2) (hrN : ∀ {s : fS} {q}, bS 0 s → RN s = some q → bE 0 s q.2) {s : fS} {l2 : Int} {l4 : Int} {s1 : Int} (E : bE 0 σo s) (hF : FX8_decide_b122 N RE RN l2 l4 s1 s = some q) : bE 0 σo q.2 := by
  unfold FX8_decide_b122 at hF
  refine b_tB E (fun _ hq => BX4_want (bE.rf E.S) hq) hF (fun _ _ D2 E2 hF => ?_)
  refine b_if hF (fun hF => ?_) (fun hF => ?_)
  ·
    exact BX8_decide_b144 (N := N) (RE := RE) (RN := RN) @hrE @hrN E2 hF
  ·
    exact BX8_decide_b144 (N := N) (RE := RE) (RN := RN) @hrE @hrN E2 hF
theorem BX8_decide_b57 {σo : fS} {q : (Unit ⊕ Nat) × fS} {N : Nat} {RE : Int → fS → Option ((Unit ⊕ Nat) × fS)} {RN : fS → Option ((Int ⊕ Nat) × fS)} (hrE : ∀ {s : fS} {x1 : Int} {q}, bS 0 s → RE x1 s = some q → bE 0 s q.2) (hrN : ∀ {s : fS} {q}, bS 0 s → RN s = some q → bE 0 s q.2) {s : fS} {l1 : Int} {l2 : Int} {s1 : Int} {s2 : Int} (E : bE 0 σo s) (hF : FX8_decide_b57 N RE RN l1 l2 s1 s2 s = some q) : bE 0 σo q.2 := by
  unfold FX8_decide_b57 at hF
  refine b_qI E (E.S.c0 (Nat.le_of_ble_eq_true rfl)) hF (fun _ D1 E1 hF => ?_)
  refine b_qI E1 (E1.S.c0 (Nat.le_of_ble_eq_true rfl)) hF (fun _ D3 E3 hF => ?_)
  refine b_if hF (fun hF => ?_) (fun hF => ?_)
  ·
    refine b_tB E3 (fun _ hq => BX8_test (N := N) (RE := RE) (RN := RN) @hrE @hrN (bE.rf E3.S) hq) hF (fun _ _ D5 E5 hF => ?_)
    refine b_qI E5 (E5.S.c0 (Nat.le_of_ble_eq_true rfl)) hF (fun _ D7 E7 hF => ?_)
    refine b_if hF (fun hF => ?_) (fun hF => ?_)
    ·
      refine b_tB E7 (fun _ hq => BX8_passOwn (N := N) (bE.rf E7.S) hq) hF (fun _ _ D9 E9 hF => ?_)
      refine b_if hF (fun hF => ?_) (fun hF => ?_)
      ·
        exact BX8_decide_b122 (N := N) (RE := RE) (RN := RN) @hrE @hrN E9 hF
      ·
        exact BX8_decide_b122 (N := N) (RE := RE) (RN := RN) @hrE @hrN E9 hF
    ·
      exact b_ret E7 hF
  ·
    refine b_tB E3 (fun _ hq => hrN E3.S hq) hF (fun _ _ D12 E12 hF => ?_)
    refine b_tB E12 (fun _ hq => BX8_chooseCase (N := N) (bE.rf E12.S) hq) hF (fun _ _ D14 E14 hF => ?_)
    exact b_ret E14 hF
theorem BX8_decide_b18 {σo : fS} {q : (Unit ⊕ Nat) × fS} {N : Nat} {RE : Int → fS → Option ((Unit ⊕ Nat) × fS)} {RN : fS → Option ((Int ⊕ Nat) × fS)} (hrE : ∀ {s : fS} {x1 : Int} {q}, bS 0 s → RE x1 s = some q → bE 0 s q.2) (hrN : ∀ {s : fS} {q}, bS 0 s → RN s = some q → bE 0 s q.2) {s : fS} {l1 : Int} {s1 : Int} (E : bE 0 σo s) (hF : FX8_decide_b18 N RE RN l1 s1 s = some q) : bE 0 σo q.2 := by
  unfold FX8_decide_b18 at hF
  refine b_tB E (fun _ hq => BX4_want (bE.rf E.S) hq) hF (fun _ _ D2 E2 hF => ?_)
  refine b_pI E2 (E2.S.c0 (Nat.le_of_ble_eq_true rfl)) hF (fun _ D4 E4 hF => ?_)
  refine b_qI E4 (E4.S.c0 (Nat.le_of_ble_eq_true rfl)) hF (fun _ D6 E6 hF => ?_)
  refine b_if hF (fun hF => ?_) (fun hF => ?_)
  ·
    exact BX8_decide_b57 (N := N) (RE := RE) (RN := RN) @hrE @hrN E6 hF
  ·
    exact BX8_decide_b57 (N := N) (RE := RE) (RN := RN) @hrE @hrN E6 hF
theorem BX8_decide {σo : fS} {q : (Unit ⊕ Nat) × fS} {N : Nat} {RE : Int → fS → Option ((Unit ⊕ Nat) × fS)} {RN : fS → Option ((Int ⊕ Nat) × fS)} (hrE : ∀ {s : fS} {x1 : Int} {q}, bS 0 s → RE x1 s = some q → bE 0 s q.2) (hrN : ∀ {s : fS} {q}, bS 0 s → RN s = some q → bE 0 s q.2) {s : fS} {p0 : Int} (E : bE 0 σo s) (hF : FX8_decide N RE RN p0 s = some q) : bE 0 σo q.2 := by
  unfold FX8_decide at hF
  refine b_if hF (fun hF => ?_) (fun hF => ?_)
  ·
    exact BX8_decide_b18 (N := N) (RE := RE) (RN := RN) @hrE @hrN E hF
  ·
    exact BX8_decide_b18 (N := N) (RE := RE) (RN := RN) @hrE @hrN E hF
theorem BX8_decimal_b50 {σo : fS} {q : (Int ⊕ Nat) × fS} {N : Nat} {RE : Int → fS → Option ((Unit ⊕ Nat) × fS)} {K12 : Int → Int → fS → Option ((Int ⊕ Nat) × fS)} (hrE : ∀ {s : fS} {x1 : Int} {q}, bS 0 s → RE x1 s = some q → bE 0 s q.2) (hk12 : ∀ {s : fS} {l2 : Int} {l4 : Int}, bE 0 σo s → K12 l2 l4 s = some q → bE 0 σo q.2) {s : fS} {l2 : Int} {s1 : Int} (E : bE 0 σo s) (hF : FX8_decimal_b50 N RE K12 l2 s1 s = some q) : bE 0 σo q.2 := by
  unfold FX8_decimal_b50 at hF
  refine b_tB E (fun _ hq => BX4_want (bE.rf E.S) hq) hF (fun _ _ D2 E2 hF => ?_)
  refine b_tB E2 (fun _ hq => BX8_getExpanded (N := N) (RE := RE) @hrE (bE.rf E2.S) hq) hF (fun _ _ D4 E4 hF => ?_)
  exact hk12 E4 hF
theorem BX8_decimal_b80 {σo : fS} {q : (Int ⊕ Nat) × fS} {N : Nat} {RE : Int → fS → Option ((Unit ⊕ Nat) × fS)} (hrE : ∀ {s : fS} {x1 : Int} {q}, bS 0 s → RE x1 s = some q → bE 0 s q.2) {s : fS} {l2 : Int} (E : bE 0 σo s) (hF : FX8_decimal_b80 N RE l2 s = some q) : bE 0 σo q.2 := by
  unfold FX8_decimal_b80 at hF
  exact b_ret E hF
theorem BX8_decimal_b12 {σo : fS} {q : (Int ⊕ Nat) × fS} {N : Nat} {RE : Int → fS → Option ((Unit ⊕ Nat) × fS)} (hrE : ∀ {s : fS} {x1 : Int} {q}, bS 0 s → RE x1 s = some q → bE 0 s q.2) : ∀ {n : Nat} {s : fS} {l2 : Int} {l4 : Int}, bE 0 σo s → FX8_decimal_b12 N RE n l2 l4 s = some q → bE 0 σo q.2 := by
  intro n
  induction n with
  | zero => intro s l2 l4 E  hF; simp [FX8_decimal_b12] at hF
  | succ n ih =>
    intro s l2 l4 E  hF
    rw [FX8_decimal_b12] at hF
    refine b_call E (fun _ hq => (BX1_isDigit (bE.rf E.S) hq)) hF (fun _ hq1 D1 E1 hF => ?_)
    refine b_if hF (fun hF => ?_) (fun hF => ?_)
    ·
      refine b_call E1 (fun _ hq => (BX1_is (bE.rf E1.S) hq)) hF (fun _ hq2 D2 E2 hF => ?_)
      refine b_if hF (fun hF => ?_) (fun hF => ?_)
      ·
        exact BX8_decimal_b80 (N := N) (RE := RE) @hrE E2 hF
      ·
        refine b_call E2 (fun _ hq => (BX8_putBack (bE.rf E2.S) hq)) hF (fun _ hq4 D4 E4 hF => ?_)
        exact BX8_decimal_b80 (N := N) (RE := RE) @hrE E4 hF
    ·
      refine b_if hF (fun hF => ?_) (fun hF => ?_)
      ·
        exact BX8_decimal_b50 (N := N) (RE := RE) (K12 := FX8_decimal_b12 N RE n) @hrE @ih E1 hF
      ·
        exact BX8_decimal_b50 (N := N) (RE := RE) (K12 := FX8_decimal_b12 N RE n) @hrE @ih E1 hF
theorem BX8_decimal {σo : fS} {q : (Int ⊕ Nat) × fS} {N : Nat} {RE : Int → fS → Option ((Unit ⊕ Nat) × fS)} (hrE : ∀ {s : fS} {x1 : Int} {q}, bS 0 s → RE x1 s = some q → bE 0 s q.2) {s : fS} {p0 : Int} (E : bE 0 σo s) (hF : FX8_decimal N RE p0 s = some q) : bE 0 σo q.2 := by
  unfold FX8_decimal at hF
  refine b_tB E (fun _ hq => BX8_getExpanded (N := N) (RE := RE) @hrE (bE.rf E.S) hq) hF (fun _ _ D2 E2 hF => ?_)
  exact BX8_decimal_b12 (N := N) (RE := RE) @hrE E2 hF
theorem BX8_makeName_b53 {σo : fS} {q : (Unit ⊕ Nat) × fS} {N : Nat} {RE : Int → fS → Option ((Unit ⊕ Nat) × fS)} {K10 : Int → Int → fS → Option ((Unit ⊕ Nat) × fS)} (hrE : ∀ {s : fS} {x1 : Int} {q}, bS 0 s → RE x1 s = some q → bE 0 s q.2) (hk10 : ∀ {s : fS} {l1 : Int} {l2 : Int}, bE 0 σo s → K10 l1 l2 s = some q → bE 0 σo q.2) {s : fS} {l1 : Int} {l2 : Int} {s1 : Int} (E : bE 0 σo s) (hF : FX8_makeName_b53 N RE K10 l1 l2 s1 s = some q) : bE 0 σo q.2 := by
  unfold FX8_makeName_b53 at hF
  refine b_tB E (fun _ hq => BX4_want (bE.rf E.S) hq) hF (fun _ _ D2 E2 hF => ?_)
  refine b_pI E2 (E2.S.c0 (Nat.le_of_ble_eq_true rfl)) hF (fun _ D5 E5 hF => ?_)
  refine b_qI E5 (E5.S.c0 (Nat.le_of_ble_eq_true rfl)) hF (fun _ D6 E6 hF => ?_)
  refine b_tB E6 (fun _ hq => BX8_needExpanded (N := N) (RE := RE) @hrE (bE.rf E6.S) hq) hF (fun _ _ D8 E8 hF => ?_)
  exact hk10 E8 hF
theorem BX8_makeName_b170 {σo : fS} {q : (Unit ⊕ Nat) × fS} {N : Nat} {RE : Int → fS → Option ((Unit ⊕ Nat) × fS)} (hrE : ∀ {s : fS} {x1 : Int} {q}, bS 0 s → RE x1 s = some q → bE 0 s q.2) {s : fS} {l3 : Int} (E : bE 0 σo s) (hF : FX8_makeName_b170 N RE l3 s = some q) : bE 0 σo q.2 := by
  unfold FX8_makeName_b170 at hF
  refine b_call E (fun _ hq => (BX13_put (bE.rf E.S) hq)) hF (fun _ hq3 D3 E3 hF => ?_)
  exact b_ret E3 hF
theorem BX8_makeName_b92 {σo : fS} {q : (Unit ⊕ Nat) × fS} {N : Nat} {RE : Int → fS → Option ((Unit ⊕ Nat) × fS)} (hrE : ∀ {s : fS} {x1 : Int} {q}, bS 0 s → RE x1 s = some q → bE 0 s q.2) : ∀ {n : Nat} {s : fS} {l1 : Int} {l3 : Int}, bE 0 σo s → FX8_makeName_b92 N RE n l1 l3 s = some q → bE 0 σo q.2 := by
  intro n
  induction n with
  | zero => intro s l1 l3 E  hF; simp [FX8_makeName_b92] at hF
  | succ n ih =>
    intro s l1 l3 E  hF
    rw [FX8_makeName_b92] at hF
    refine b_if hF (fun hF => ?_) (fun hF => ?_)
    ·
      refine b_pI E (E.S.c0 (Nat.le_of_ble_eq_true rfl)) hF (fun _ D2 E2 hF => ?_)
      refine b_tB E2 (fun _ hq => BX10_slot (N := N) (bE.rf E2.S) hq) hF (fun _ _ D5 E5 hF => ?_)
      refine b_call E5 (fun _ hq => (BX9_reach (bE.rf E5.S) hq)) hF (fun _ hq10 D10 E10 hF => ?_)
      refine b_rv hF (fun _ hF => ?_)
      refine b_if hF (fun hF => ?_) (fun hF => ?_)
      ·
        exact BX8_makeName_b170 (N := N) (RE := RE) @hrE E10 hF
      ·
        refine b_call E10 (fun _ hq => (BX9_mean (N := N) (bE.rf E10.S) hq)) hF (fun _ hq16 D16 E16 hF => ?_)
        exact BX8_makeName_b170 (N := N) (RE := RE) @hrE E16 hF
    ·
      refine b_rv hF (fun _ hF => ?_)
      refine b_tB E (fun _ hq => BX10_add (bE.rf E.S) hq) hF (fun _ _ D21 E21 hF => ?_)
      exact ih E21 hF
theorem BX8_makeName_b10 {σo : fS} {q : (Unit ⊕ Nat) × fS} {N : Nat} {RE : Int → fS → Option ((Unit ⊕ Nat) × fS)} (hrE : ∀ {s : fS} {x1 : Int} {q}, bS 0 s → RE x1 s = some q → bE 0 s q.2) : ∀ {n : Nat} {s : fS} {l1 : Int} {l2 : Int}, bE 0 σo s → FX8_makeName_b10 N RE n l1 l2 s = some q → bE 0 σo q.2 := by
  intro n
  induction n with
  | zero => intro s l1 l2 E  hF; simp [FX8_makeName_b10] at hF
  | succ n ih =>
    intro s l1 l2 E  hF
    rw [FX8_makeName_b10] at hF
    refine b_call E (fun _ hq => (BX8_primitive (bE.rf E.S) hq)) hF (fun _ hq2 D2 E2 hF => ?_)
    refine b_if hF (fun hF => ?_) (fun hF => ?_)
    ·
      refine b_call E2 (fun _ hq => (BX10_open (bE.rf E2.S) hq)) hF (fun _ hq5 D5 E5 hF => ?_)
      exact BX8_makeName_b92 (N := N) (RE := RE) @hrE E5 hF
    ·
      refine b_call E2 (fun _ hq => (BX1_isCharacter (bE.rf E2.S) hq)) hF (fun _ hq7 D7 E7 hF => ?_)
      refine b_tB E7 (fun _ hq => BX4_want (bE.rf E7.S) hq) hF (fun _ _ D9 E9 hF => ?_)
      refine b_if hF (fun hF => ?_) (fun hF => ?_)
      ·
        exact BX8_makeName_b53 (N := N) (RE := RE) (K10 := FX8_makeName_b10 N RE n) @hrE @ih E9 hF
      ·
        exact BX8_makeName_b53 (N := N) (RE := RE) (K10 := FX8_makeName_b10 N RE n) @hrE @ih E9 hF
theorem BX8_makeName {σo : fS} {q : (Unit ⊕ Nat) × fS} {N : Nat} {RE : Int → fS → Option ((Unit ⊕ Nat) × fS)} (hrE : ∀ {s : fS} {x1 : Int} {q}, bS 0 s → RE x1 s = some q → bE 0 s q.2) {s : fS} (E : bE 0 σo s) (hF : FX8_makeName N RE s = some q) : bE 0 σo q.2 := by
  unfold FX8_makeName at hF
  refine b_tB E (fun _ hq => BX8_needExpanded (N := N) (RE := RE) @hrE (bE.rf E.S) hq) hF (fun _ _ D3 E3 hF => ?_)
  exact BX8_makeName_b10 (N := N) (RE := RE) @hrE E3 hF
theorem BX13_putAll_b4 {σo : fS} {q : Unit × fS} {N : Nat} : ∀ {n : Nat} {s : fS} {l3 : Int}, bE 0 σo s → FX13_putAll_b4 N n l3 s = some q → bE 0 σo q.2 := by
  intro n
  induction n with
  | zero => intro s l3 E  hF; simp [FX13_putAll_b4] at hF
  | succ n ih =>
    intro s l3 E  hF
    rw [FX13_putAll_b4] at hF
    refine b_if hF (fun hF => ?_) (fun hF => ?_)
    ·
      exact b_ret E hF
    ·
      refine b_rv hF (fun _ hF => ?_)
      refine b_call E (fun _ hq => (BX13_put (bE.rf E.S) hq)) hF (fun _ hq3 D3 E3 hF => ?_)
      exact ih E3 hF
theorem BX13_putAll {σo : fS} {q : Unit × fS} {N : Nat} {s : fS} {p1 : Int} (E : bE 0 σo s) (hF : FX13_putAll N p1 s = some q) : bE 0 σo q.2 := by
  unfold FX13_putAll at hF
  exact BX13_putAll_b4 (N := N) E hF
theorem BX8_spell_b121 {σo : fS} {q : Unit × fS} {N : Nat} {s : fS} {l2 : Int} (E : bE 0 σo s) (hF : FX8_spell_b121 N l2 s = some q) : bE 0 σo q.2 := by
  unfold FX8_spell_b121 at hF
  refine b_call E (fun _ hq => (BX13_putAll (N := N) (bE.rf E.S) hq)) hF (fun _ hq4 D4 E4 hF => ?_)
  exact b_ret E4 hF
theorem BX8_spell_b79 {σo : fS} {q : Unit × fS} {N : Nat} : ∀ {n : Nat} {s : fS} {l2 : Int} {l3 : Int} {l4 : Int}, bE 0 σo s → FX8_spell_b79 N n l2 l3 l4 s = some q → bE 0 σo q.2 := by
  intro n
  induction n with
  | zero => intro s l2 l3 l4 E  hF; simp [FX8_spell_b79] at hF
  | succ n ih =>
    intro s l2 l3 l4 E  hF
    rw [FX8_spell_b79] at hF
    refine b_rv hF (fun _ hF => ?_)
    refine b_if hF (fun hF => ?_) (fun hF => ?_)
    ·
      exact BX8_spell_b121 (N := N) E hF
    ·
      refine b_call E (fun _ hq => (BX10_letter (bE.rf E.S) hq)) hF (fun _ hq7 D7 E7 hF => ?_)
      refine b_call E7 (fun _ hq => (BX1_other (bE.rf E7.S) hq)) hF (fun _ hq8 D8 E8 hF => ?_)
      refine b_qI E8 (E8.S.c0 (Nat.le_of_ble_eq_true rfl)) hF (fun _ D9 E9 hF => ?_)
      exact ih E9 hF
theorem BX8_spell {σo : fS} {q : Unit × fS} {N : Nat} {s : fS} {p0 : Int} (E : bE 0 σo s) (hF : FX8_spell N p0 s = some q) : bE 0 σo q.2 := by
  unfold FX8_spell at hF
  refine b_call E (fun _ hq => (BX1_isCharacter (bE.rf E.S) hq)) hF (fun _ hq1 D1 E1 hF => ?_)
  refine b_if hF (fun hF => ?_) (fun hF => ?_)
  ·
    refine b_if hF (fun hF => ?_) (fun hF => ?_)
    ·
      refine b_call E1 (fun _ hq => (BX1_other (bE.rf E1.S) hq)) hF (fun _ hq3 D3 E3 hF => ?_)
      refine b_qI E3 (E3.S.c0 (Nat.le_of_ble_eq_true rfl)) hF (fun _ D4 E4 hF => ?_)
      exact BX8_spell_b79 (N := N) E4 hF
    ·
      refine b_call E1 (fun _ hq => (BX1_other (bE.rf E1.S) hq)) hF (fun _ hq6 D6 E6 hF => ?_)
      refine b_qI E6 (E6.S.c0 (Nat.le_of_ble_eq_true rfl)) hF (fun _ D7 E7 hF => ?_)
      exact BX8_spell_b121 (N := N) E7 hF
  ·
    refine b_call E1 (fun _ hq => (BX1_other (bE.rf E1.S) hq)) hF (fun _ hq9 D9 E9 hF => ?_)
    refine b_qI E9 (E9.S.c0 (Nat.le_of_ble_eq_true rfl)) hF (fun _ D10 E10 hF => ?_)
    exact BX8_spell_b121 (N := N) E10 hF
theorem BX8_tellNumber_b58 {σo : fS} {q : Unit × fS} {N : Nat} : ∀ {n : Nat} {s : fS} {l2 : Int} {l3 : Int} {l5 : Int}, bE 0 σo s → FX8_tellNumber_b58 N n l2 l3 l5 s = some q → bE 0 σo q.2 := by
  intro n
  induction n with
  | zero => intro s l2 l3 l5 E  hF; simp [FX8_tellNumber_b58] at hF
  | succ n ih =>
    intro s l2 l3 l5 E  hF
    rw [FX8_tellNumber_b58] at hF
    refine b_if hF (fun hF => ?_) (fun hF => ?_)
    ·
      refine b_call E (fun _ hq => (BX13_putAll (N := N) (bE.rf E.S) hq)) hF (fun _ hq4 D4 E4 hF => ?_)
      exact b_ret E4 hF
    ·
      refine b_dv hF (fun hF => ?_)
      refine b_call E (fun _ hq => (BX1_other (bE.rf E.S) hq)) hF (fun _ hq6 D6 E6 hF => ?_)
      refine b_qI E6 (E6.S.c0 (Nat.le_of_ble_eq_true rfl)) hF (fun _ D7 E7 hF => ?_)
      exact ih E7 hF
theorem BX8_tellNumber_b36 {σo : fS} {q : Unit × fS} {N : Nat} : ∀ {n : Nat} {s : fS} {l2 : Int} {l3 : Int} {l5 : Int}, bE 0 σo s → FX8_tellNumber_b36 N n l2 l3 l5 s = some q → bE 0 σo q.2 := by
  intro n
  induction n with
  | zero => intro s l2 l3 l5 E  hF; simp [FX8_tellNumber_b36] at hF
  | succ n ih =>
    intro s l2 l3 l5 E  hF
    rw [FX8_tellNumber_b36] at hF
    refine b_if hF (fun hF => ?_) (fun hF => ?_)
    ·
      exact BX8_tellNumber_b58 (N := N) E hF
    ·
      exact ih E hF
theorem BX8_tellNumber_b32 {σo : fS} {q : Unit × fS} {N : Nat} {s : fS} {l2 : Int} {s0 : Int} (E : bE 0 σo s) (hF : FX8_tellNumber_b32 N l2 s0 s = some q) : bE 0 σo q.2 := by
  unfold FX8_tellNumber_b32 at hF
  exact BX8_tellNumber_b36 (N := N) E hF
theorem BX8_tellNumber_b20 {σo : fS} {q : Unit × fS} {N : Nat} {s : fS} {l1 : Int} {l2 : Int} (E : bE 0 σo s) (hF : FX8_tellNumber_b20 N l1 l2 s = some q) : bE 0 σo q.2 := by
  unfold FX8_tellNumber_b20 at hF
  refine b_if hF (fun hF => ?_) (fun hF => ?_)
  ·
    exact BX8_tellNumber_b32 (N := N) E hF
  ·
    exact BX8_tellNumber_b32 (N := N) E hF
theorem BX8_tellNumber {σo : fS} {q : Unit × fS} {N : Nat} {s : fS} {p0 : Int} (E : bE 0 σo s) (hF : FX8_tellNumber N p0 s = some q) : bE 0 σo q.2 := by
  unfold FX8_tellNumber at hF
  refine b_if hF (fun hF => ?_) (fun hF => ?_)
  ·
    exact BX8_tellNumber_b20 (N := N) E hF
  ·
    refine b_call E (fun _ hq => (BX1_other (bE.rf E.S) hq)) hF (fun _ hq2 D2 E2 hF => ?_)
    refine b_qI E2 (E2.S.c0 (Nat.le_of_ble_eq_true rfl)) hF (fun _ D3 E3 hF => ?_)
    exact BX8_tellNumber_b20 (N := N) E3 hF
theorem BX8_tellRoman_b48 {σo : fS} {q : (Unit ⊕ Nat) × fS} {N : Nat} {K33 : Int → Int → Int → fS → Option ((Unit ⊕ Nat) × fS)} (hk33 : ∀ {s : fS} {l3 : Int} {l4 : Int} {l5 : Int}, bE 0 σo s → K33 l3 l4 l5 s = some q → bE 0 σo q.2) : ∀ {n : Nat} {s : fS} {l3 : Int} {l4 : Int} {l5 : Int} {l6 : Int}, bE 0 σo s → FX8_tellRoman_b48 N K33 n l3 l4 l5 l6 s = some q → bE 0 σo q.2 := by
  intro n
  induction n with
  | zero => intro s l3 l4 l5 l6 E  hF; simp [FX8_tellRoman_b48] at hF
  | succ n ih =>
    intro s l3 l4 l5 l6 E  hF
    rw [FX8_tellRoman_b48] at hF
    refine b_rv hF (fun _ hF => ?_)
    refine b_if hF (fun hF => ?_) (fun hF => ?_)
    ·
      exact hk33 E hF
    ·
      refine b_rv hF (fun _ hF => ?_)
      refine b_if hF (fun hF => ?_) (fun hF => ?_)
      ·
        refine b_rv hF (fun _ hF => ?_)
        refine b_call E (fun _ hq => (BJ1_charAt (d := 0) (bE.rf E.S) hq)) hF (fun _ hq7 D7 E7 hF => ?_)
        refine b_call E7 (fun _ hq => (BX1_other (bE.rf E7.S) hq)) hF (fun _ hq8 D8 E8 hF => ?_)
        refine b_qI E8 (E8.S.c0 (Nat.le_of_ble_eq_true rfl)) hF (fun _ D9 E9 hF => ?_)
        refine b_rv hF (fun _ hF => ?_)
        refine b_call E9 (fun _ hq => (BJ1_charAt (d := 0) (bE.rf E9.S) hq)) hF (fun _ hq12 D12 E12 hF => ?_)
        refine b_call E12 (fun _ hq => (BX1_other (bE.rf E12.S) hq)) hF (fun _ hq13 D13 E13 hF => ?_)
        refine b_qI E13 (E13.S.c0 (Nat.le_of_ble_eq_true rfl)) hF (fun _ D14 E14 hF => ?_)
        exact ih E14 hF
      ·
        refine b_rv hF (fun _ hF => ?_)
        refine b_call E (fun _ hq => (BJ1_charAt (d := 0) (bE.rf E.S) hq)) hF (fun _ hq17 D17 E17 hF => ?_)
        refine b_call E17 (fun _ hq => (BX1_other (bE.rf E17.S) hq)) hF (fun _ hq18 D18 E18 hF => ?_)
        refine b_qI E18 (E18.S.c0 (Nat.le_of_ble_eq_true rfl)) hF (fun _ D19 E19 hF => ?_)
        exact ih E19 hF
theorem BX8_tellRoman_b33 {σo : fS} {q : (Unit ⊕ Nat) × fS} {N : Nat} : ∀ {n : Nat} {s : fS} {l3 : Int} {l4 : Int} {l5 : Int}, bE 0 σo s → FX8_tellRoman_b33 N n l3 l4 l5 s = some q → bE 0 σo q.2 := by
  intro n
  induction n with
  | zero => intro s l3 l4 l5 E  hF; simp [FX8_tellRoman_b33] at hF
  | succ n ih =>
    intro s l3 l4 l5 E  hF
    rw [FX8_tellRoman_b33] at hF
    refine b_if hF (fun hF => ?_) (fun hF => ?_)
    ·
      refine b_call E (fun _ hq => (BX13_putAll (N := N) (bE.rf E.S) hq)) hF (fun _ hq4 D4 E4 hF => ?_)
      exact b_ret E4 hF
    ·
      exact BX8_tellRoman_b48 (N := N) (K33 := FX8_tellRoman_b33 N n) @ih E hF
theorem BX8_tellRoman_b16 {σo : fS} {q : (Unit ⊕ Nat) × fS} {N : Nat} {s : fS} {l1 : Int} {s1 : Int} (E : bE 0 σo s) (hF : FX8_tellRoman_b16 N l1 s1 s = some q) : bE 0 σo q.2 := by
  unfold FX8_tellRoman_b16 at hF
  refine b_tB E (fun _ hq => BX4_want (bE.rf E.S) hq) hF (fun _ _ D2 E2 hF => ?_)
  exact BX8_tellRoman_b33 (N := N) E2 hF
theorem BX8_tellRoman {σo : fS} {q : (Unit ⊕ Nat) × fS} {N : Nat} {s : fS} {p0 : Int} (E : bE 0 σo s) (hF : FX8_tellRoman N p0 s = some q) : bE 0 σo q.2 := by
  unfold FX8_tellRoman at hF
  refine b_if hF (fun hF => ?_) (fun hF => ?_)
  ·
    exact BX8_tellRoman_b16 (N := N) E hF
  ·
    exact BX8_tellRoman_b16 (N := N) E hF
theorem BX8_tellValue {σo : fS} {q : (Unit ⊕ Nat) × fS} {N : Nat} {RN : fS → Option ((Int ⊕ Nat) × fS)} (hrN : ∀ {s : fS} {q}, bS 0 s → RN s = some q → bE 0 s q.2) {s : fS} {p0 : Int} (E : bE 0 σo s) (hF : FX8_tellValue N RN p0 s = some q) : bE 0 σo q.2 := by
  unfold FX8_tellValue at hF
  refine b_call E (fun _ hq => (BX8_isSized (bE.rf E.S) hq)) hF (fun _ hq2 D2 E2 hF => ?_)
  refine b_if hF (fun hF => ?_) (fun hF => ?_)
  ·
    refine b_tB E2 (fun _ hq => BX8_valued (RN := RN) @hrN (bE.rf E2.S) hq) hF (fun _ _ D4 E4 hF => ?_)
    refine b_call E4 (fun _ hq => (BX8_tellNumber (N := N) (bE.rf E4.S) hq)) hF (fun _ hq6 D6 E6 hF => ?_)
    exact b_ret E6 hF
  ·
    refine b_tB E2 (fun _ hq => BX8_sized (RN := RN) @hrN (bE.rf E2.S) hq) hF (fun _ _ D8 E8 hF => ?_)
    refine b_call E8 (fun _ hq => (BX1_other (bE.rf E8.S) hq)) hF (fun _ hq10 D10 E10 hF => ?_)
    refine b_call E10 (fun _ hq => (BX13_put (bE.rf E10.S) hq)) hF (fun _ hq12 D12 E12 hF => ?_)
    refine b_call E12 (fun _ hq => (BX1_other (bE.rf E12.S) hq)) hF (fun _ hq14 D14 E14 hF => ?_)
    refine b_call E14 (fun _ hq => (BX13_put (bE.rf E14.S) hq)) hF (fun _ hq16 D16 E16 hF => ?_)
    refine b_call E16 (fun _ hq => (BX8_tellNumber (N := N) (bE.rf E16.S) hq)) hF (fun _ hq18 D18 E18 hF => ?_)
    exact b_ret E18 hF
theorem BX8_turn_b117 {σo : fS} {q : (Unit ⊕ Nat) × fS} {N : Nat} : ∀ {n : Nat} {s : fS} {l4 : Int}, bE 0 σo s → FX8_turn_b117 N n l4 s = some q → bE 0 σo q.2 := by
  intro n
  induction n with
  | zero => intro s l4 E  hF; simp [FX8_turn_b117] at hF
  | succ n ih =>
    intro s l4 E  hF
    rw [FX8_turn_b117] at hF
    refine b_if hF (fun hF => ?_) (fun hF => ?_)
    ·
      refine b_pI E (E.S.c0 (Nat.le_of_ble_eq_true rfl)) hF (fun _ D2 E2 hF => ?_)
      exact b_ret E2 hF
    ·
      refine b_tB E (fun _ hq => BX8_pass (N := N) (bE.rf E.S) hq) hF (fun _ _ D4 E4 hF => ?_)
      exact ih E4 hF
theorem BX8_turn_b106 {σo : fS} {q : (Unit ⊕ Nat) × fS} {N : Nat} {s : fS} {s1 : Int} (E : bE 0 σo s) (hF : FX8_turn_b106 N s1 s = some q) : bE 0 σo q.2 := by
  unfold FX8_turn_b106 at hF
  refine b_tB E (fun _ hq => BX4_want (bE.rf E.S) hq) hF (fun _ _ D2 E2 hF => ?_)
  refine b_tB E2 (fun _ hq => BX8_pass (N := N) (bE.rf E2.S) hq) hF (fun _ _ D4 E4 hF => ?_)
  exact BX8_turn_b117 (N := N) E4 hF
theorem BX8_turn_b101 {σo : fS} {q : (Unit ⊕ Nat) × fS} {N : Nat} {s : fS} (E : bE 0 σo s) (hF : FX8_turn_b101 N s = some q) : bE 0 σo q.2 := by
  unfold FX8_turn_b101 at hF
  exact BX8_turn_b106 (N := N) E hF
theorem BX8_turn_b105 {σo : fS} {q : (Unit ⊕ Nat) × fS} {N : Nat} {s : fS} (E : bE 0 σo s) (hF : FX8_turn_b105 N s = some q) : bE 0 σo q.2 := by
  unfold FX8_turn_b105 at hF
  exact BX8_turn_b106 (N := N) E hF
theorem BX8_turn_b16 {σo : fS} {q : (Unit ⊕ Nat) × fS} {N : Nat} {s : fS} {l1 : Int} {l2 : Int} {s1 : Int} (E : bE 0 σo s) (hF : FX8_turn_b16 N l1 l2 s1 s = some q) : bE 0 σo q.2 := by
  unfold FX8_turn_b16 at hF
  refine b_tB E (fun _ hq => BX4_want (bE.rf E.S) hq) hF (fun _ _ D2 E2 hF => ?_)
  refine b_rv hF (fun _ hF => ?_)
  refine b_if hF (fun hF => ?_) (fun hF => ?_)
  ·
    refine b_if hF (fun hF => ?_) (fun hF => ?_)
    ·
      refine b_rv hF (fun _ hF => ?_)
      refine b_if hF (fun hF => ?_) (fun hF => ?_)
      ·
        exact BX8_turn_b105 (N := N) E2 hF
      ·
        refine b_if hF (fun hF => ?_) (fun hF => ?_)
        ·
          exact BX8_turn_b101 (N := N) E2 hF
        ·
          refine b_rv hF (fun _ hF => ?_)
          refine b_if hF (fun hF => ?_) (fun hF => ?_)
          ·
            exact BX8_turn_b105 (N := N) E2 hF
          ·
            exact BX8_turn_b101 (N := N) E2 hF
    ·
      refine b_pI E2 (E2.S.c0 (Nat.le_of_ble_eq_true rfl)) hF (fun _ D12 E12 hF => ?_)
      exact b_ret E12 hF
  ·
    refine b_call E2 (fun _ hq => (BX13_put (bE.rf E2.S) hq)) hF (fun _ hq15 D15 E15 hF => ?_)
    refine b_call E15 (fun _ hq => (BX13_put (bE.rf E15.S) hq)) hF (fun _ hq18 D18 E18 hF => ?_)
    exact b_ret E18 hF
theorem BX8_turn {σo : fS} {q : (Unit ⊕ Nat) × fS} {N : Nat} {s : fS} {p0 : Int} {p1 : Int} (E : bE 0 σo s) (hF : FX8_turn N p0 p1 s = some q) : bE 0 σo q.2 := by
  unfold FX8_turn at hF
  refine b_if hF (fun hF => ?_) (fun hF => ?_)
  ·
    exact BX8_turn_b16 (N := N) E hF
  ·
    exact BX8_turn_b16 (N := N) E hF
theorem BX8_expandPrimitive_b256 {σo : fS} {q : (Unit ⊕ Nat) × fS} {N : Nat} {RE : Int → fS → Option ((Unit ⊕ Nat) × fS)} {RN : fS → Option ((Int ⊕ Nat) × fS)} (hrE : ∀ {s : fS} {x1 : Int} {q}, bS 0 s → RE x1 s = some q → bE 0 s q.2) (hrN : ∀ {s : fS} {q}, bS 0 s → RN s = some q → bE 0 s q.2) {s : fS} (E : bE 0 σo s) (hF : FX8_expandPrimitive_b256 N RE RN s = some q) : bE 0 σo q.2 := by
  unfold FX8_expandPrimitive_b256 at hF
  exact b_ret E hF
theorem BX8_expandPrimitive_b142 {σo : fS} {q : (Unit ⊕ Nat) × fS} {N : Nat} {RE : Int → fS → Option ((Unit ⊕ Nat) × fS)} {RN : fS → Option ((Int ⊕ Nat) × fS)} (hrE : ∀ {s : fS} {x1 : Int} {q}, bS 0 s → RE x1 s = some q → bE 0 s q.2) (hrN : ∀ {s : fS} {q}, bS 0 s → RN s = some q → bE 0 s q.2) {s : fS} {l3 : Int} (E : bE 0 σo s) (hF : FX8_expandPrimitive_b142 N RE RN l3 s = some q) : bE 0 σo q.2 := by
  unfold FX8_expandPrimitive_b142 at hF
  refine b_call E (fun _ hq => (BX13_put (bE.rf E.S) hq)) hF (fun _ hq3 D3 E3 hF => ?_)
  exact BX8_expandPrimitive_b256 (N := N) (RE := RE) (RN := RN) @hrE @hrN E3 hF
theorem BX8_expandPrimitive_b182 {σo : fS} {q : (Unit ⊕ Nat) × fS} {N : Nat} {RE : Int → fS → Option ((Unit ⊕ Nat) × fS)} {RN : fS → Option ((Int ⊕ Nat) × fS)} (hrE : ∀ {s : fS} {x1 : Int} {q}, bS 0 s → RE x1 s = some q → bE 0 s q.2) (hrN : ∀ {s : fS} {q}, bS 0 s → RN s = some q → bE 0 s q.2) {s : fS} {s1 : Int} (E : bE 0 σo s) (hF : FX8_expandPrimitive_b182 N RE RN s1 s = some q) : bE 0 σo q.2 := by
  unfold FX8_expandPrimitive_b182 at hF
  refine b_call E (fun _ hq => (BX13_put (bE.rf E.S) hq)) hF (fun _ hq2 D2 E2 hF => ?_)
  exact BX8_expandPrimitive_b256 (N := N) (RE := RE) (RN := RN) @hrE @hrN E2 hF
theorem BX8_expandPrimitive {σo : fS} {q : (Unit ⊕ Nat) × fS} {N : Nat} {RE : Int → fS → Option ((Unit ⊕ Nat) × fS)} {RN : fS → Option ((Int ⊕ Nat) × fS)} (hrE : ∀ {s : fS} {x1 : Int} {q}, bS 0 s → RE x1 s = some q → bE 0 s q.2) (hrN : ∀ {s : fS} {q}, bS 0 s → RN s = some q → bE 0 s q.2) {s : fS} {p0 : Int} {p1 : Int} (E : bE 0 σo s) (hF : FX8_expandPrimitive N RE RN p0 p1 s = some q) : bE 0 σo q.2 := by
  unfold FX8_expandPrimitive at hF
  refine b_if hF (fun hF => ?_) (fun hF => ?_)
  ·
    refine b_tB E (fun _ hq => BX8_need (N := N) (bE.rf E.S) hq) hF (fun _ _ D2 E2 hF => ?_)
    refine b_tB E2 (fun _ hq => BX8_need (N := N) (bE.rf E2.S) hq) hF (fun _ _ D4 E4 hF => ?_)
    refine b_call E4 (fun _ hq => (BX8_isExpandable (bE.rf E4.S) hq)) hF (fun _ hq6 D6 E6 hF => ?_)
    refine b_if hF (fun hF => ?_) (fun hF => ?_)
    ·
      refine b_call E6 (fun _ hq => (BX13_put (bE.rf E6.S) hq)) hF (fun _ hq9 D9 E9 hF => ?_)
      exact BX8_expandPrimitive_b142 (N := N) (RE := RE) (RN := RN) @hrE @hrN E9 hF
    ·
      refine b_tB E6 (fun _ hq => hrE E6.S hq) hF (fun _ _ D11 E11 hF => ?_)
      exact BX8_expandPrimitive_b142 (N := N) (RE := RE) (RN := RN) @hrE @hrN E11 hF
  ·
    refine b_if hF (fun hF => ?_) (fun hF => ?_)
    ·
      refine b_tB E (fun _ hq => BX8_need (N := N) (bE.rf E.S) hq) hF (fun _ _ D13 E13 hF => ?_)
      refine b_call E13 (fun _ hq => (BX8_isExpandable (bE.rf E13.S) hq)) hF (fun _ hq16 D16 E16 hF => ?_)
      refine b_if hF (fun hF => ?_) (fun hF => ?_)
      ·
        exact BX8_expandPrimitive_b182 (N := N) (RE := RE) (RN := RN) @hrE @hrN E16 hF
      ·
        exact BX8_expandPrimitive_b182 (N := N) (RE := RE) (RN := RN) @hrE @hrN E16 hF
    ·
      refine b_if hF (fun hF => ?_) (fun hF => ?_)
      ·
        refine b_tB E (fun _ hq => BX8_makeName (N := N) (RE := RE) @hrE (bE.rf E.S) hq) hF (fun _ _ D18 E18 hF => ?_)
        exact BX8_expandPrimitive_b256 (N := N) (RE := RE) (RN := RN) @hrE @hrN E18 hF
      ·
        refine b_if hF (fun hF => ?_) (fun hF => ?_)
        ·
          refine b_tB E (fun _ hq => BX8_need (N := N) (bE.rf E.S) hq) hF (fun _ _ D20 E20 hF => ?_)
          refine b_call E20 (fun _ hq => (BX8_bare (bE.rf E20.S) hq)) hF (fun _ hq21 D21 E21 hF => ?_)
          refine b_call E21 (fun _ hq => (BX8_spell (N := N) (bE.rf E21.S) hq)) hF (fun _ hq23 D23 E23 hF => ?_)
          exact BX8_expandPrimitive_b256 (N := N) (RE := RE) (RN := RN) @hrE @hrN E23 hF
        ·
          refine b_if hF (fun hF => ?_) (fun hF => ?_)
          ·
            refine b_tB E (fun _ hq => hrN E.S hq) hF (fun _ _ D25 E25 hF => ?_)
            refine b_call E25 (fun _ hq => (BX8_tellNumber (N := N) (bE.rf E25.S) hq)) hF (fun _ hq27 D27 E27 hF => ?_)
            exact BX8_expandPrimitive_b256 (N := N) (RE := RE) (RN := RN) @hrE @hrN E27 hF
          ·
            refine b_if hF (fun hF => ?_) (fun hF => ?_)
            ·
              refine b_tB E (fun _ hq => hrN E.S hq) hF (fun _ _ D29 E29 hF => ?_)
              refine b_tB E29 (fun _ hq => BX8_tellRoman (N := N) (bE.rf E29.S) hq) hF (fun _ _ D31 E31 hF => ?_)
              exact BX8_expandPrimitive_b256 (N := N) (RE := RE) (RN := RN) @hrE @hrN E31 hF
            ·
              refine b_if hF (fun hF => ?_) (fun hF => ?_)
              ·
                refine b_tB E (fun _ hq => BX8_needExpanded (N := N) (RE := RE) @hrE (bE.rf E.S) hq) hF (fun _ _ D33 E33 hF => ?_)
                refine b_tB E33 (fun _ hq => BX8_tellValue (N := N) (RN := RN) @hrN (bE.rf E33.S) hq) hF (fun _ _ D35 E35 hF => ?_)
                exact BX8_expandPrimitive_b256 (N := N) (RE := RE) (RN := RN) @hrE @hrN E35 hF
              ·
                refine b_if hF (fun hF => ?_) (fun hF => ?_)
                ·
                  refine b_tB E (fun _ hq => BX8_decide (N := N) (RE := RE) (RN := RN) @hrE @hrN (bE.rf E.S) hq) hF (fun _ _ D37 E37 hF => ?_)
                  exact BX8_expandPrimitive_b256 (N := N) (RE := RE) (RN := RN) @hrE @hrN E37 hF
                ·
                  refine b_if hF (fun hF => ?_) (fun hF => ?_)
                  ·
                    refine b_tB E (fun _ hq => BX8_decide (N := N) (RE := RE) (RN := RN) @hrE @hrN (bE.rf E.S) hq) hF (fun _ _ D39 E39 hF => ?_)
                    exact BX8_expandPrimitive_b256 (N := N) (RE := RE) (RN := RN) @hrE @hrN E39 hF
                  ·
                    refine b_if hF (fun hF => ?_) (fun hF => ?_)
                    ·
                      refine b_tB E (fun _ hq => BX8_decide (N := N) (RE := RE) (RN := RN) @hrE @hrN (bE.rf E.S) hq) hF (fun _ _ D41 E41 hF => ?_)
                      exact BX8_expandPrimitive_b256 (N := N) (RE := RE) (RN := RN) @hrE @hrN E41 hF
                    ·
                      refine b_if hF (fun hF => ?_) (fun hF => ?_)
                      ·
                        refine b_tB E (fun _ hq => BX8_decide (N := N) (RE := RE) (RN := RN) @hrE @hrN (bE.rf E.S) hq) hF (fun _ _ D43 E43 hF => ?_)
                        exact BX8_expandPrimitive_b256 (N := N) (RE := RE) (RN := RN) @hrE @hrN E43 hF
                      ·
                        refine b_if hF (fun hF => ?_) (fun hF => ?_)
                        ·
                          refine b_tB E (fun _ hq => BX8_decide (N := N) (RE := RE) (RN := RN) @hrE @hrN (bE.rf E.S) hq) hF (fun _ _ D45 E45 hF => ?_)
                          exact BX8_expandPrimitive_b256 (N := N) (RE := RE) (RN := RN) @hrE @hrN E45 hF
                        ·
                          refine b_if hF (fun hF => ?_) (fun hF => ?_)
                          ·
                            refine b_tB E (fun _ hq => BX8_decide (N := N) (RE := RE) (RN := RN) @hrE @hrN (bE.rf E.S) hq) hF (fun _ _ D47 E47 hF => ?_)
                            exact BX8_expandPrimitive_b256 (N := N) (RE := RE) (RN := RN) @hrE @hrN E47 hF
                          ·
                            refine b_if hF (fun hF => ?_) (fun hF => ?_)
                            ·
                              refine b_tB E (fun _ hq => BX8_decide (N := N) (RE := RE) (RN := RN) @hrE @hrN (bE.rf E.S) hq) hF (fun _ _ D49 E49 hF => ?_)
                              exact BX8_expandPrimitive_b256 (N := N) (RE := RE) (RN := RN) @hrE @hrN E49 hF
                            ·
                              refine b_if hF (fun hF => ?_) (fun hF => ?_)
                              ·
                                refine b_tB E (fun _ hq => BX8_decide (N := N) (RE := RE) (RN := RN) @hrE @hrN (bE.rf E.S) hq) hF (fun _ _ D51 E51 hF => ?_)
                                exact BX8_expandPrimitive_b256 (N := N) (RE := RE) (RN := RN) @hrE @hrN E51 hF
                              ·
                                refine b_if hF (fun hF => ?_) (fun hF => ?_)
                                ·
                                  refine b_tB E (fun _ hq => BX8_decide (N := N) (RE := RE) (RN := RN) @hrE @hrN (bE.rf E.S) hq) hF (fun _ _ D53 E53 hF => ?_)
                                  exact BX8_expandPrimitive_b256 (N := N) (RE := RE) (RN := RN) @hrE @hrN E53 hF
                                ·
                                  refine b_if hF (fun hF => ?_) (fun hF => ?_)
                                  ·
                                    refine b_tB E (fun _ hq => BX8_decide (N := N) (RE := RE) (RN := RN) @hrE @hrN (bE.rf E.S) hq) hF (fun _ _ D55 E55 hF => ?_)
                                    exact BX8_expandPrimitive_b256 (N := N) (RE := RE) (RN := RN) @hrE @hrN E55 hF
                                  ·
                                    refine b_if hF (fun hF => ?_) (fun hF => ?_)
                                    ·
                                      refine b_tB E (fun _ hq => BX8_decide (N := N) (RE := RE) (RN := RN) @hrE @hrN (bE.rf E.S) hq) hF (fun _ _ D57 E57 hF => ?_)
                                      exact BX8_expandPrimitive_b256 (N := N) (RE := RE) (RN := RN) @hrE @hrN E57 hF
                                    ·
                                      refine b_if hF (fun hF => ?_) (fun hF => ?_)
                                      ·
                                        refine b_tB E (fun _ hq => BX8_decide (N := N) (RE := RE) (RN := RN) @hrE @hrN (bE.rf E.S) hq) hF (fun _ _ D59 E59 hF => ?_)
                                        exact BX8_expandPrimitive_b256 (N := N) (RE := RE) (RN := RN) @hrE @hrN E59 hF
                                      ·
                                        refine b_if hF (fun hF => ?_) (fun hF => ?_)
                                        ·
                                          refine b_tB E (fun _ hq => BX8_turn (N := N) (bE.rf E.S) hq) hF (fun _ _ D61 E61 hF => ?_)
                                          exact BX8_expandPrimitive_b256 (N := N) (RE := RE) (RN := RN) @hrE @hrN E61 hF
                                        ·
                                          refine b_if hF (fun hF => ?_) (fun hF => ?_)
                                          ·
                                            refine b_tB E (fun _ hq => BX8_turn (N := N) (bE.rf E.S) hq) hF (fun _ _ D63 E63 hF => ?_)
                                            exact BX8_expandPrimitive_b256 (N := N) (RE := RE) (RN := RN) @hrE @hrN E63 hF
                                          ·
                                            refine b_if hF (fun hF => ?_) (fun hF => ?_)
                                            ·
                                              refine b_tB E (fun _ hq => BX8_turn (N := N) (bE.rf E.S) hq) hF (fun _ _ D65 E65 hF => ?_)
                                              exact BX8_expandPrimitive_b256 (N := N) (RE := RE) (RN := RN) @hrE @hrN E65 hF
                                            ·
                                              refine b_tB E (fun _ hq => BX8_decide (N := N) (RE := RE) (RN := RN) @hrE @hrN (bE.rf E.S) hq) hF (fun _ _ D67 E67 hF => ?_)
                                              exact BX8_expandPrimitive_b256 (N := N) (RE := RE) (RN := RN) @hrE @hrN E67 hF
theorem BX8_expand_b99 {σo : fS} {q : (Unit ⊕ Nat) × fS} {N : Nat} {RE : Int → fS → Option ((Unit ⊕ Nat) × fS)} {RN : fS → Option ((Int ⊕ Nat) × fS)} (hrE : ∀ {s : fS} {x1 : Int} {q}, bS 0 s → RE x1 s = some q → bE 0 s q.2) (hrN : ∀ {s : fS} {q}, bS 0 s → RN s = some q → bE 0 s q.2) {s : fS} {s1 : Int} (E : bE 0 σo s) (hF : FX8_expand_b99 N RE RN s1 s = some q) : bE 0 σo q.2 := by
  unfold FX8_expand_b99 at hF
  refine b_tB E (fun _ hq => BX4_want (bE.rf E.S) hq) hF (fun _ _ D2 E2 hF => ?_)
  exact b_ret E2 hF
theorem BX8_expand_b67 {σo : fS} {q : (Unit ⊕ Nat) × fS} {N : Nat} {RE : Int → fS → Option ((Unit ⊕ Nat) × fS)} {RN : fS → Option ((Int ⊕ Nat) × fS)} (hrE : ∀ {s : fS} {x1 : Int} {q}, bS 0 s → RE x1 s = some q → bE 0 s q.2) (hrN : ∀ {s : fS} {q}, bS 0 s → RN s = some q → bE 0 s q.2) {s : fS} (E : bE 0 σo s) (hF : FX8_expand_b67 N RE RN s = some q) : bE 0 σo q.2 := by
  unfold FX8_expand_b67 at hF
  refine b_pI E (E.S.c0 (Nat.le_of_ble_eq_true rfl)) hF (fun _ D2 E2 hF => ?_)
  refine b_if hF (fun hF => ?_) (fun hF => ?_)
  ·
    exact BX8_expand_b99 (N := N) (RE := RE) (RN := RN) @hrE @hrN E2 hF
  ·
    exact BX8_expand_b99 (N := N) (RE := RE) (RN := RN) @hrE @hrN E2 hF
theorem BX8_expand_b22 {σo : fS} {q : (Unit ⊕ Nat) × fS} {N : Nat} {RE : Int → fS → Option ((Unit ⊕ Nat) × fS)} {RN : fS → Option ((Int ⊕ Nat) × fS)} (hrE : ∀ {s : fS} {x1 : Int} {q}, bS 0 s → RE x1 s = some q → bE 0 s q.2) (hrN : ∀ {s : fS} {q}, bS 0 s → RN s = some q → bE 0 s q.2) {s : fS} {l1 : Int} {s1 : Int} (E : bE 0 σo s) (hF : FX8_expand_b22 N RE RN l1 s1 s = some q) : bE 0 σo q.2 := by
  unfold FX8_expand_b22 at hF
  refine b_tB E (fun _ hq => BX4_want (bE.rf E.S) hq) hF (fun _ _ D2 E2 hF => ?_)
  refine b_pI E2 (E2.S.c0 (Nat.le_of_ble_eq_true rfl)) hF (fun _ D4 E4 hF => ?_)
  refine b_call E4 (fun _ hq => (BX8_kind (bE.rf E4.S) hq)) hF (fun _ hq6 D6 E6 hF => ?_)
  refine b_if hF (fun hF => ?_) (fun hF => ?_)
  ·
    refine b_call E6 (fun _ hq => (BX8_value (bE.rf E6.S) hq)) hF (fun _ hq8 D8 E8 hF => ?_)
    refine b_tB E8 (fun _ hq => BX8_expandPrimitive (N := N) (RE := RE) (RN := RN) @hrE @hrN (bE.rf E8.S) hq) hF (fun _ _ D10 E10 hF => ?_)
    exact BX8_expand_b67 (N := N) (RE := RE) (RN := RN) @hrE @hrN E10 hF
  ·
    refine b_call E6 (fun _ hq => (BX8_value (bE.rf E6.S) hq)) hF (fun _ hq12 D12 E12 hF => ?_)
    refine b_tB E12 (fun _ hq => BX8_call (N := N) (bE.rf E12.S) hq) hF (fun _ _ D14 E14 hF => ?_)
    exact BX8_expand_b67 (N := N) (RE := RE) (RN := RN) @hrE @hrN E14 hF
theorem BX8_expand {σo : fS} {q : (Unit ⊕ Nat) × fS} {N : Nat} {RE : Int → fS → Option ((Unit ⊕ Nat) × fS)} {RN : fS → Option ((Int ⊕ Nat) × fS)} (hrE : ∀ {s : fS} {x1 : Int} {q}, bS 0 s → RE x1 s = some q → bE 0 s q.2) (hrN : ∀ {s : fS} {q}, bS 0 s → RN s = some q → bE 0 s q.2) {s : fS} {p0 : Int} (E : bE 0 σo s) (hF : FX8_expand N RE RN p0 s = some q) : bE 0 σo q.2 := by
  unfold FX8_expand at hF
  refine b_tB E (fun _ hq => BX8_tick (bE.rf E.S) hq) hF (fun _ _ D2 E2 hF => ?_)
  refine b_if hF (fun hF => ?_) (fun hF => ?_)
  ·
    exact BX8_expand_b22 (N := N) (RE := RE) (RN := RN) @hrE @hrN E2 hF
  ·
    exact BX8_expand_b22 (N := N) (RE := RE) (RN := RN) @hrE @hrN E2 hF
theorem BX8_number_b72 {σo : fS} {q : (Int ⊕ Nat) × fS} {N : Nat} {RE : Int → fS → Option ((Unit ⊕ Nat) × fS)} {RN : fS → Option ((Int ⊕ Nat) × fS)} {K39 : Int → Int → fS → Option ((Int ⊕ Nat) × fS)} (hrE : ∀ {s : fS} {x1 : Int} {q}, bS 0 s → RE x1 s = some q → bE 0 s q.2) (hrN : ∀ {s : fS} {q}, bS 0 s → RN s = some q → bE 0 s q.2) (hk39 : ∀ {s : fS} {l1 : Int} {l2 : Int}, bE 0 σo s → K39 l1 l2 s = some q → bE 0 σo q.2) {s : fS} {s0 : Int} {s1 : Int} (E : bE 0 σo s) (hF : FX8_number_b72 N RE RN K39 s0 s1 s = some q) : bE 0 σo q.2 := by
  unfold FX8_number_b72 at hF
  refine b_tB E (fun _ hq => BX8_needSolid (N := N) (RE := RE) @hrE (bE.rf E.S) hq) hF (fun _ _ D2 E2 hF => ?_)
  exact hk39 E2 hF
theorem BX8_number_b57 {σo : fS} {q : (Int ⊕ Nat) × fS} {N : Nat} {RE : Int → fS → Option ((Unit ⊕ Nat) × fS)} {RN : fS → Option ((Int ⊕ Nat) × fS)} {K39 : Int → Int → fS → Option ((Int ⊕ Nat) × fS)} (hrE : ∀ {s : fS} {x1 : Int} {q}, bS 0 s → RE x1 s = some q → bE 0 s q.2) (hrN : ∀ {s : fS} {q}, bS 0 s → RN s = some q → bE 0 s q.2) (hk39 : ∀ {s : fS} {l1 : Int} {l2 : Int}, bE 0 σo s → K39 l1 l2 s = some q → bE 0 σo q.2) {s : fS} {l1 : Int} {l2 : Int} (E : bE 0 σo s) (hF : FX8_number_b57 N RE RN K39 l1 l2 s = some q) : bE 0 σo q.2 := by
  unfold FX8_number_b57 at hF
  refine b_call E (fun _ hq => (BX1_other (bE.rf E.S) hq)) hF (fun _ hq1 D1 E1 hF => ?_)
  refine b_if hF (fun hF => ?_) (fun hF => ?_)
  ·
    exact BX8_number_b72 (N := N) (RE := RE) (RN := RN) (K39 := K39) @hrE @hrN @hk39 E1 hF
  ·
    exact BX8_number_b72 (N := N) (RE := RE) (RN := RN) (K39 := K39) @hrE @hrN @hk39 E1 hF
theorem BX8_number_b155 {σo : fS} {q : (Int ⊕ Nat) × fS} {N : Nat} {RE : Int → fS → Option ((Unit ⊕ Nat) × fS)} {RN : fS → Option ((Int ⊕ Nat) × fS)} (hrE : ∀ {s : fS} {x1 : Int} {q}, bS 0 s → RE x1 s = some q → bE 0 s q.2) (hrN : ∀ {s : fS} {q}, bS 0 s → RN s = some q → bE 0 s q.2) {s : fS} {s0 : Int} (E : bE 0 σo s) (hF : FX8_number_b155 N RE RN s0 s = some q) : bE 0 σo q.2 := by
  unfold FX8_number_b155 at hF
  exact b_ret E hF
theorem BX8_number_b134 {σo : fS} {q : (Int ⊕ Nat) × fS} {N : Nat} {RE : Int → fS → Option ((Unit ⊕ Nat) × fS)} {RN : fS → Option ((Int ⊕ Nat) × fS)} (hrE : ∀ {s : fS} {x1 : Int} {q}, bS 0 s → RE x1 s = some q → bE 0 s q.2) (hrN : ∀ {s : fS} {q}, bS 0 s → RN s = some q → bE 0 s q.2) {s : fS} {l1 : Int} {s0 : Int} (E : bE 0 σo s) (hF : FX8_number_b134 N RE RN l1 s0 s = some q) : bE 0 σo q.2 := by
  unfold FX8_number_b134 at hF
  refine b_pI E (E.S.c0 (Nat.le_of_ble_eq_true rfl)) hF (fun _ D2 E2 hF => ?_)
  refine b_if hF (fun hF => ?_) (fun hF => ?_)
  ·
    exact BX8_number_b155 (N := N) (RE := RE) (RN := RN) @hrE @hrN E2 hF
  ·
    exact BX8_number_b155 (N := N) (RE := RE) (RN := RN) @hrE @hrN E2 hF
theorem BX8_number_b39 {σo : fS} {q : (Int ⊕ Nat) × fS} {N : Nat} {RE : Int → fS → Option ((Unit ⊕ Nat) × fS)} {RN : fS → Option ((Int ⊕ Nat) × fS)} (hrE : ∀ {s : fS} {x1 : Int} {q}, bS 0 s → RE x1 s = some q → bE 0 s q.2) (hrN : ∀ {s : fS} {q}, bS 0 s → RN s = some q → bE 0 s q.2) : ∀ {n : Nat} {s : fS} {l1 : Int} {l2 : Int}, bE 0 σo s → FX8_number_b39 N RE RN n l1 l2 s = some q → bE 0 σo q.2 := by
  intro n
  induction n with
  | zero => intro s l1 l2 E  hF; simp [FX8_number_b39] at hF
  | succ n ih =>
    intro s l1 l2 E  hF
    rw [FX8_number_b39] at hF
    refine b_call E (fun _ hq => (BX1_other (bE.rf E.S) hq)) hF (fun _ hq1 D1 E1 hF => ?_)
    refine b_if hF (fun hF => ?_) (fun hF => ?_)
    ·
      exact BX8_number_b57 (N := N) (RE := RE) (RN := RN) (K39 := FX8_number_b39 N RE RN n) @hrE @hrN @ih E1 hF
    ·
      refine b_call E1 (fun _ hq => (BX1_other (bE.rf E1.S) hq)) hF (fun _ hq2 D2 E2 hF => ?_)
      refine b_if hF (fun hF => ?_) (fun hF => ?_)
      ·
        refine b_call E2 (fun _ hq => (BX1_isDigit (bE.rf E2.S) hq)) hF (fun _ hq3 D3 E3 hF => ?_)
        refine b_if hF (fun hF => ?_) (fun hF => ?_)
        ·
          refine b_call E3 (fun _ hq => (BX1_other (bE.rf E3.S) hq)) hF (fun _ hq4 D4 E4 hF => ?_)
          refine b_if hF (fun hF => ?_) (fun hF => ?_)
          ·
            refine b_call E4 (fun _ hq => (BX8_isSized (bE.rf E4.S) hq)) hF (fun _ hq6 D6 E6 hF => ?_)
            refine b_if hF (fun hF => ?_) (fun hF => ?_)
            ·
              refine b_tB E6 (fun _ hq => BX8_valued (RN := RN) @hrN (bE.rf E6.S) hq) hF (fun _ _ D8 E8 hF => ?_)
              exact BX8_number_b134 (N := N) (RE := RE) (RN := RN) @hrE @hrN E8 hF
            ·
              refine b_tB E6 (fun _ hq => BX8_sized (RN := RN) @hrN (bE.rf E6.S) hq) hF (fun _ _ D10 E10 hF => ?_)
              exact BX8_number_b134 (N := N) (RE := RE) (RN := RN) @hrE @hrN E10 hF
          ·
            refine b_tB E4 (fun _ hq => BX8_quoted (N := N) (RE := RE) @hrE (bE.rf E4.S) hq) hF (fun _ _ D12 E12 hF => ?_)
            exact BX8_number_b134 (N := N) (RE := RE) (RN := RN) @hrE @hrN E12 hF
        ·
          refine b_tB E3 (fun _ hq => BX8_decimal (N := N) (RE := RE) @hrE (bE.rf E3.S) hq) hF (fun _ _ D14 E14 hF => ?_)
          exact BX8_number_b134 (N := N) (RE := RE) (RN := RN) @hrE @hrN E14 hF
      ·
        exact BX8_number_b57 (N := N) (RE := RE) (RN := RN) (K39 := FX8_number_b39 N RE RN n) @hrE @hrN @ih E2 hF
theorem BX8_number_b18 {σo : fS} {q : (Int ⊕ Nat) × fS} {N : Nat} {RE : Int → fS → Option ((Unit ⊕ Nat) × fS)} {RN : fS → Option ((Int ⊕ Nat) × fS)} (hrE : ∀ {s : fS} {x1 : Int} {q}, bS 0 s → RE x1 s = some q → bE 0 s q.2) (hrN : ∀ {s : fS} {q}, bS 0 s → RN s = some q → bE 0 s q.2) {s : fS} {s1 : Int} (E : bE 0 σo s) (hF : FX8_number_b18 N RE RN s1 s = some q) : bE 0 σo q.2 := by
  unfold FX8_number_b18 at hF
  refine b_tB E (fun _ hq => BX4_want (bE.rf E.S) hq) hF (fun _ _ D2 E2 hF => ?_)
  refine b_pI E2 (E2.S.c0 (Nat.le_of_ble_eq_true rfl)) hF (fun _ D4 E4 hF => ?_)
  refine b_tB E4 (fun _ hq => BX8_needSolid (N := N) (RE := RE) @hrE (bE.rf E4.S) hq) hF (fun _ _ D6 E6 hF => ?_)
  exact BX8_number_b39 (N := N) (RE := RE) (RN := RN) @hrE @hrN E6 hF
theorem BX8_number {σo : fS} {q : (Int ⊕ Nat) × fS} {N : Nat} {RE : Int → fS → Option ((Unit ⊕ Nat) × fS)} {RN : fS → Option ((Int ⊕ Nat) × fS)} (hrE : ∀ {s : fS} {x1 : Int} {q}, bS 0 s → RE x1 s = some q → bE 0 s q.2) (hrN : ∀ {s : fS} {q}, bS 0 s → RN s = some q → bE 0 s q.2) {s : fS} (E : bE 0 σo s) (hF : FX8_number N RE RN s = some q) : bE 0 σo q.2 := by
  unfold FX8_number at hF
  refine b_if hF (fun hF => ?_) (fun hF => ?_)
  ·
    exact BX8_number_b18 (N := N) (RE := RE) (RN := RN) @hrE @hrN E hF
  ·
    exact BX8_number_b18 (N := N) (RE := RE) (RN := RN) @hrE @hrN E hF
