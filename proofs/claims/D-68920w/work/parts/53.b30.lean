set_option maxRecDepth 100000
set_option maxHeartbeats 4000000
theorem BX8_target_b38 {σo : fS} {q : (Int ⊕ Nat) × fS} {N : Nat} {s : fS} {l1 : Int} {s1 : Int} (E : bE 0 σo s) (hF : FX8_target_b38 N l1 s1 s = some q) : bE 0 σo q.2 := by
  unfold FX8_target_b38 at hF
  refine b_tB E (fun _ hq => BX4_want (bE.rf E.S) hq) hF (fun _ _ D2 E2 hF => ?_)
  refine b_call E2 (fun _ hq => (BX8_bare (bE.rf E2.S) hq)) hF (fun _ hq3 D3 E3 hF => ?_)
  exact b_ret E3 hF
theorem BX8_target_b5 {σo : fS} {q : (Int ⊕ Nat) × fS} {N : Nat} : ∀ {n : Nat} {s : fS} {l1 : Int}, bE 0 σo s → FX8_target_b5 N n l1 s = some q → bE 0 σo q.2 := by
  intro n
  induction n with
  | zero => intro s l1 E  hF; simp [FX8_target_b5] at hF
  | succ n ih =>
    intro s l1 E  hF
    rw [FX8_target_b5] at hF
    refine b_call E (fun _ hq => (BX1_is (bE.rf E.S) hq)) hF (fun _ hq1 D1 E1 hF => ?_)
    refine b_if hF (fun hF => ?_) (fun hF => ?_)
    ·
      refine b_call E1 (fun _ hq => (BX1_isCharacter (bE.rf E1.S) hq)) hF (fun _ hq3 D3 E3 hF => ?_)
      refine b_if hF (fun hF => ?_) (fun hF => ?_)
      ·
        exact BX8_target_b38 (N := N) E3 hF
      ·
        exact BX8_target_b38 (N := N) E3 hF
    ·
      refine b_tB E1 (fun _ hq => BX8_need (N := N) (bE.rf E1.S) hq) hF (fun _ _ D5 E5 hF => ?_)
      exact ih E5 hF
theorem BX8_target {σo : fS} {q : (Int ⊕ Nat) × fS} {N : Nat} {s : fS} (E : bE 0 σo s) (hF : FX8_target N s = some q) : bE 0 σo q.2 := by
  unfold FX8_target at hF
  refine b_tB E (fun _ hq => BX8_need (N := N) (bE.rf E.S) hq) hF (fun _ _ D2 E2 hF => ?_)
  exact BX8_target_b5 (N := N) E2 hF
theorem BX1_other_b13 {σo : fS} {q : Int × fS} {s : fS} {l0 : Int} {s0 : Int} (E : bE 0 σo s) (hF : FX1_other_b13 l0 s0 s = some q) : bE 0 σo q.2 := by
  unfold FX1_other_b13 at hF
  exact b_ret E hF
theorem BX1_other {σo : fS} {q : Int × fS} {s : fS} {p0 : Int} (E : bE 0 σo s) (hF : FX1_other p0 s = some q) : bE 0 σo q.2 := by
  unfold FX1_other at hF
  refine b_if hF (fun hF => ?_) (fun hF => ?_)
  ·
    exact BX1_other_b13 E hF
  ·
    exact BX1_other_b13 E hF
theorem BX8_let_b55 {σo : fS} {q : (Unit ⊕ Nat) × fS} {N : Nat} {s : fS} {l1 : Int} {l2 : Int} {l3 : Int} (E : bE 0 σo s) (hF : FX8_let_b55 N l1 l2 l3 s = some q) : bE 0 σo q.2 := by
  unfold FX8_let_b55 at hF
  refine b_call E (fun _ hq => (BX8_kind (bE.rf E.S) hq)) hF (fun _ hq3 D3 E3 hF => ?_)
  refine b_call E3 (fun _ hq => (BX8_value (bE.rf E3.S) hq)) hF (fun _ hq5 D5 E5 hF => ?_)
  refine b_call E5 (fun _ hq => (BX9_mean (N := N) (bE.rf E5.S) hq)) hF (fun _ hq7 D7 E7 hF => ?_)
  exact b_ret E7 hF
theorem BX8_let_b10 {σo : fS} {q : (Unit ⊕ Nat) × fS} {N : Nat} : ∀ {n : Nat} {s : fS} {l1 : Int} {l2 : Int} {l3 : Int}, bE 0 σo s → FX8_let_b10 N n l1 l2 l3 s = some q → bE 0 σo q.2 := by
  intro n
  induction n with
  | zero => intro s l1 l2 l3 E  hF; simp [FX8_let_b10] at hF
  | succ n ih =>
    intro s l1 l2 l3 E  hF
    rw [FX8_let_b10] at hF
    refine b_call E (fun _ hq => (BX1_is (bE.rf E.S) hq)) hF (fun _ hq1 D1 E1 hF => ?_)
    refine b_if hF (fun hF => ?_) (fun hF => ?_)
    ·
      refine b_call E1 (fun _ hq => (BX1_other (bE.rf E1.S) hq)) hF (fun _ hq2 D2 E2 hF => ?_)
      refine b_if hF (fun hF => ?_) (fun hF => ?_)
      ·
        exact BX8_let_b55 (N := N) E2 hF
      ·
        refine b_tB E2 (fun _ hq => BX8_need (N := N) (bE.rf E2.S) hq) hF (fun _ _ D4 E4 hF => ?_)
        refine b_call E4 (fun _ hq => (BX1_is (bE.rf E4.S) hq)) hF (fun _ hq5 D5 E5 hF => ?_)
        refine b_if hF (fun hF => ?_) (fun hF => ?_)
        ·
          exact BX8_let_b55 (N := N) E5 hF
        ·
          refine b_tB E5 (fun _ hq => BX8_need (N := N) (bE.rf E5.S) hq) hF (fun _ _ D7 E7 hF => ?_)
          exact BX8_let_b55 (N := N) E7 hF
    ·
      refine b_tB E1 (fun _ hq => BX8_need (N := N) (bE.rf E1.S) hq) hF (fun _ _ D9 E9 hF => ?_)
      exact ih E9 hF
theorem BX8_let {σo : fS} {q : (Unit ⊕ Nat) × fS} {N : Nat} {s : fS} {p0 : Int} (E : bE 0 σo s) (hF : FX8_let N p0 s = some q) : bE 0 σo q.2 := by
  unfold FX8_let at hF
  refine b_tB E (fun _ hq => BX8_target (N := N) (bE.rf E.S) hq) hF (fun _ _ D2 E2 hF => ?_)
  refine b_tB E2 (fun _ hq => BX8_need (N := N) (bE.rf E2.S) hq) hF (fun _ _ D4 E4 hF => ?_)
  exact BX8_let_b10 (N := N) E4 hF
theorem BX13_put {σo : fS} {q : Unit × fS} {s : fS} {p0 : Int} (E : bE 0 σo s) (hF : FX13_put p0 s = some q) : bE 0 σo q.2 := by
  unfold FX13_put at hF
  refine b_call E (fun _ hq => (BX1_grown (bE.rf E.S) (E.S.c0 (Nat.le_of_ble_eq_true rfl)) hq).1) hF (fun _ hq3 D3 E3 hF => ?_)
  refine b_mv E3 (E3.S.c0 (Nat.le_of_ble_eq_true rfl)) (BX1_grown (bE.rf E.S) (E.S.c0 (Nat.le_of_ble_eq_true rfl)) hq3).2 hF (fun _ D4 E4 hF => ?_)
  refine b_pI E4 (E4.S.c0 (Nat.le_of_ble_eq_true rfl)) hF (fun _ D7 E7 hF => ?_)
  refine b_qI E7 (E7.S.c0 (Nat.le_of_ble_eq_true rfl)) hF (fun _ D8 E8 hF => ?_)
  exact b_ret E8 hF
theorem BX8_putBack_b13 {σo : fS} {q : Unit × fS} {s : fS} (E : bE 0 σo s) (hF : FX8_putBack_b13 s = some q) : bE 0 σo q.2 := by
  unfold FX8_putBack_b13 at hF
  exact b_ret E hF
theorem BX8_putBack {σo : fS} {q : Unit × fS} {s : fS} {p0 : Int} (E : bE 0 σo s) (hF : FX8_putBack p0 s = some q) : bE 0 σo q.2 := by
  unfold FX8_putBack at hF
  refine b_if hF (fun hF => ?_) (fun hF => ?_)
  ·
    exact BX8_putBack_b13 E hF
  ·
    refine b_call E (fun _ hq => (BX13_put (bE.rf E.S) hq)) hF (fun _ hq3 D3 E3 hF => ?_)
    exact BX8_putBack_b13 E3 hF
theorem BX8_equals_b36 {σo : fS} {q : (Unit ⊕ Nat) × fS} {N : Nat} {RE : Int → fS → Option ((Unit ⊕ Nat) × fS)} (hrE : ∀ {s : fS} {x1 : Int} {q}, bS 0 s → RE x1 s = some q → bE 0 s q.2) {s : fS} (E : bE 0 σo s) (hF : FX8_equals_b36 N RE s = some q) : bE 0 σo q.2 := by
  unfold FX8_equals_b36 at hF
  exact b_ret E hF
theorem BX8_equals_b5 {σo : fS} {q : (Unit ⊕ Nat) × fS} {N : Nat} {RE : Int → fS → Option ((Unit ⊕ Nat) × fS)} (hrE : ∀ {s : fS} {x1 : Int} {q}, bS 0 s → RE x1 s = some q → bE 0 s q.2) : ∀ {n : Nat} {s : fS} {l1 : Int}, bE 0 σo s → FX8_equals_b5 N RE n l1 s = some q → bE 0 σo q.2 := by
  intro n
  induction n with
  | zero => intro s l1 E  hF; simp [FX8_equals_b5] at hF
  | succ n ih =>
    intro s l1 E  hF
    rw [FX8_equals_b5] at hF
    refine b_call E (fun _ hq => (BX1_is (bE.rf E.S) hq)) hF (fun _ hq1 D1 E1 hF => ?_)
    refine b_if hF (fun hF => ?_) (fun hF => ?_)
    ·
      refine b_call E1 (fun _ hq => (BX1_other (bE.rf E1.S) hq)) hF (fun _ hq2 D2 E2 hF => ?_)
      refine b_if hF (fun hF => ?_) (fun hF => ?_)
      ·
        exact BX8_equals_b36 (N := N) (RE := RE) @hrE E2 hF
      ·
        refine b_call E2 (fun _ hq => (BX8_putBack (bE.rf E2.S) hq)) hF (fun _ hq4 D4 E4 hF => ?_)
        exact BX8_equals_b36 (N := N) (RE := RE) @hrE E4 hF
    ·
      refine b_tB E1 (fun _ hq => BX8_getExpanded (N := N) (RE := RE) @hrE (bE.rf E1.S) hq) hF (fun _ _ D6 E6 hF => ?_)
      exact ih E6 hF
theorem BX8_equals {σo : fS} {q : (Unit ⊕ Nat) × fS} {N : Nat} {RE : Int → fS → Option ((Unit ⊕ Nat) × fS)} (hrE : ∀ {s : fS} {x1 : Int} {q}, bS 0 s → RE x1 s = some q → bE 0 s q.2) {s : fS} (E : bE 0 σo s) (hF : FX8_equals N RE s = some q) : bE 0 σo q.2 := by
  unfold FX8_equals at hF
  refine b_tB E (fun _ hq => BX8_getExpanded (N := N) (RE := RE) @hrE (bE.rf E.S) hq) hF (fun _ _ D2 E2 hF => ?_)
  exact BX8_equals_b5 (N := N) (RE := RE) @hrE E2 hF
theorem BX8_isLetter_b33 {σo : fS} {q : Int × fS} {s : fS} {s0 : Int} (E : bE 0 σo s) (hF : FX8_isLetter_b33 s0 s = some q) : bE 0 σo q.2 := by
  unfold FX8_isLetter_b33 at hF
  exact b_z E hF
theorem BX8_isLetter_b28 {σo : fS} {q : Int × fS} {s : fS} (E : bE 0 σo s) (hF : FX8_isLetter_b28 s = some q) : bE 0 σo q.2 := by
  unfold FX8_isLetter_b28 at hF
  exact BX8_isLetter_b33 E hF
theorem BX8_isLetter_b32 {σo : fS} {q : Int × fS} {s : fS} (E : bE 0 σo s) (hF : FX8_isLetter_b32 s = some q) : bE 0 σo q.2 := by
  unfold FX8_isLetter_b32 at hF
  exact BX8_isLetter_b33 E hF
theorem BX8_isLetter {σo : fS} {q : Int × fS} {s : fS} {p0 : Int} {p1 : Int} (E : bE 0 σo s) (hF : FX8_isLetter p0 p1 s = some q) : bE 0 σo q.2 := by
  unfold FX8_isLetter at hF
  refine b_call E (fun _ hq => (BX1_isCharacter (bE.rf E.S) hq)) hF (fun _ hq1 D1 E1 hF => ?_)
  refine b_if hF (fun hF => ?_) (fun hF => ?_)
  ·
    exact BX8_isLetter_b32 E1 hF
  ·
    refine b_if hF (fun hF => ?_) (fun hF => ?_)
    ·
      exact BX8_isLetter_b28 E1 hF
    ·
      refine b_if hF (fun hF => ?_) (fun hF => ?_)
      ·
        exact BX8_isLetter_b32 E1 hF
      ·
        exact BX8_isLetter_b28 E1 hF
theorem BX8_keyword_b141 {σo : fS} {q : (Int ⊕ Nat) × fS} {N : Nat} {RE : Int → fS → Option ((Unit ⊕ Nat) × fS)} (hrE : ∀ {s : fS} {x1 : Int} {q}, bS 0 s → RE x1 s = some q → bE 0 s q.2) {s : fS} {l3 : Int} {l5 : Int} (E : bE 0 σo s) (hF : FX8_keyword_b141 N RE l3 l5 s = some q) : bE 0 σo q.2 := by
  unfold FX8_keyword_b141 at hF
  refine b_pI E (E.S.c0 (Nat.le_of_ble_eq_true rfl)) hF (fun _ D1 E1 hF => ?_)
  exact b_z E1 hF
theorem BX8_keyword_b107 {σo : fS} {q : (Int ⊕ Nat) × fS} {N : Nat} {RE : Int → fS → Option ((Unit ⊕ Nat) × fS)} (hrE : ∀ {s : fS} {x1 : Int} {q}, bS 0 s → RE x1 s = some q → bE 0 s q.2) : ∀ {n : Nat} {s : fS} {l3 : Int} {l5 : Int}, bE 0 σo s → FX8_keyword_b107 N RE n l3 l5 s = some q → bE 0 σo q.2 := by
  intro n
  induction n with
  | zero => intro s l3 l5 E  hF; simp [FX8_keyword_b107] at hF
  | succ n ih =>
    intro s l3 l5 E  hF
    rw [FX8_keyword_b107] at hF
    refine b_if hF (fun hF => ?_) (fun hF => ?_)
    ·
      exact BX8_keyword_b141 (N := N) (RE := RE) @hrE E hF
    ·
      refine b_pI E (E.S.c0 (Nat.le_of_ble_eq_true rfl)) hF (fun _ D5 E5 hF => ?_)
      refine b_rv hF (fun _ hF => ?_)
      refine b_call E5 (fun _ hq => (BX13_put (bE.rf E5.S) hq)) hF (fun _ hq8 D8 E8 hF => ?_)
      exact ih E8 hF
theorem BX8_keyword_b97 {σo : fS} {q : (Int ⊕ Nat) × fS} {N : Nat} {RE : Int → fS → Option ((Unit ⊕ Nat) × fS)} (hrE : ∀ {s : fS} {x1 : Int} {q}, bS 0 s → RE x1 s = some q → bE 0 s q.2) {s : fS} {l2 : Int} {l3 : Int} {l5 : Int} (E : bE 0 σo s) (hF : FX8_keyword_b97 N RE l2 l3 l5 s = some q) : bE 0 σo q.2 := by
  unfold FX8_keyword_b97 at hF
  refine b_if hF (fun hF => ?_) (fun hF => ?_)
  ·
    exact BX8_keyword_b141 (N := N) (RE := RE) @hrE E hF
  ·
    refine b_call E (fun _ hq => (BX8_putBack (bE.rf E.S) hq)) hF (fun _ hq2 D2 E2 hF => ?_)
    exact BX8_keyword_b107 (N := N) (RE := RE) @hrE E2 hF
theorem BX8_keyword_b41 {σo : fS} {q : (Int ⊕ Nat) × fS} {N : Nat} {RE : Int → fS → Option ((Unit ⊕ Nat) × fS)} (hrE : ∀ {s : fS} {x1 : Int} {q}, bS 0 s → RE x1 s = some q → bE 0 s q.2) : ∀ {n : Nat} {s : fS} {l1 : Nat} {l2 : Int} {l3 : Int} {l4 : Int} {l5 : Int}, bE 0 σo s → FX8_keyword_b41 N RE n l1 l2 l3 l4 l5 s = some q → bE 0 σo q.2 := by
  intro n
  induction n with
  | zero => intro s l1 l2 l3 l4 l5 E  hF; simp [FX8_keyword_b41] at hF
  | succ n ih =>
    intro s l1 l2 l3 l4 l5 E  hF
    rw [FX8_keyword_b41] at hF
    refine b_if hF (fun hF => ?_) (fun hF => ?_)
    ·
      exact BX8_keyword_b97 (N := N) (RE := RE) @hrE E hF
    ·
      refine b_rv hF (fun _ hF => ?_)
      refine b_call E (fun _ hq => (BJ1_length (d := 0) (bE.rf E.S) hq)) hF (fun _ hq2 D2 E2 hF => ?_)
      refine b_if hF (fun hF => ?_) (fun hF => ?_)
      ·
        exact BX8_keyword_b97 (N := N) (RE := RE) @hrE E2 hF
      ·
        refine b_pI E2 (E2.S.c0 (Nat.le_of_ble_eq_true rfl)) hF (fun _ D5 E5 hF => ?_)
        refine b_qI E5 (E5.S.c0 (Nat.le_of_ble_eq_true rfl)) hF (fun _ D6 E6 hF => ?_)
        refine b_tB E6 (fun _ hq => BX8_getExpanded (N := N) (RE := RE) @hrE (bE.rf E6.S) hq) hF (fun _ _ D8 E8 hF => ?_)
        refine b_rv hF (fun _ hF => ?_)
        refine b_call E8 (fun _ hq => (BJ1_charAt (d := 0) (bE.rf E8.S) hq)) hF (fun _ hq10 D10 E10 hF => ?_)
        refine b_call E10 (fun _ hq => (BX8_isLetter (bE.rf E10.S) hq)) hF (fun _ hq11 D11 E11 hF => ?_)
        exact ih E11 hF
theorem BX8_keyword_b5 {σo : fS} {q : (Int ⊕ Nat) × fS} {N : Nat} {RE : Int → fS → Option ((Unit ⊕ Nat) × fS)} (hrE : ∀ {s : fS} {x1 : Int} {q}, bS 0 s → RE x1 s = some q → bE 0 s q.2) : ∀ {n : Nat} {s : fS} {l1 : Nat} {l2 : Int}, bE 0 σo s → FX8_keyword_b5 N RE n l1 l2 s = some q → bE 0 σo q.2 := by
  intro n
  induction n with
  | zero => intro s l1 l2 E  hF; simp [FX8_keyword_b5] at hF
  | succ n ih =>
    intro s l1 l2 E  hF
    rw [FX8_keyword_b5] at hF
    refine b_call E (fun _ hq => (BX1_is (bE.rf E.S) hq)) hF (fun _ hq1 D1 E1 hF => ?_)
    refine b_if hF (fun hF => ?_) (fun hF => ?_)
    ·
      refine b_rv hF (fun _ hF => ?_)
      refine b_call E1 (fun _ hq => (BJ1_charAt (d := 0) (bE.rf E1.S) hq)) hF (fun _ hq4 D4 E4 hF => ?_)
      refine b_call E4 (fun _ hq => (BX8_isLetter (bE.rf E4.S) hq)) hF (fun _ hq5 D5 E5 hF => ?_)
      exact BX8_keyword_b41 (N := N) (RE := RE) @hrE E5 hF
    ·
      refine b_tB E1 (fun _ hq => BX8_getExpanded (N := N) (RE := RE) @hrE (bE.rf E1.S) hq) hF (fun _ _ D7 E7 hF => ?_)
      exact ih E7 hF
theorem BX8_keyword {σo : fS} {q : (Int ⊕ Nat) × fS} {N : Nat} {RE : Int → fS → Option ((Unit ⊕ Nat) × fS)} (hrE : ∀ {s : fS} {x1 : Int} {q}, bS 0 s → RE x1 s = some q → bE 0 s q.2) {s : fS} {p0 : Nat} (E : bE 0 σo s) (hF : FX8_keyword N RE p0 s = some q) : bE 0 σo q.2 := by
  unfold FX8_keyword at hF
  refine b_tB E (fun _ hq => BX8_getExpanded (N := N) (RE := RE) @hrE (bE.rf E.S) hq) hF (fun _ _ D2 E2 hF => ?_)
  exact BX8_keyword_b5 (N := N) (RE := RE) @hrE E2 hF
theorem BX8_needSolid_b5 {σo : fS} {q : (Int ⊕ Nat) × fS} {N : Nat} {RE : Int → fS → Option ((Unit ⊕ Nat) × fS)} (hrE : ∀ {s : fS} {x1 : Int} {q}, bS 0 s → RE x1 s = some q → bE 0 s q.2) : ∀ {n : Nat} {s : fS} {l1 : Int}, bE 0 σo s → FX8_needSolid_b5 N RE n l1 s = some q → bE 0 σo q.2 := by
  intro n
  induction n with
  | zero => intro s l1 E  hF; simp [FX8_needSolid_b5] at hF
  | succ n ih =>
    intro s l1 E  hF
    rw [FX8_needSolid_b5] at hF
    refine b_call E (fun _ hq => (BX1_is (bE.rf E.S) hq)) hF (fun _ hq1 D1 E1 hF => ?_)
    refine b_if hF (fun hF => ?_) (fun hF => ?_)
    ·
      exact b_ret E1 hF
    ·
      refine b_tB E1 (fun _ hq => BX8_needExpanded (N := N) (RE := RE) @hrE (bE.rf E1.S) hq) hF (fun _ _ D3 E3 hF => ?_)
      exact ih E3 hF
theorem BX8_needSolid {σo : fS} {q : (Int ⊕ Nat) × fS} {N : Nat} {RE : Int → fS → Option ((Unit ⊕ Nat) × fS)} (hrE : ∀ {s : fS} {x1 : Int} {q}, bS 0 s → RE x1 s = some q → bE 0 s q.2) {s : fS} (E : bE 0 σo s) (hF : FX8_needSolid N RE s = some q) : bE 0 σo q.2 := by
  unfold FX8_needSolid at hF
  refine b_tB E (fun _ hq => BX8_needExpanded (N := N) (RE := RE) @hrE (bE.rf E.S) hq) hF (fun _ _ D2 E2 hF => ?_)
  exact BX8_needSolid_b5 (N := N) (RE := RE) @hrE E2 hF
theorem BX8_signed_b40 {σo : fS} {q : (Int ⊕ Nat) × fS} {N : Nat} {RE : Int → fS → Option ((Unit ⊕ Nat) × fS)} {K7 : Int → Int → fS → Option ((Int ⊕ Nat) × fS)} (hrE : ∀ {s : fS} {x1 : Int} {q}, bS 0 s → RE x1 s = some q → bE 0 s q.2) (hk7 : ∀ {s : fS} {l1 : Int} {l2 : Int}, bE 0 σo s → K7 l1 l2 s = some q → bE 0 σo q.2) {s : fS} {s0 : Int} {s1 : Int} (E : bE 0 σo s) (hF : FX8_signed_b40 N RE K7 s0 s1 s = some q) : bE 0 σo q.2 := by
  unfold FX8_signed_b40 at hF
  refine b_tB E (fun _ hq => BX8_needSolid (N := N) (RE := RE) @hrE (bE.rf E.S) hq) hF (fun _ _ D2 E2 hF => ?_)
  exact hk7 E2 hF
theorem BX8_signed_b25 {σo : fS} {q : (Int ⊕ Nat) × fS} {N : Nat} {RE : Int → fS → Option ((Unit ⊕ Nat) × fS)} {K7 : Int → Int → fS → Option ((Int ⊕ Nat) × fS)} (hrE : ∀ {s : fS} {x1 : Int} {q}, bS 0 s → RE x1 s = some q → bE 0 s q.2) (hk7 : ∀ {s : fS} {l1 : Int} {l2 : Int}, bE 0 σo s → K7 l1 l2 s = some q → bE 0 σo q.2) {s : fS} {l1 : Int} {l2 : Int} (E : bE 0 σo s) (hF : FX8_signed_b25 N RE K7 l1 l2 s = some q) : bE 0 σo q.2 := by
  unfold FX8_signed_b25 at hF
  refine b_call E (fun _ hq => (BX1_other (bE.rf E.S) hq)) hF (fun _ hq1 D1 E1 hF => ?_)
  refine b_if hF (fun hF => ?_) (fun hF => ?_)
  ·
    exact BX8_signed_b40 (N := N) (RE := RE) (K7 := K7) @hrE @hk7 E1 hF
  ·
    exact BX8_signed_b40 (N := N) (RE := RE) (K7 := K7) @hrE @hk7 E1 hF
theorem BX8_signed_b7 {σo : fS} {q : (Int ⊕ Nat) × fS} {N : Nat} {RE : Int → fS → Option ((Unit ⊕ Nat) × fS)} (hrE : ∀ {s : fS} {x1 : Int} {q}, bS 0 s → RE x1 s = some q → bE 0 s q.2) : ∀ {n : Nat} {s : fS} {l1 : Int} {l2 : Int}, bE 0 σo s → FX8_signed_b7 N RE n l1 l2 s = some q → bE 0 σo q.2 := by
  intro n
  induction n with
  | zero => intro s l1 l2 E  hF; simp [FX8_signed_b7] at hF
  | succ n ih =>
    intro s l1 l2 E  hF
    rw [FX8_signed_b7] at hF
    refine b_call E (fun _ hq => (BX1_other (bE.rf E.S) hq)) hF (fun _ hq1 D1 E1 hF => ?_)
    refine b_if hF (fun hF => ?_) (fun hF => ?_)
    ·
      exact BX8_signed_b25 (N := N) (RE := RE) (K7 := FX8_signed_b7 N RE n) @hrE @ih E1 hF
    ·
      refine b_call E1 (fun _ hq => (BX1_other (bE.rf E1.S) hq)) hF (fun _ hq2 D2 E2 hF => ?_)
      refine b_if hF (fun hF => ?_) (fun hF => ?_)
      ·
        refine b_pZ E2 (E2.S.c0 (Nat.le_of_ble_eq_true rfl)) hF (fun _ D3 E3 hF => ?_)
        exact b_ret E3 hF
      ·
        exact BX8_signed_b25 (N := N) (RE := RE) (K7 := FX8_signed_b7 N RE n) @hrE @ih E2 hF
theorem BX8_signed {σo : fS} {q : (Int ⊕ Nat) × fS} {N : Nat} {RE : Int → fS → Option ((Unit ⊕ Nat) × fS)} (hrE : ∀ {s : fS} {x1 : Int} {q}, bS 0 s → RE x1 s = some q → bE 0 s q.2) {s : fS} (E : bE 0 σo s) (hF : FX8_signed N RE s = some q) : bE 0 σo q.2 := by
  unfold FX8_signed at hF
  refine b_tB E (fun _ hq => BX8_needSolid (N := N) (RE := RE) @hrE (bE.rf E.S) hq) hF (fun _ _ D2 E2 hF => ?_)
  exact BX8_signed_b7 (N := N) (RE := RE) @hrE E2 hF
theorem BX8_isLength_b35 {σo : fS} {q : Int × fS} {s : fS} {s0 : Int} (E : bE 0 σo s) (hF : FX8_isLength_b35 s0 s = some q) : bE 0 σo q.2 := by
  unfold FX8_isLength_b35 at hF
  exact b_z E hF
theorem BX8_isLength_b30 {σo : fS} {q : Int × fS} {s : fS} (E : bE 0 σo s) (hF : FX8_isLength_b30 s = some q) : bE 0 σo q.2 := by
  unfold FX8_isLength_b30 at hF
  exact BX8_isLength_b35 E hF
theorem BX8_isLength_b34 {σo : fS} {q : Int × fS} {s : fS} (E : bE 0 σo s) (hF : FX8_isLength_b34 s = some q) : bE 0 σo q.2 := by
  unfold FX8_isLength_b34 at hF
  exact BX8_isLength_b35 E hF
theorem BX8_isLength_b18 {σo : fS} {q : Int × fS} {s : fS} {l0 : Int} (E : bE 0 σo s) (hF : FX8_isLength_b18 l0 s = some q) : bE 0 σo q.2 := by
  unfold FX8_isLength_b18 at hF
  refine b_if hF (fun hF => ?_) (fun hF => ?_)
  ·
    exact BX8_isLength_b34 E hF
  ·
    refine b_if hF (fun hF => ?_) (fun hF => ?_)
    ·
      exact BX8_isLength_b34 E hF
    ·
      exact BX8_isLength_b30 E hF
theorem BX8_isLength {σo : fS} {q : Int × fS} {s : fS} {p0 : Int} (E : bE 0 σo s) (hF : FX8_isLength p0 s = some q) : bE 0 σo q.2 := by
  unfold FX8_isLength at hF
  refine b_if hF (fun hF => ?_) (fun hF => ?_)
  ·
    exact BX8_isLength_b30 E hF
  ·
    refine b_if hF (fun hF => ?_) (fun hF => ?_)
    ·
      exact BX8_isLength_b18 E hF
    ·
      refine b_if hF (fun hF => ?_) (fun hF => ?_)
      ·
        exact BX8_isLength_b30 E hF
      ·
        exact BX8_isLength_b18 E hF
theorem BX8_isGlue_b17 {σo : fS} {q : Int × fS} {s : fS} {s0 : Int} (E : bE 0 σo s) (hF : FX8_isGlue_b17 s0 s = some q) : bE 0 σo q.2 := by
  unfold FX8_isGlue_b17 at hF
  exact b_z E hF
theorem BX8_isGlue_b12 {σo : fS} {q : Int × fS} {s : fS} (E : bE 0 σo s) (hF : FX8_isGlue_b12 s = some q) : bE 0 σo q.2 := by
  unfold FX8_isGlue_b12 at hF
  exact BX8_isGlue_b17 E hF
theorem BX8_isGlue {σo : fS} {q : Int × fS} {s : fS} {p0 : Int} (E : bE 0 σo s) (hF : FX8_isGlue p0 s = some q) : bE 0 σo q.2 := by
  unfold FX8_isGlue at hF
  refine b_if hF (fun hF => ?_) (fun hF => ?_)
  ·
    exact BX8_isGlue_b12 E hF
  ·
    refine b_if hF (fun hF => ?_) (fun hF => ?_)
    ·
      exact BX8_isGlue_b17 E hF
    ·
      exact BX8_isGlue_b12 E hF
theorem BX8_isSized_b25 {σo : fS} {q : Int × fS} {s : fS} {s0 : Int} (E : bE 0 σo s) (hF : FX8_isSized_b25 s0 s = some q) : bE 0 σo q.2 := by
  unfold FX8_isSized_b25 at hF
  exact b_z E hF
theorem BX8_isSized_b20 {σo : fS} {q : Int × fS} {s : fS} (E : bE 0 σo s) (hF : FX8_isSized_b20 s = some q) : bE 0 σo q.2 := by
  unfold FX8_isSized_b20 at hF
  exact BX8_isSized_b25 E hF
theorem BX8_isSized {σo : fS} {q : Int × fS} {s : fS} {p0 : Int} (E : bE 0 σo s) (hF : FX8_isSized p0 s = some q) : bE 0 σo q.2 := by
  unfold FX8_isSized at hF
  refine b_call E (fun _ hq => (BX8_primitive (bE.rf E.S) hq)) hF (fun _ hq2 D2 E2 hF => ?_)
  refine b_call E2 (fun _ hq => (BX8_isLength (bE.rf E2.S) hq)) hF (fun _ hq3 D3 E3 hF => ?_)
  refine b_if hF (fun hF => ?_) (fun hF => ?_)
  ·
    exact BX8_isSized_b20 E3 hF
  ·
    refine b_call E3 (fun _ hq => (BX8_isGlue (bE.rf E3.S) hq)) hF (fun _ hq4 D4 E4 hF => ?_)
    refine b_if hF (fun hF => ?_) (fun hF => ?_)
    ·
      exact BX8_isSized_b25 E4 hF
    ·
      exact BX8_isSized_b20 E4 hF
theorem BX8_cellOf {σo : fS} {q : (Int ⊕ Nat) × fS} {RN : fS → Option ((Int ⊕ Nat) × fS)} (hrN : ∀ {s : fS} {q}, bS 0 s → RN s = some q → bE 0 s q.2) {s : fS} {p0 : Int} (E : bE 0 σo s) (hF : FX8_cellOf RN p0 s = some q) : bE 0 σo q.2 := by
  unfold FX8_cellOf at hF
  refine b_if hF (fun hF => ?_) (fun hF => ?_)
  ·
    refine b_if hF (fun hF => ?_) (fun hF => ?_)
    ·
      refine b_if hF (fun hF => ?_) (fun hF => ?_)
      ·
        refine b_if hF (fun hF => ?_) (fun hF => ?_)
        ·
          refine b_if hF (fun hF => ?_) (fun hF => ?_)
          ·
            exact b_ret E hF
          ·
            exact b_ret E hF
        ·
          exact b_ret E hF
      ·
        refine b_tB E (fun _ hq => BX8_within (RN := RN) @hrN (bE.rf E.S) hq) hF (fun _ _ D2 E2 hF => ?_)
        exact b_ret E2 hF
    ·
      refine b_tB E (fun _ hq => BX8_within (RN := RN) @hrN (bE.rf E.S) hq) hF (fun _ _ D4 E4 hF => ?_)
      exact b_ret E4 hF
  ·
    refine b_tB E (fun _ hq => BX8_within (RN := RN) @hrN (bE.rf E.S) hq) hF (fun _ _ D6 E6 hF => ?_)
    exact b_ret E6 hF
theorem BX39_of {σo : fS} {q : Int × fS} {s : fS} {this : Nat} {p0 : Int} (E : bE 0 σo s) (othis : bO 0 s this) (hF : FX39_of this p0 s = some q) : bE 0 σo q.2 := by
  unfold FX39_of at hF
  refine b_if hF (fun hF => ?_) (fun hF => ?_)
  ·
    refine b_K hF (fun hF => ?_)
    exact b_ret E hF
  ·
    refine b_if hF (fun hF => ?_) (fun hF => ?_)
    ·
      refine b_K hF (fun hF => ?_)
      exact b_ret E hF
    ·
      refine b_if hF (fun hF => ?_) (fun hF => ?_)
      ·
        refine b_K hF (fun hF => ?_)
        exact b_ret E hF
      ·
        refine b_if hF (fun hF => ?_) (fun hF => ?_)
        ·
          refine b_K hF (fun hF => ?_)
          exact b_ret E hF
        ·
          refine b_if hF (fun hF => ?_) (fun hF => ?_)
          ·
            refine b_K hF (fun hF => ?_)
            exact b_ret E hF
          ·
            refine b_if hF (fun hF => ?_) (fun hF => ?_)
            ·
              refine b_K hF (fun hF => ?_)
              exact b_ret E hF
            ·
              refine b_if hF (fun hF => ?_) (fun hF => ?_)
              ·
                refine b_K hF (fun hF => ?_)
                exact b_ret E hF
              ·
                refine b_if hF (fun hF => ?_) (fun hF => ?_)
                ·
                  refine b_K hF (fun hF => ?_)
                  exact b_ret E hF
                ·
                  refine b_if hF (fun hF => ?_) (fun hF => ?_)
                  ·
                    refine b_K hF (fun hF => ?_)
                    exact b_ret E hF
                  ·
                    refine b_if hF (fun hF => ?_) (fun hF => ?_)
                    ·
                      refine b_K hF (fun hF => ?_)
                      refine b_K hF (fun hF => ?_)
                      exact b_ret E hF
                    ·
                      refine b_K hF (fun hF => ?_)
                      exact b_ret E hF
theorem BX8_sized_b18 {σo : fS} {q : (Int ⊕ Nat) × fS} {RN : fS → Option ((Int ⊕ Nat) × fS)} (hrN : ∀ {s : fS} {q}, bS 0 s → RN s = some q → bE 0 s q.2) {s : fS} {l2 : Int} (E : bE 0 σo s) (hF : FX8_sized_b18 RN l2 s = some q) : bE 0 σo q.2 := by
  unfold FX8_sized_b18 at hF
  refine b_tB E (fun _ hq => BX8_cellOf (RN := RN) @hrN (bE.rf E.S) hq) hF (fun _ _ D4 E4 hF => ?_)
  refine b_rv hF (fun _ hF => ?_)
  exact b_ret E4 hF
theorem BX8_sized_b74 {σo : fS} {q : (Int ⊕ Nat) × fS} {RN : fS → Option ((Int ⊕ Nat) × fS)} (hrN : ∀ {s : fS} {q}, bS 0 s → RN s = some q → bE 0 s q.2) {s : fS} {s0 : Int} (E : bE 0 σo s) (hF : FX8_sized_b74 RN s0 s = some q) : bE 0 σo q.2 := by
  unfold FX8_sized_b74 at hF
  exact b_ret E hF
theorem BX8_sized {σo : fS} {q : (Int ⊕ Nat) × fS} {RN : fS → Option ((Int ⊕ Nat) × fS)} (hrN : ∀ {s : fS} {q}, bS 0 s → RN s = some q → bE 0 s q.2) {s : fS} {p0 : Int} (E : bE 0 σo s) (hF : FX8_sized RN p0 s = some q) : bE 0 σo q.2 := by
  unfold FX8_sized at hF
  refine b_call E (fun _ hq => (BX8_primitive (bE.rf E.S) hq)) hF (fun _ hq2 D2 E2 hF => ?_)
  refine b_if hF (fun hF => ?_) (fun hF => ?_)
  ·
    exact BX8_sized_b18 (RN := RN) @hrN E2 hF
  ·
    refine b_if hF (fun hF => ?_) (fun hF => ?_)
    ·
      refine b_tB E2 (fun _ hq => BX8_within (RN := RN) @hrN (bE.rf E2.S) hq) hF (fun _ _ D6 E6 hF => ?_)
      refine b_rv hF (fun _ hF => ?_)
      refine b_if hF (fun hF => ?_) (fun hF => ?_)
      ·
        refine b_rO E6 (E6.S.c0 (Nat.le_of_ble_eq_true rfl)) hF (fun _ o9 hF => ?_)
        refine b_K hF (fun hF => ?_)
        refine b_call E6 (fun _ hq => (BX39_of (bE.rf E6.S) o9 hq)) hF (fun _ hq11 D11 E11 hF => ?_)
        exact BX8_sized_b74 (RN := RN) @hrN E11 hF
      ·
        exact BX8_sized_b74 (RN := RN) @hrN E6 hF
    ·
      exact BX8_sized_b18 (RN := RN) @hrN E2 hF
theorem BX1_isDigit_b19 {σo : fS} {q : Int × fS} {s : fS} {s0 : Int} (E : bE 0 σo s) (hF : FX1_isDigit_b19 s0 s = some q) : bE 0 σo q.2 := by
  unfold FX1_isDigit_b19 at hF
  exact b_z E hF
theorem BX1_isDigit_b18 {σo : fS} {q : Int × fS} {s : fS} (E : bE 0 σo s) (hF : FX1_isDigit_b18 s = some q) : bE 0 σo q.2 := by
  unfold FX1_isDigit_b18 at hF
  exact BX1_isDigit_b19 E hF
theorem BX1_isDigit {σo : fS} {q : Int × fS} {s : fS} {p0 : Int} (E : bE 0 σo s) (hF : FX1_isDigit p0 s = some q) : bE 0 σo q.2 := by
  unfold FX1_isDigit at hF
  refine b_if hF (fun hF => ?_) (fun hF => ?_)
  ·
    exact BX1_isDigit_b18 E hF
  ·
    refine b_if hF (fun hF => ?_) (fun hF => ?_)
    ·
      exact BX1_isDigit_b18 E hF
    ·
      exact BX1_isDigit_b19 E hF
theorem BX8_isPoint_b23 {σo : fS} {q : Int × fS} {s : fS} {s0 : Int} (E : bE 0 σo s) (hF : FX8_isPoint_b23 s0 s = some q) : bE 0 σo q.2 := by
  unfold FX8_isPoint_b23 at hF
  exact b_z E hF
theorem BX8_isPoint_b18 {σo : fS} {q : Int × fS} {s : fS} (E : bE 0 σo s) (hF : FX8_isPoint_b18 s = some q) : bE 0 σo q.2 := by
  unfold FX8_isPoint_b18 at hF
  exact BX8_isPoint_b23 E hF
theorem BX8_isPoint {σo : fS} {q : Int × fS} {s : fS} {p0 : Int} (E : bE 0 σo s) (hF : FX8_isPoint p0 s = some q) : bE 0 σo q.2 := by
  unfold FX8_isPoint at hF
  refine b_call E (fun _ hq => (BX1_other (bE.rf E.S) hq)) hF (fun _ hq1 D1 E1 hF => ?_)
  refine b_if hF (fun hF => ?_) (fun hF => ?_)
  ·
    exact BX8_isPoint_b18 E1 hF
  ·
    refine b_call E1 (fun _ hq => (BX1_other (bE.rf E1.S) hq)) hF (fun _ hq2 D2 E2 hF => ?_)
    refine b_if hF (fun hF => ?_) (fun hF => ?_)
    ·
      exact BX8_isPoint_b23 E2 hF
    ·
      exact BX8_isPoint_b18 E2 hF
theorem BX10_letter {σo : fS} {q : Int × fS} {s : fS} {p0 : Int} {p1 : Int} (E : bE 0 σo s) (hF : FX10_letter p0 p1 s = some q) : bE 0 σo q.2 := by
  unfold FX10_letter at hF
  refine b_rv hF (fun _ hF => ?_)
  refine b_rv hF (fun _ hF => ?_)
  exact b_ret E hF
theorem BX8_quoted_b101 {σo : fS} {q : (Int ⊕ Nat) × fS} {N : Nat} {RE : Int → fS → Option ((Unit ⊕ Nat) × fS)} (hrE : ∀ {s : fS} {x1 : Int} {q}, bS 0 s → RE x1 s = some q → bE 0 s q.2) {s : fS} {l2 : Int} (E : bE 0 σo s) (hF : FX8_quoted_b101 N RE l2 s = some q) : bE 0 σo q.2 := by
  unfold FX8_quoted_b101 at hF
  exact b_ret E hF
theorem BX8_quoted_b82 {σo : fS} {q : (Int ⊕ Nat) × fS} {N : Nat} {RE : Int → fS → Option ((Unit ⊕ Nat) × fS)} (hrE : ∀ {s : fS} {x1 : Int} {q}, bS 0 s → RE x1 s = some q → bE 0 s q.2) {s : fS} {l2 : Int} (E : bE 0 σo s) (hF : FX8_quoted_b82 N RE l2 s = some q) : bE 0 σo q.2 := by
  unfold FX8_quoted_b82 at hF
  refine b_tB E (fun _ hq => BX8_getExpanded (N := N) (RE := RE) @hrE (bE.rf E.S) hq) hF (fun _ _ D2 E2 hF => ?_)
  refine b_call E2 (fun _ hq => (BX1_is (bE.rf E2.S) hq)) hF (fun _ hq3 D3 E3 hF => ?_)
  refine b_if hF (fun hF => ?_) (fun hF => ?_)
  ·
    exact BX8_quoted_b101 (N := N) (RE := RE) @hrE E3 hF
  ·
    refine b_call E3 (fun _ hq => (BX8_putBack (bE.rf E3.S) hq)) hF (fun _ hq5 D5 E5 hF => ?_)
    exact BX8_quoted_b101 (N := N) (RE := RE) @hrE E5 hF
theorem BX8_quoted_b81 {σo : fS} {q : (Int ⊕ Nat) × fS} {N : Nat} {RE : Int → fS → Option ((Unit ⊕ Nat) × fS)} (hrE : ∀ {s : fS} {x1 : Int} {q}, bS 0 s → RE x1 s = some q → bE 0 s q.2) {s : fS} {s0 : Int} (E : bE 0 σo s) (hF : FX8_quoted_b81 N RE s0 s = some q) : bE 0 σo q.2 := by
  unfold FX8_quoted_b81 at hF
  exact BX8_quoted_b82 (N := N) (RE := RE) @hrE E hF
theorem BX8_quoted_b56 {σo : fS} {q : (Int ⊕ Nat) × fS} {N : Nat} {RE : Int → fS → Option ((Unit ⊕ Nat) × fS)} (hrE : ∀ {s : fS} {x1 : Int} {q}, bS 0 s → RE x1 s = some q → bE 0 s q.2) {s : fS} {l3 : Int} {s1 : Int} (E : bE 0 σo s) (hF : FX8_quoted_b56 N RE l3 s1 s = some q) : bE 0 σo q.2 := by
  unfold FX8_quoted_b56 at hF
  refine b_tB E (fun _ hq => BX4_want (bE.rf E.S) hq) hF (fun _ _ D2 E2 hF => ?_)
  refine b_if hF (fun hF => ?_) (fun hF => ?_)
  ·
    refine b_call E2 (fun _ hq => (BX10_letter (bE.rf E2.S) hq)) hF (fun _ hq5 D5 E5 hF => ?_)
    exact BX8_quoted_b81 (N := N) (RE := RE) @hrE E5 hF
  ·
    exact BX8_quoted_b81 (N := N) (RE := RE) @hrE E2 hF
theorem BX8_quoted_b51 {σo : fS} {q : (Int ⊕ Nat) × fS} {N : Nat} {RE : Int → fS → Option ((Unit ⊕ Nat) × fS)} (hrE : ∀ {s : fS} {x1 : Int} {q}, bS 0 s → RE x1 s = some q → bE 0 s q.2) {s : fS} {l3 : Int} (E : bE 0 σo s) (hF : FX8_quoted_b51 N RE l3 s = some q) : bE 0 σo q.2 := by
  unfold FX8_quoted_b51 at hF
  exact BX8_quoted_b56 (N := N) (RE := RE) @hrE E hF
theorem BX8_quoted {σo : fS} {q : (Int ⊕ Nat) × fS} {N : Nat} {RE : Int → fS → Option ((Unit ⊕ Nat) × fS)} (hrE : ∀ {s : fS} {x1 : Int} {q}, bS 0 s → RE x1 s = some q → bE 0 s q.2) {s : fS} (E : bE 0 σo s) (hF : FX8_quoted N RE s = some q) : bE 0 σo q.2 := by
  unfold FX8_quoted at hF
  refine b_tB E (fun _ hq => BX8_need (N := N) (bE.rf E.S) hq) hF (fun _ _ D2 E2 hF => ?_)
  refine b_call E2 (fun _ hq => (BX8_bare (bE.rf E2.S) hq)) hF (fun _ hq3 D3 E3 hF => ?_)
  refine b_call E3 (fun _ hq => (BX1_isCharacter (bE.rf E3.S) hq)) hF (fun _ hq4 D4 E4 hF => ?_)
  refine b_if hF (fun hF => ?_) (fun hF => ?_)
  ·
    exact BX8_quoted_b82 (N := N) (RE := RE) @hrE E4 hF
  ·
    refine b_if hF (fun hF => ?_) (fun hF => ?_)
    ·
      exact BX8_quoted_b51 (N := N) (RE := RE) @hrE E4 hF
    ·
      refine b_rv hF (fun _ hF => ?_)
      refine b_if hF (fun hF => ?_) (fun hF => ?_)
      ·
        exact BX8_quoted_b56 (N := N) (RE := RE) @hrE E4 hF
      ·
        exact BX8_quoted_b51 (N := N) (RE := RE) @hrE E4 hF
theorem BX8_isCounter_b23 {σo : fS} {q : Int × fS} {s : fS} {s0 : Int} (E : bE 0 σo s) (hF : FX8_isCounter_b23 s0 s = some q) : bE 0 σo q.2 := by
  unfold FX8_isCounter_b23 at hF
  exact b_z E hF
theorem BX8_isCounter_b18 {σo : fS} {q : Int × fS} {s : fS} (E : bE 0 σo s) (hF : FX8_isCounter_b18 s = some q) : bE 0 σo q.2 := by
  unfold FX8_isCounter_b18 at hF
  exact BX8_isCounter_b23 E hF
theorem BX8_isCounter_b22 {σo : fS} {q : Int × fS} {s : fS} (E : bE 0 σo s) (hF : FX8_isCounter_b22 s = some q) : bE 0 σo q.2 := by
  unfold FX8_isCounter_b22 at hF
  exact BX8_isCounter_b23 E hF
theorem BX8_isCounter {σo : fS} {q : Int × fS} {s : fS} {p0 : Int} (E : bE 0 σo s) (hF : FX8_isCounter p0 s = some q) : bE 0 σo q.2 := by
  unfold FX8_isCounter at hF
  refine b_if hF (fun hF => ?_) (fun hF => ?_)
  ·
    exact BX8_isCounter_b18 E hF
  ·
    refine b_if hF (fun hF => ?_) (fun hF => ?_)
    ·
      exact BX8_isCounter_b22 E hF
    ·
      refine b_if hF (fun hF => ?_) (fun hF => ?_)
      ·
        exact BX8_isCounter_b22 E hF
      ·
        exact BX8_isCounter_b18 E hF
theorem BX8_valued_b66 {σo : fS} {q : (Int ⊕ Nat) × fS} {RN : fS → Option ((Int ⊕ Nat) × fS)} (hrN : ∀ {s : fS} {q}, bS 0 s → RN s = some q → bE 0 s q.2) {s : fS} {l1 : Int} {s1 : Int} (E : bE 0 σo s) (hF : FX8_valued_b66 RN l1 s1 s = some q) : bE 0 σo q.2 := by
  unfold FX8_valued_b66 at hF
  refine b_tB E (fun _ hq => BX4_want (bE.rf E.S) hq) hF (fun _ _ D2 E2 hF => ?_)
  refine b_call E2 (fun _ hq => (BX8_value (bE.rf E2.S) hq)) hF (fun _ hq4 D4 E4 hF => ?_)
  exact b_ret E4 hF
theorem BX8_valued {σo : fS} {q : (Int ⊕ Nat) × fS} {RN : fS → Option ((Int ⊕ Nat) × fS)} (hrN : ∀ {s : fS} {q}, bS 0 s → RN s = some q → bE 0 s q.2) {s : fS} {p0 : Int} (E : bE 0 σo s) (hF : FX8_valued RN p0 s = some q) : bE 0 σo q.2 := by
  unfold FX8_valued at hF
  refine b_call E (fun _ hq => (BX8_primitive (bE.rf E.S) hq)) hF (fun _ hq2 D2 E2 hF => ?_)
  refine b_call E2 (fun _ hq => (BX8_isCounter (bE.rf E2.S) hq)) hF (fun _ hq3 D3 E3 hF => ?_)
  refine b_if hF (fun hF => ?_) (fun hF => ?_)
  ·
    refine b_if hF (fun hF => ?_) (fun hF => ?_)
    ·
      refine b_call E3 (fun _ hq => (BX8_kind (bE.rf E3.S) hq)) hF (fun _ hq6 D6 E6 hF => ?_)
      refine b_if hF (fun hF => ?_) (fun hF => ?_)
      ·
        exact BX8_valued_b66 (RN := RN) @hrN E6 hF
      ·
        exact BX8_valued_b66 (RN := RN) @hrN E6 hF
    ·
      refine b_tB E3 (fun _ hq => BX8_within (RN := RN) @hrN (bE.rf E3.S) hq) hF (fun _ _ D9 E9 hF => ?_)
      refine b_call E9 (fun _ hq => (BX9_category (bE.rf E9.S) hq)) hF (fun _ hq11 D11 E11 hF => ?_)
      exact b_ret E11 hF
  ·
    refine b_tB E3 (fun _ hq => BX8_cellOf (RN := RN) @hrN (bE.rf E3.S) hq) hF (fun _ _ D15 E15 hF => ?_)
    refine b_rv hF (fun _ hF => ?_)
    exact b_ret E15 hF
theorem BX8_factor_b38 {σo : fS} {q : (Unit ⊕ Nat) × fS} {N : Nat} {RE : Int → fS → Option ((Unit ⊕ Nat) × fS)} {RN : fS → Option ((Int ⊕ Nat) × fS)} (hrE : ∀ {s : fS} {x1 : Int} {q}, bS 0 s → RE x1 s = some q → bE 0 s q.2) (hrN : ∀ {s : fS} {q}, bS 0 s → RN s = some q → bE 0 s q.2) {s : fS} {s1 : Int} (E : bE 0 σo s) (hF : FX8_factor_b38 N RE RN s1 s = some q) : bE 0 σo q.2 := by
  unfold FX8_factor_b38 at hF
  refine b_pJ E (E.S.c0 (Nat.le_of_ble_eq_true rfl)) hF (fun _ D1 E1 hF => ?_)
  refine b_pJ E1 (E1.S.c0 (Nat.le_of_ble_eq_true rfl)) hF (fun _ D2 E2 hF => ?_)
  exact b_ret E2 hF
theorem BX8_factor_b96 {σo : fS} {q : (Unit ⊕ Nat) × fS} {N : Nat} {RE : Int → fS → Option ((Unit ⊕ Nat) × fS)} {RN : fS → Option ((Int ⊕ Nat) × fS)} {K55 : Int → Int → Int → fS → Option ((Unit ⊕ Nat) × fS)} (hrE : ∀ {s : fS} {x1 : Int} {q}, bS 0 s → RE x1 s = some q → bE 0 s q.2) (hrN : ∀ {s : fS} {q}, bS 0 s → RN s = some q → bE 0 s q.2) (hk55 : ∀ {s : fS} {l2 : Int} {l4 : Int} {l6 : Int}, bE 0 σo s → K55 l2 l4 l6 s = some q → bE 0 σo q.2) {s : fS} {l2 : Int} {l4 : Int} {s1 : Int} (E : bE 0 σo s) (hF : FX8_factor_b96 N RE RN K55 l2 l4 s1 s = some q) : bE 0 σo q.2 := by
  unfold FX8_factor_b96 at hF
  refine b_tB E (fun _ hq => BX4_want (bE.rf E.S) hq) hF (fun _ _ D2 E2 hF => ?_)
  refine b_tB E2 (fun _ hq => BX8_getExpanded (N := N) (RE := RE) @hrE (bE.rf E2.S) hq) hF (fun _ _ D4 E4 hF => ?_)
  exact hk55 E4 hF
theorem BX8_factor_b149 {σo : fS} {q : (Unit ⊕ Nat) × fS} {N : Nat} {RE : Int → fS → Option ((Unit ⊕ Nat) × fS)} {RN : fS → Option ((Int ⊕ Nat) × fS)} {K124 : Int → Int → Int → fS → Option ((Unit ⊕ Nat) × fS)} (hrE : ∀ {s : fS} {x1 : Int} {q}, bS 0 s → RE x1 s = some q → bE 0 s q.2) (hrN : ∀ {s : fS} {q}, bS 0 s → RN s = some q → bE 0 s q.2) (hk124 : ∀ {s : fS} {l2 : Int} {l4 : Int} {l6 : Int}, bE 0 σo s → K124 l2 l4 l6 s = some q → bE 0 σo q.2) {s : fS} {l2 : Int} {l4 : Int} {l6 : Int} {s1 : Int} (E : bE 0 σo s) (hF : FX8_factor_b149 N RE RN K124 l2 l4 l6 s1 s = some q) : bE 0 σo q.2 := by
  unfold FX8_factor_b149 at hF
  refine b_tB E (fun _ hq => BX4_want (bE.rf E.S) hq) hF (fun _ _ D2 E2 hF => ?_)
  refine b_tB E2 (fun _ hq => BX8_getExpanded (N := N) (RE := RE) @hrE (bE.rf E2.S) hq) hF (fun _ _ D4 E4 hF => ?_)
  exact hk124 E4 hF
theorem BX8_factor_b184 {σo : fS} {q : (Unit ⊕ Nat) × fS} {N : Nat} {RE : Int → fS → Option ((Unit ⊕ Nat) × fS)} {RN : fS → Option ((Int ⊕ Nat) × fS)} (hrE : ∀ {s : fS} {x1 : Int} {q}, bS 0 s → RE x1 s = some q → bE 0 s q.2) (hrN : ∀ {s : fS} {q}, bS 0 s → RN s = some q → bE 0 s q.2) {s : fS} {l2 : Int} {l4 : Int} {l6 : Int} (E : bE 0 σo s) (hF : FX8_factor_b184 N RE RN l2 l4 l6 s = some q) : bE 0 σo q.2 := by
  unfold FX8_factor_b184 at hF
  refine b_call E (fun _ hq => (BX8_putBack (bE.rf E.S) hq)) hF (fun _ hq2 D2 E2 hF => ?_)
  refine b_pJ E2 (E2.S.c0 (Nat.le_of_ble_eq_true rfl)) hF (fun _ D3 E3 hF => ?_)
  refine b_pJ E3 (E3.S.c0 (Nat.le_of_ble_eq_true rfl)) hF (fun _ D4 E4 hF => ?_)
  exact b_ret E4 hF
theorem BX8_factor_b124 {σo : fS} {q : (Unit ⊕ Nat) × fS} {N : Nat} {RE : Int → fS → Option ((Unit ⊕ Nat) × fS)} {RN : fS → Option ((Int ⊕ Nat) × fS)} (hrE : ∀ {s : fS} {x1 : Int} {q}, bS 0 s → RE x1 s = some q → bE 0 s q.2) (hrN : ∀ {s : fS} {q}, bS 0 s → RN s = some q → bE 0 s q.2) : ∀ {n : Nat} {s : fS} {l2 : Int} {l4 : Int} {l6 : Int}, bE 0 σo s → FX8_factor_b124 N RE RN n l2 l4 l6 s = some q → bE 0 σo q.2 := by
  intro n
  induction n with
  | zero => intro s l2 l4 l6 E  hF; simp [FX8_factor_b124] at hF
  | succ n ih =>
    intro s l2 l4 l6 E  hF
    rw [FX8_factor_b124] at hF
    refine b_call E (fun _ hq => (BX1_isDigit (bE.rf E.S) hq)) hF (fun _ hq1 D1 E1 hF => ?_)
    refine b_if hF (fun hF => ?_) (fun hF => ?_)
    ·
      exact BX8_factor_b184 (N := N) (RE := RE) (RN := RN) @hrE @hrN E1 hF
    ·
      refine b_if hF (fun hF => ?_) (fun hF => ?_)
      ·
        exact BX8_factor_b149 (N := N) (RE := RE) (RN := RN) (K124 := FX8_factor_b124 N RE RN n) @hrE @hrN @ih E1 hF
      ·
        exact BX8_factor_b149 (N := N) (RE := RE) (RN := RN) (K124 := FX8_factor_b124 N RE RN n) @hrE @hrN @ih E1 hF
theorem BX8_factor_b55 {σo : fS} {q : (Unit ⊕ Nat) × fS} {N : Nat} {RE : Int → fS → Option ((Unit ⊕ Nat) × fS)} {RN : fS → Option ((Int ⊕ Nat) × fS)} (hrE : ∀ {s : fS} {x1 : Int} {q}, bS 0 s → RE x1 s = some q → bE 0 s q.2) (hrN : ∀ {s : fS} {q}, bS 0 s → RN s = some q → bE 0 s q.2) : ∀ {n : Nat} {s : fS} {l2 : Int} {l4 : Int} {l6 : Int}, bE 0 σo s → FX8_factor_b55 N RE RN n l2 l4 l6 s = some q → bE 0 σo q.2 := by
  intro n
  induction n with
  | zero => intro s l2 l4 l6 E  hF; simp [FX8_factor_b55] at hF
  | succ n ih =>
    intro s l2 l4 l6 E  hF
    rw [FX8_factor_b55] at hF
    refine b_call E (fun _ hq => (BX1_isDigit (bE.rf E.S) hq)) hF (fun _ hq1 D1 E1 hF => ?_)
    refine b_if hF (fun hF => ?_) (fun hF => ?_)
    ·
      refine b_call E1 (fun _ hq => (BX8_isPoint (bE.rf E1.S) hq)) hF (fun _ hq2 D2 E2 hF => ?_)
      refine b_if hF (fun hF => ?_) (fun hF => ?_)
      ·
        exact BX8_factor_b184 (N := N) (RE := RE) (RN := RN) @hrE @hrN E2 hF
      ·
        refine b_tB E2 (fun _ hq => BX8_getExpanded (N := N) (RE := RE) @hrE (bE.rf E2.S) hq) hF (fun _ _ D4 E4 hF => ?_)
        exact BX8_factor_b124 (N := N) (RE := RE) (RN := RN) @hrE @hrN E4 hF
    ·
      refine b_if hF (fun hF => ?_) (fun hF => ?_)
      ·
        exact BX8_factor_b96 (N := N) (RE := RE) (RN := RN) (K55 := FX8_factor_b55 N RE RN n) @hrE @hrN @ih E1 hF
      ·
        exact BX8_factor_b96 (N := N) (RE := RE) (RN := RN) (K55 := FX8_factor_b55 N RE RN n) @hrE @hrN @ih E1 hF
theorem BX8_factor_b47 {σo : fS} {q : (Unit ⊕ Nat) × fS} {N : Nat} {RE : Int → fS → Option ((Unit ⊕ Nat) × fS)} {RN : fS → Option ((Int ⊕ Nat) × fS)} (hrE : ∀ {s : fS} {x1 : Int} {q}, bS 0 s → RE x1 s = some q → bE 0 s q.2) (hrN : ∀ {s : fS} {q}, bS 0 s → RN s = some q → bE 0 s q.2) {s : fS} {l1 : Int} (E : bE 0 σo s) (hF : FX8_factor_b47 N RE RN l1 s = some q) : bE 0 σo q.2 := by
  unfold FX8_factor_b47 at hF
  exact BX8_factor_b55 (N := N) (RE := RE) (RN := RN) @hrE @hrN E hF
theorem BX8_factor {σo : fS} {q : (Unit ⊕ Nat) × fS} {N : Nat} {RE : Int → fS → Option ((Unit ⊕ Nat) × fS)} {RN : fS → Option ((Int ⊕ Nat) × fS)} (hrE : ∀ {s : fS} {x1 : Int} {q}, bS 0 s → RE x1 s = some q → bE 0 s q.2) (hrN : ∀ {s : fS} {q}, bS 0 s → RN s = some q → bE 0 s q.2) {s : fS} {p0 : Int} (E : bE 0 σo s) (hF : FX8_factor N RE RN p0 s = some q) : bE 0 σo q.2 := by
  unfold FX8_factor at hF
  refine b_call E (fun _ hq => (BX1_isDigit (bE.rf E.S) hq)) hF (fun _ hq1 D1 E1 hF => ?_)
  refine b_if hF (fun hF => ?_) (fun hF => ?_)
  ·
    exact BX8_factor_b47 (N := N) (RE := RE) (RN := RN) @hrE @hrN E1 hF
  ·
    refine b_call E1 (fun _ hq => (BX8_isPoint (bE.rf E1.S) hq)) hF (fun _ hq2 D2 E2 hF => ?_)
    refine b_if hF (fun hF => ?_) (fun hF => ?_)
    ·
      exact BX8_factor_b47 (N := N) (RE := RE) (RN := RN) @hrE @hrN E2 hF
    ·
      refine b_call E2 (fun _ hq => (BX1_other (bE.rf E2.S) hq)) hF (fun _ hq3 D3 E3 hF => ?_)
      refine b_if hF (fun hF => ?_) (fun hF => ?_)
      ·
        refine b_tB E3 (fun _ hq => BX8_valued (RN := RN) @hrN (bE.rf E3.S) hq) hF (fun _ _ D5 E5 hF => ?_)
        exact BX8_factor_b38 (N := N) (RE := RE) (RN := RN) @hrE @hrN E5 hF
      ·
        refine b_tB E3 (fun _ hq => BX8_quoted (N := N) (RE := RE) @hrE (bE.rf E3.S) hq) hF (fun _ _ D7 E7 hF => ?_)
        exact BX8_factor_b38 (N := N) (RE := RE) (RN := RN) @hrE @hrN E7 hF
theorem BX8_below_b18 {σo : fS} {q : (Unit ⊕ Nat) × fS} {s : fS} {s1 : Int} (E : bE 0 σo s) (hF : FX8_below_b18 s1 s = some q) : bE 0 σo q.2 := by
  unfold FX8_below_b18 at hF
  refine b_tB E (fun _ hq => BX4_want (bE.rf E.S) hq) hF (fun _ _ D2 E2 hF => ?_)
  exact b_ret E2 hF
theorem BX8_below {σo : fS} {q : (Unit ⊕ Nat) × fS} {s : fS} {p0 : Int} {p1 : Int} {p2 : Int} (E : bE 0 σo s) (hF : FX8_below p0 p1 p2 s = some q) : bE 0 σo q.2 := by
  unfold FX8_below at hF
  refine b_if hF (fun hF => ?_) (fun hF => ?_)
  ·
    exact BX8_below_b18 E hF
  ·
    exact BX8_below_b18 E hF
theorem BX8_nearest_b71 {σo : fS} {q : Int × fS} {s : fS} {s0 : Int} (E : bE 0 σo s) (hF : FX8_nearest_b71 s0 s = some q) : bE 0 σo q.2 := by
  unfold FX8_nearest_b71 at hF
  exact b_ret E hF
theorem BX8_nearest_b53 {σo : fS} {q : Int × fS} {s : fS} {l6 : Int} {s0 : Int} {s1 : Int} (E : bE 0 σo s) (hF : FX8_nearest_b53 l6 s0 s1 s = some q) : bE 0 σo q.2 := by
  unfold FX8_nearest_b53 at hF
  refine b_if hF (fun hF => ?_) (fun hF => ?_)
  ·
    exact BX8_nearest_b71 E hF
  ·
    exact BX8_nearest_b71 E hF
theorem BX8_nearest_b20 {σo : fS} {q : Int × fS} {s : fS} {l4 : Int} {l6 : Int} {s0 : Int} (E : bE 0 σo s) (hF : FX8_nearest_b20 l4 l6 s0 s = some q) : bE 0 σo q.2 := by
  unfold FX8_nearest_b20 at hF
  refine b_dv hF (fun hF => ?_)
  refine b_dv hF (fun hF => ?_)
  refine b_dv hF (fun hF => ?_)
  refine b_if hF (fun hF => ?_) (fun hF => ?_)
  ·
    exact BX8_nearest_b53 E hF
  ·
    exact BX8_nearest_b53 E hF
theorem BX8_nearest {σo : fS} {q : Int × fS} {s : fS} {p0 : Int} {p1 : Int} {p2 : Int} (E : bE 0 σo s) (hF : FX8_nearest p0 p1 p2 s = some q) : bE 0 σo q.2 := by
  unfold FX8_nearest at hF
  refine b_if hF (fun hF => ?_) (fun hF => ?_)
  ·
    exact BX8_nearest_b20 E hF
  ·
    exact BX8_nearest_b20 E hF
theorem BX8_parameter_b30 {σo : fS} {q : Int × fS} {s : fS} {s0 : Int} (E : bE 0 σo s) (hF : FX8_parameter_b30 s0 s = some q) : bE 0 σo q.2 := by
  unfold FX8_parameter_b30 at hF
  exact b_ret E hF
theorem BX8_parameter {σo : fS} {q : Int × fS} {s : fS} {p0 : Int} (E : bE 0 σo s) (hF : FX8_parameter p0 s = some q) : bE 0 σo q.2 := by
  unfold FX8_parameter at hF
  refine b_rv hF (fun _ hF => ?_)
  refine b_if hF (fun hF => ?_) (fun hF => ?_)
  ·
    refine b_call E (fun _ hq => (BX5_parameter (bE.rf E.S) hq)) hF (fun _ hq6 D6 E6 hF => ?_)
    exact BX8_parameter_b30 E6 hF
  ·
    exact BX8_parameter_b30 E hF
theorem BX8_dropSpace_b19 {σo : fS} {q : (Unit ⊕ Nat) × fS} {N : Nat} {RE : Int → fS → Option ((Unit ⊕ Nat) × fS)} (hrE : ∀ {s : fS} {x1 : Int} {q}, bS 0 s → RE x1 s = some q → bE 0 s q.2) {s : fS} (E : bE 0 σo s) (hF : FX8_dropSpace_b19 N RE s = some q) : bE 0 σo q.2 := by
  unfold FX8_dropSpace_b19 at hF
  exact b_ret E hF
theorem BX8_dropSpace {σo : fS} {q : (Unit ⊕ Nat) × fS} {N : Nat} {RE : Int → fS → Option ((Unit ⊕ Nat) × fS)} (hrE : ∀ {s : fS} {x1 : Int} {q}, bS 0 s → RE x1 s = some q → bE 0 s q.2) {s : fS} (E : bE 0 σo s) (hF : FX8_dropSpace N RE s = some q) : bE 0 σo q.2 := by
  unfold FX8_dropSpace at hF
  refine b_tB E (fun _ hq => BX8_getExpanded (N := N) (RE := RE) @hrE (bE.rf E.S) hq) hF (fun _ _ D2 E2 hF => ?_)
  refine b_call E2 (fun _ hq => (BX1_is (bE.rf E2.S) hq)) hF (fun _ hq3 D3 E3 hF => ?_)
  refine b_if hF (fun hF => ?_) (fun hF => ?_)
  ·
    exact BX8_dropSpace_b19 (N := N) (RE := RE) @hrE E3 hF
  ·
    refine b_call E3 (fun _ hq => (BX8_putBack (bE.rf E3.S) hq)) hF (fun _ hq5 D5 E5 hF => ?_)
    exact BX8_dropSpace_b19 (N := N) (RE := RE) @hrE E5 hF
theorem BX8_united_b310 {σo : fS} {q : (Int ⊕ Nat) × fS} {N : Nat} {RE : Int → fS → Option ((Unit ⊕ Nat) × fS)} {RN : fS → Option ((Int ⊕ Nat) × fS)} (hrE : ∀ {s : fS} {x1 : Int} {q}, bS 0 s → RE x1 s = some q → bE 0 s q.2) (hrN : ∀ {s : fS} {q}, bS 0 s → RN s = some q → bE 0 s q.2) {s : fS} {l1 : Int} {l3 : Int} {l6 : Int} {l8 : Int} (E : bE 0 σo s) (hF : FX8_united_b310 N RE RN l1 l3 l6 l8 s = some q) : bE 0 σo q.2 := by
  unfold FX8_united_b310 at hF
  refine b_call E (fun _ hq => (BX8_nearest (bE.rf E.S) hq)) hF (fun _ hq1 D1 E1 hF => ?_)
  exact b_ret E1 hF
theorem BX8_united_b290 {σo : fS} {q : (Int ⊕ Nat) × fS} {N : Nat} {RE : Int → fS → Option ((Unit ⊕ Nat) × fS)} {RN : fS → Option ((Int ⊕ Nat) × fS)} (hrE : ∀ {s : fS} {x1 : Int} {q}, bS 0 s → RE x1 s = some q → bE 0 s q.2) (hrN : ∀ {s : fS} {q}, bS 0 s → RN s = some q → bE 0 s q.2) {s : fS} {l1 : Int} {l3 : Int} {l8 : Int} {l10 : Int} {s0 : Int} (E : bE 0 σo s) (hF : FX8_united_b290 N RE RN l1 l3 l8 l10 s0 s = some q) : bE 0 σo q.2 := by
  unfold FX8_united_b290 at hF
  refine b_tB E (fun _ hq => BX8_dropSpace (N := N) (RE := RE) @hrE (bE.rf E.S) hq) hF (fun _ _ D2 E2 hF => ?_)
  refine b_if hF (fun hF => ?_) (fun hF => ?_)
  ·
    exact BX8_united_b310 (N := N) (RE := RE) (RN := RN) @hrE @hrN E2 hF
  ·
    refine b_tB E2 (fun _ hq => BX8_below (bE.rf E2.S) hq) hF (fun _ _ D4 E4 hF => ?_)
    exact BX8_united_b310 (N := N) (RE := RE) (RN := RN) @hrE @hrN E4 hF
theorem BX8_united_b266 {σo : fS} {q : (Int ⊕ Nat) × fS} {N : Nat} {RE : Int → fS → Option ((Unit ⊕ Nat) × fS)} {RN : fS → Option ((Int ⊕ Nat) × fS)} (hrE : ∀ {s : fS} {x1 : Int} {q}, bS 0 s → RE x1 s = some q → bE 0 s q.2) (hrN : ∀ {s : fS} {q}, bS 0 s → RN s = some q → bE 0 s q.2) {s : fS} {l1 : Int} {l3 : Int} {l6 : Int} {l8 : Int} {l10 : Int} (E : bE 0 σo s) (hF : FX8_united_b266 N RE RN l1 l3 l6 l8 l10 s = some q) : bE 0 σo q.2 := by
  unfold FX8_united_b266 at hF
  refine b_if hF (fun hF => ?_) (fun hF => ?_)
  ·
    refine b_if hF (fun hF => ?_) (fun hF => ?_)
    ·
      exact BX8_united_b290 (N := N) (RE := RE) (RN := RN) @hrE @hrN E hF
    ·
      exact BX8_united_b290 (N := N) (RE := RE) (RN := RN) @hrE @hrN E hF
  ·
    exact BX8_united_b290 (N := N) (RE := RE) (RN := RN) @hrE @hrN E hF
theorem BX8_united_b16 {σo : fS} {q : (Int ⊕ Nat) × fS} {N : Nat} {RE : Int → fS → Option ((Unit ⊕ Nat) × fS)} {RN : fS → Option ((Int ⊕ Nat) × fS)} (hrE : ∀ {s : fS} {x1 : Int} {q}, bS 0 s → RE x1 s = some q → bE 0 s q.2) (hrN : ∀ {s : fS} {q}, bS 0 s → RN s = some q → bE 0 s q.2) : ∀ {n : Nat} {s : fS} {l1 : Int} {l3 : Int} {l5 : Int}, bE 0 σo s → FX8_united_b16 N RE RN n l1 l3 l5 s = some q → bE 0 σo q.2 := by
  intro n
  induction n with
  | zero => intro s l1 l3 l5 E  hF; simp [FX8_united_b16] at hF
  | succ n ih =>
    intro s l1 l3 l5 E  hF
    rw [FX8_united_b16] at hF
    refine b_call E (fun _ hq => (BX1_is (bE.rf E.S) hq)) hF (fun _ hq1 D1 E1 hF => ?_)
    refine b_if hF (fun hF => ?_) (fun hF => ?_)
    ·
      refine b_call E1 (fun _ hq => (BX8_isSized (bE.rf E1.S) hq)) hF (fun _ hq3 D3 E3 hF => ?_)
      refine b_if hF (fun hF => ?_) (fun hF => ?_)
      ·
        refine b_call E3 (fun _ hq => (BX13_put (bE.rf E3.S) hq)) hF (fun _ hq6 D6 E6 hF => ?_)
        refine b_tB E6 (fun _ hq => BX8_keyword (N := N) (RE := RE) @hrE (bE.rf E6.S) hq) hF (fun _ _ D8 E8 hF => ?_)
        refine b_if hF (fun hF => ?_) (fun hF => ?_)
        ·
          refine b_tB E8 (fun _ hq => BX8_keyword (N := N) (RE := RE) @hrE (bE.rf E8.S) hq) hF (fun _ _ D10 E10 hF => ?_)
          refine b_if hF (fun hF => ?_) (fun hF => ?_)
          ·
            refine b_tB E10 (fun _ hq => BX8_keyword (N := N) (RE := RE) @hrE (bE.rf E10.S) hq) hF (fun _ _ D12 E12 hF => ?_)
            refine b_if hF (fun hF => ?_) (fun hF => ?_)
            ·
              refine b_tB E12 (fun _ hq => BX8_keyword (N := N) (RE := RE) @hrE (bE.rf E12.S) hq) hF (fun _ _ D14 E14 hF => ?_)
              refine b_if hF (fun hF => ?_) (fun hF => ?_)
              ·
                refine b_tB E14 (fun _ hq => BX8_keyword (N := N) (RE := RE) @hrE (bE.rf E14.S) hq) hF (fun _ _ D16 E16 hF => ?_)
                refine b_if hF (fun hF => ?_) (fun hF => ?_)
                ·
                  refine b_tB E16 (fun _ hq => BX8_keyword (N := N) (RE := RE) @hrE (bE.rf E16.S) hq) hF (fun _ _ D18 E18 hF => ?_)
                  refine b_if hF (fun hF => ?_) (fun hF => ?_)
                  ·
                    refine b_tB E18 (fun _ hq => BX8_keyword (N := N) (RE := RE) @hrE (bE.rf E18.S) hq) hF (fun _ _ D20 E20 hF => ?_)
                    refine b_if hF (fun hF => ?_) (fun hF => ?_)
                    ·
                      refine b_tB E20 (fun _ hq => BX8_keyword (N := N) (RE := RE) @hrE (bE.rf E20.S) hq) hF (fun _ _ D22 E22 hF => ?_)
                      refine b_if hF (fun hF => ?_) (fun hF => ?_)
                      ·
                        refine b_tB E22 (fun _ hq => BX8_keyword (N := N) (RE := RE) @hrE (bE.rf E22.S) hq) hF (fun _ _ D24 E24 hF => ?_)
                        refine b_if hF (fun hF => ?_) (fun hF => ?_)
                        ·
                          refine b_tB E24 (fun _ hq => BX4_fail (bE.rf E24.S) hq) hF (fun _ _ D27 E27 hF => ?_)
                          exact BX8_united_b266 (N := N) (RE := RE) (RN := RN) @hrE @hrN E27 hF
                        ·
                          refine b_call E24 (fun _ hq => (BX8_parameter (bE.rf E24.S) hq)) hF (fun _ hq29 D29 E29 hF => ?_)
                          exact BX8_united_b266 (N := N) (RE := RE) (RN := RN) @hrE @hrN E29 hF
                      ·
                        refine b_call E22 (fun _ hq => (BX8_parameter (bE.rf E22.S) hq)) hF (fun _ hq31 D31 E31 hF => ?_)
                        exact BX8_united_b266 (N := N) (RE := RE) (RN := RN) @hrE @hrN E31 hF
                    ·
                      exact BX8_united_b266 (N := N) (RE := RE) (RN := RN) @hrE @hrN E20 hF
                  ·
                    exact BX8_united_b266 (N := N) (RE := RE) (RN := RN) @hrE @hrN E18 hF
                ·
                  exact BX8_united_b266 (N := N) (RE := RE) (RN := RN) @hrE @hrN E16 hF
              ·
                exact BX8_united_b266 (N := N) (RE := RE) (RN := RN) @hrE @hrN E14 hF
            ·
              exact BX8_united_b266 (N := N) (RE := RE) (RN := RN) @hrE @hrN E12 hF
          ·
            exact BX8_united_b266 (N := N) (RE := RE) (RN := RN) @hrE @hrN E10 hF
        ·
          exact BX8_united_b266 (N := N) (RE := RE) (RN := RN) @hrE @hrN E8 hF
      ·
        refine b_tB E3 (fun _ hq => BX8_sized (RN := RN) @hrN (bE.rf E3.S) hq) hF (fun _ _ D33 E33 hF => ?_)
        refine b_tB E33 (fun _ hq => BX8_below (bE.rf E33.S) hq) hF (fun _ _ D35 E35 hF => ?_)
        refine b_call E35 (fun _ hq => (BX8_nearest (bE.rf E35.S) hq)) hF (fun _ hq36 D36 E36 hF => ?_)
        exact b_ret E36 hF
    ·
      refine b_tB E1 (fun _ hq => BX8_needExpanded (N := N) (RE := RE) @hrE (bE.rf E1.S) hq) hF (fun _ _ D38 E38 hF => ?_)
      exact ih E38 hF
theorem BX8_united {σo : fS} {q : (Int ⊕ Nat) × fS} {N : Nat} {RE : Int → fS → Option ((Unit ⊕ Nat) × fS)} {RN : fS → Option ((Int ⊕ Nat) × fS)} (hrE : ∀ {s : fS} {x1 : Int} {q}, bS 0 s → RE x1 s = some q → bE 0 s q.2) (hrN : ∀ {s : fS} {q}, bS 0 s → RN s = some q → bE 0 s q.2) {s : fS} (E : bE 0 σo s) (hF : FX8_united N RE RN s = some q) : bE 0 σo q.2 := by
  unfold FX8_united at hF
  refine b_tB E (fun _ hq => BX8_needExpanded (N := N) (RE := RE) @hrE (bE.rf E.S) hq) hF (fun _ _ D4 E4 hF => ?_)
  exact BX8_united_b16 (N := N) (RE := RE) (RN := RN) @hrE @hrN E4 hF
theorem BX8_size_b25 {σo : fS} {q : (Int ⊕ Nat) × fS} {s : fS} {l1 : Int} {s1 : Int} (E : bE 0 σo s) (hF : FX8_size_b25 l1 s1 s = some q) : bE 0 σo q.2 := by
  unfold FX8_size_b25 at hF
  refine b_tB E (fun _ hq => BX4_want (bE.rf E.S) hq) hF (fun _ _ D2 E2 hF => ?_)
  exact b_ret E2 hF
theorem BX8_size_b24 {σo : fS} {q : (Int ⊕ Nat) × fS} {s : fS} {l1 : Int} (E : bE 0 σo s) (hF : FX8_size_b24 l1 s = some q) : bE 0 σo q.2 := by
  unfold FX8_size_b24 at hF
  exact BX8_size_b25 E hF
theorem BX8_size {σo : fS} {q : (Int ⊕ Nat) × fS} {s : fS} {p0 : Int} (E : bE 0 σo s) (hF : FX8_size p0 s = some q) : bE 0 σo q.2 := by
  unfold FX8_size at hF
  refine b_if hF (fun hF => ?_) (fun hF => ?_)
  ·
    exact BX8_size_b24 E hF
  ·
    refine b_if hF (fun hF => ?_) (fun hF => ?_)
    ·
      exact BX8_size_b24 E hF
    ·
      exact BX8_size_b25 E hF
theorem BX8_dimension_2_b39 {σo : fS} {q : (Int ⊕ Nat) × fS} {N : Nat} {RE : Int → fS → Option ((Unit ⊕ Nat) × fS)} {RN : fS → Option ((Int ⊕ Nat) × fS)} (hrE : ∀ {s : fS} {x1 : Int} {q}, bS 0 s → RE x1 s = some q → bE 0 s q.2) (hrN : ∀ {s : fS} {q}, bS 0 s → RN s = some q → bE 0 s q.2) {s : fS} {s1 : Int} (E : bE 0 σo s) (hF : FX8_dimension_2_b39 N RE RN s1 s = some q) : bE 0 σo q.2 := by
  unfold FX8_dimension_2_b39 at hF
  refine b_tB E (fun _ hq => BX8_size (bE.rf E.S) hq) hF (fun _ _ D2 E2 hF => ?_)
  exact b_ret E2 hF
theorem BX8_dimension_2_b28 {σo : fS} {q : (Int ⊕ Nat) × fS} {N : Nat} {RE : Int → fS → Option ((Unit ⊕ Nat) × fS)} {RN : fS → Option ((Int ⊕ Nat) × fS)} (hrE : ∀ {s : fS} {x1 : Int} {q}, bS 0 s → RE x1 s = some q → bE 0 s q.2) (hrN : ∀ {s : fS} {q}, bS 0 s → RN s = some q → bE 0 s q.2) {s : fS} {l2 : Int} {l3 : Int} (E : bE 0 σo s) (hF : FX8_dimension_2_b28 N RE RN l2 l3 s = some q) : bE 0 σo q.2 := by
  unfold FX8_dimension_2_b28 at hF
  refine b_if hF (fun hF => ?_) (fun hF => ?_)
  ·
    exact BX8_dimension_2_b39 (N := N) (RE := RE) (RN := RN) @hrE @hrN E hF
  ·
    exact BX8_dimension_2_b39 (N := N) (RE := RE) (RN := RN) @hrE @hrN E hF
theorem BX8_dimension_2 {σo : fS} {q : (Int ⊕ Nat) × fS} {N : Nat} {RE : Int → fS → Option ((Unit ⊕ Nat) × fS)} {RN : fS → Option ((Int ⊕ Nat) × fS)} (hrE : ∀ {s : fS} {x1 : Int} {q}, bS 0 s → RE x1 s = some q → bE 0 s q.2) (hrN : ∀ {s : fS} {q}, bS 0 s → RN s = some q → bE 0 s q.2) {s : fS} {p0 : Int} {p1 : Int} (E : bE 0 σo s) (hF : FX8_dimension_2 N RE RN p0 p1 s = some q) : bE 0 σo q.2 := by
  unfold FX8_dimension_2 at hF
  refine b_call E (fun _ hq => (BX8_isSized (bE.rf E.S) hq)) hF (fun _ hq2 D2 E2 hF => ?_)
  refine b_if hF (fun hF => ?_) (fun hF => ?_)
  ·
    refine b_tB E2 (fun _ hq => BX8_factor (N := N) (RE := RE) (RN := RN) @hrE @hrN (bE.rf E2.S) hq) hF (fun _ _ D4 E4 hF => ?_)
    refine b_tB E4 (fun _ hq => BX8_united (N := N) (RE := RE) (RN := RN) @hrE @hrN (bE.rf E4.S) hq) hF (fun _ _ D6 E6 hF => ?_)
    exact BX8_dimension_2_b28 (N := N) (RE := RE) (RN := RN) @hrE @hrN E6 hF
  ·
    refine b_tB E2 (fun _ hq => BX8_sized (RN := RN) @hrN (bE.rf E2.S) hq) hF (fun _ _ D8 E8 hF => ?_)
    exact BX8_dimension_2_b28 (N := N) (RE := RE) (RN := RN) @hrE @hrN E8 hF
theorem BX8_dimension {σo : fS} {q : (Int ⊕ Nat) × fS} {N : Nat} {RE : Int → fS → Option ((Unit ⊕ Nat) × fS)} {RN : fS → Option ((Int ⊕ Nat) × fS)} (hrE : ∀ {s : fS} {x1 : Int} {q}, bS 0 s → RE x1 s = some q → bE 0 s q.2) (hrN : ∀ {s : fS} {q}, bS 0 s → RN s = some q → bE 0 s q.2) {s : fS} (E : bE 0 σo s) (hF : FX8_dimension N RE RN s = some q) : bE 0 σo q.2 := by
  unfold FX8_dimension at hF
  refine b_tB E (fun _ hq => BX8_signed (N := N) (RE := RE) @hrE (bE.rf E.S) hq) hF (fun _ _ D2 E2 hF => ?_)
  refine b_tB E2 (fun _ hq => BX8_dimension_2 (N := N) (RE := RE) (RN := RN) @hrE @hrN (bE.rf E2.S) hq) hF (fun _ _ D5 E5 hF => ?_)
  exact b_ret E5 hF
theorem BX6_scale_b54 {σo : fS} {q : Int × fS} {s : fS} {s0 : Int} (E : bE 0 σo s) (hF : FX6_scale_b54 s0 s = some q) : bE 0 σo q.2 := by
  unfold FX6_scale_b54 at hF
  exact b_ret E hF
theorem BX6_scale {σo : fS} {q : Int × fS} {s : fS} {p0 : Int} {p1 : Int} {p2 : Int} (E : bE 0 σo s) (hF : FX6_scale p0 p1 p2 s = some q) : bE 0 σo q.2 := by
  unfold FX6_scale at hF
  refine b_call E (fun _ hq => (BX6_d (bE.rf E.S) hq)) hF (fun _ hq1 D1 E1 hF => ?_)
  refine b_call E1 (fun _ hq => (BX6_c (bE.rf E1.S) hq)) hF (fun _ hq2 D2 E2 hF => ?_)
  refine b_call E2 (fun _ hq => (BX6_b (bE.rf E2.S) hq)) hF (fun _ hq3 D3 E3 hF => ?_)
  refine b_dv hF (fun hF => ?_)
  refine b_dv hF (fun hF => ?_)
  refine b_call E3 (fun _ hq => (BX6_a (bE.rf E3.S) hq)) hF (fun _ hq4 D4 E4 hF => ?_)
  refine b_if hF (fun hF => ?_) (fun hF => ?_)
  ·
    exact BX6_scale_b54 E4 hF
  ·
    exact BX6_scale_b54 E4 hF
theorem BX6_take_b156 {σo : fS} {q : Int × fS} {N : Nat} {K81 : Nat → Int → Int → Int → fS → Option (Int × fS)} (hk81 : ∀ {s : fS} {l0 : Nat} {l4 : Int} {l5 : Int} {l6 : Int}, bE 0 σo s → bO 0 s l0 → K81 l0 l4 l5 l6 s = some q → bE 0 σo q.2) {s : fS} {l0 : Nat} {l4 : Int} {l5 : Int} {l6 : Int} (E : bE 0 σo s) (ol0 : bO 0 s l0) (hF : FX6_take_b156 N K81 l0 l4 l5 l6 s = some q) : bE 0 σo q.2 := by
  unfold FX6_take_b156 at hF
  exact hk81 E ol0 hF
theorem BX6_take_b108 {σo : fS} {q : Int × fS} {N : Nat} {K81 : Nat → Int → Int → Int → fS → Option (Int × fS)} (hk81 : ∀ {s : fS} {l0 : Nat} {l4 : Int} {l5 : Int} {l6 : Int}, bE 0 σo s → bO 0 s l0 → K81 l0 l4 l5 l6 s = some q → bE 0 σo q.2) : ∀ {n : Nat} {s : fS} {l0 : Nat} {l4 : Int} {l5 : Int} {l6 : Int} {l7 : Int}, bE 0 σo s → bO 0 s l0 → FX6_take_b108 N K81 n l0 l4 l5 l6 l7 s = some q → bE 0 σo q.2 := by
  intro n
  induction n with
  | zero => intro s l0 l4 l5 l6 l7 E ol0 hF; simp [FX6_take_b108] at hF
  | succ n ih =>
    intro s l0 l4 l5 l6 l7 E ol0 hF
    rw [FX6_take_b108] at hF
    refine b_K hF (fun hF => ?_)
    refine b_o E ol0 hF (fun _ o1 hF => ?_)
    refine b_KA hF (fun hF => ?_)
    refine b_rv hF (fun _ hF => ?_)
    refine b_if hF (fun hF => ?_) (fun hF => ?_)
    ·
      exact BX6_take_b156 (N := N) (K81 := K81) @hk81 E ol0 hF
    ·
      refine b_K hF (fun hF => ?_)
      refine b_o E ol0 hF (fun _ o3 hF => ?_)
      refine b_K hF (fun hF => ?_)
      refine b_o E ol0 hF (fun _ o4 hF => ?_)
      refine b_KA hF (fun hF => ?_)
      refine b_rv hF (fun _ hF => ?_)
      refine b_K hF (fun hF => ?_)
      refine b_call E (fun _ hq => (BX6_word (bE.rf E.S) ol0 hq)) hF (fun _ hq7 D7 E7 hF => ?_)
      refine b_call E7 (fun _ hq => (BX6_scale (bE.rf E7.S) hq)) hF (fun _ hq8 D8 E8 hF => ?_)
      refine b_KA hF (fun hF => ?_)
      refine b_qI E8 ((o3.up D7).up D8) hF (fun _ D9 E9 hF => ?_)
      exact ih E9 (((ol0.up D7).up D8).up D9) hF
theorem BX6_take_b193 {σo : fS} {q : Int × fS} {N : Nat} {s : fS} {l0 : Nat} (E : bE 0 σo s) (ol0 : bO 0 s l0) (hF : FX6_take_b193 N l0 s = some q) : bE 0 σo q.2 := by
  unfold FX6_take_b193 at hF
  refine b_K hF (fun hF => ?_)
  refine b_pZ E ol0 hF (fun _ D1 E1 hF => ?_)
  exact b_ret E1 hF
theorem BX6_take_b81 {σo : fS} {q : Int × fS} {N : Nat} : ∀ {n : Nat} {s : fS} {l0 : Nat} {l4 : Int} {l5 : Int} {l6 : Int}, bE 0 σo s → bO 0 s l0 → FX6_take_b81 N n l0 l4 l5 l6 s = some q → bE 0 σo q.2 := by
  intro n
  induction n with
  | zero => intro s l0 l4 l5 l6 E ol0 hF; simp [FX6_take_b81] at hF
  | succ n ih =>
    intro s l0 l4 l5 l6 E ol0 hF
    rw [FX6_take_b81] at hF
    refine b_if hF (fun hF => ?_) (fun hF => ?_)
    ·
      refine b_K hF (fun hF => ?_)
      refine b_o E ol0 hF (fun _ o1 hF => ?_)
      refine b_KA hF (fun hF => ?_)
      refine b_rv hF (fun _ hF => ?_)
      refine b_if hF (fun hF => ?_) (fun hF => ?_)
      ·
        exact BX6_take_b193 (N := N) E ol0 hF
      ·
        refine b_K hF (fun hF => ?_)
        refine b_o E ol0 hF (fun _ o3 hF => ?_)
        refine b_K hF (fun hF => ?_)
        refine b_o E ol0 hF (fun _ o4 hF => ?_)
        refine b_KA hF (fun hF => ?_)
        refine b_rv hF (fun _ hF => ?_)
        refine b_K hF (fun hF => ?_)
        refine b_call E (fun _ hq => (BX6_word (bE.rf E.S) ol0 hq)) hF (fun _ hq7 D7 E7 hF => ?_)
        refine b_KA hF (fun hF => ?_)
        refine b_qI E7 (o3.up D7) hF (fun _ D8 E8 hF => ?_)
        exact BX6_take_b193 (N := N) E8 ((ol0.up D7).up D8) hF
    ·
      refine b_if hF (fun hF => ?_) (fun hF => ?_)
      ·
        exact BX6_take_b156 (N := N) (K81 := FX6_take_b81 N n) @ih E ol0 hF
      ·
        refine b_if hF (fun hF => ?_) (fun hF => ?_)
        ·
          exact BX6_take_b108 (N := N) (K81 := FX6_take_b81 N n) @ih E ol0 hF
        ·
          exact BX6_take_b156 (N := N) (K81 := FX6_take_b81 N n) @ih E ol0 hF
theorem BX6_take_b55 {σo : fS} {q : Int × fS} {N : Nat} : ∀ {n : Nat} {s : fS} {l0 : Nat} {l4 : Int} {l5 : Int}, bE 0 σo s → bO 0 s l0 → FX6_take_b55 N n l0 l4 l5 s = some q → bE 0 σo q.2 := by
  intro n
  induction n with
  | zero => intro s l0 l4 l5 E ol0 hF; simp [FX6_take_b55] at hF
  | succ n ih =>
    intro s l0 l4 l5 E ol0 hF
    rw [FX6_take_b55] at hF
    refine b_if hF (fun hF => ?_) (fun hF => ?_)
    ·
      exact BX6_take_b81 (N := N) E ol0 hF
    ·
      exact ih E ol0 hF
theorem BX6_take_b42 {σo : fS} {q : Int × fS} {N : Nat} {s : fS} {l0 : Nat} {s0 : Nat} {s1 : Int} (E : bE 0 σo s) (ol0 : bO 0 s l0) (os0 : bO 0 s s0) (hF : FX6_take_b42 N l0 s0 s1 s = some q) : bE 0 σo q.2 := by
  unfold FX6_take_b42 at hF
  refine b_K hF (fun hF => ?_)
  refine b_pI E os0 hF (fun _ D1 E1 hF => ?_)
  refine b_K hF (fun hF => ?_)
  exact BX6_take_b55 (N := N) E1 (ol0.up D1) hF
theorem BX6_take {σo : fS} {q : Int × fS} {N : Nat} {s : fS} {this : Nat} {p0 : Nat} {p1 : Int} (E : bE 0 σo s) (othis : bO 0 s this) (op0 : bO 0 s p0) (hF : FX6_take N this p0 p1 s = some q) : bE 0 σo q.2 := by
  unfold FX6_take at hF
  refine b_K hF (fun hF => ?_)
  refine b_call E (fun _ hq => (BX6_check (N := N) (bE.rf E.S) othis op0 hq)) hF (fun _ hq2 D2 E2 hF => ?_)
  refine b_if hF (fun hF => ?_) (fun hF => ?_)
  ·
    refine b_K hF (fun hF => ?_)
    refine b_call E2 (fun _ hq => (BX6_word (bE.rf E2.S) (othis.up D2) hq)) hF (fun _ hq4 D4 E4 hF => ?_)
    refine b_K hF (fun hF => ?_)
    refine b_pI E4 ((othis.up D2).up D4) hF (fun _ D5 E5 hF => ?_)
    refine b_if hF (fun hF => ?_) (fun hF => ?_)
    ·
      refine b_K hF (fun hF => ?_)
      exact BX6_take_b42 (N := N) E5 (((othis.up D2).up D4).up D5) (((othis.up D2).up D4).up D5) hF
    ·
      exact BX6_take_b42 (N := N) E5 (((othis.up D2).up D4).up D5) (((othis.up D2).up D4).up D5) hF
  ·
    exact b_ret E2 hF
theorem BX5_find_b67 {σo : fS} {q : Int × fS} {N : Nat} {K30 : Int → Int → Int → fS → Option (Int × fS)} (hk30 : ∀ {s : fS} {l1 : Int} {l3 : Int} {l4 : Int}, bE 0 σo s → K30 l1 l3 l4 s = some q → bE 0 σo q.2) {s : fS} {l1 : Int} {l3 : Int} {l4 : Int} (E : bE 0 σo s) (hF : FX5_find_b67 N K30 l1 l3 l4 s = some q) : bE 0 σo q.2 := by
  unfold FX5_find_b67 at hF
  exact hk30 E hF
theorem BX5_find_b112 {σo : fS} {q : Int × fS} {N : Nat} {s : fS} {l1 : Int} {l3 : Int} (E : bE 0 σo s) (hF : FX5_find_b112 N l1 l3 s = some q) : bE 0 σo q.2 := by
  unfold FX5_find_b112 at hF
  refine b_rO E (E.S.c0 (Nat.le_of_ble_eq_true rfl)) hF (fun _ o3 hF => ?_)
  refine b_rO E (E.S.c0 (Nat.le_of_ble_eq_true rfl)) hF (fun _ o5 hF => ?_)
  refine b_K hF (fun hF => ?_)
  refine b_call E (fun _ hq => (BX6_take (N := N) (bE.rf E.S) o3 o5 hq)) hF (fun _ hq7 D7 E7 hF => ?_)
  refine b_qI E7 (E7.S.c0 (Nat.le_of_ble_eq_true rfl)) hF (fun _ D10 E10 hF => ?_)
  refine b_pI E10 (E10.S.c0 (Nat.le_of_ble_eq_true rfl)) hF (fun _ D12 E12 hF => ?_)
  exact b_ret E12 hF
theorem BX5_find_b30 {σo : fS} {q : Int × fS} {N : Nat} : ∀ {n : Nat} {s : fS} {l1 : Int} {l3 : Int} {l4 : Int}, bE 0 σo s → FX5_find_b30 N n l1 l3 l4 s = some q → bE 0 σo q.2 := by
  intro n
  induction n with
  | zero => intro s l1 l3 l4 E  hF; simp [FX5_find_b30] at hF
  | succ n ih =>
    intro s l1 l3 l4 E  hF
    rw [FX5_find_b30] at hF
    refine b_if hF (fun hF => ?_) (fun hF => ?_)
    ·
      refine b_if hF (fun hF => ?_) (fun hF => ?_)
      ·
        refine b_rQ E (E.S.c0 (Nat.le_of_ble_eq_true rfl)) hF (fun a11 o5 hF => ?_)
        cases a11 with
        | none =>
          dsimp only at hF
          refine b_nO E hF (fun _ D8 E8 o8 hF => ?_)
          refine b_call E8 (fun _ hq => (BX6_init (bE.rf E8.S) o8 hq)) hF (fun _ hq9 D9 E9 hF => ?_)
          refine b_K hF (fun hF => ?_)
          refine b_qO E9 (E9.S.c0 (Nat.le_of_ble_eq_true rfl)) (o8.up D9) hF (fun _ D10 E10 hF => ?_)
          exact BX5_find_b112 (N := N) E10 hF
        | some a13 =>
          dsimp only at hF
          exact BX5_find_b112 (N := N) E hF
      ·
        exact b_ret E hF
    ·
      refine b_rv hF (fun _ hF => ?_)
      refine b_if hF (fun hF => ?_) (fun hF => ?_)
      ·
        exact BX5_find_b67 (N := N) (K30 := FX5_find_b30 N n) @ih E hF
      ·
        refine b_rO E (E.S.c0 (Nat.le_of_ble_eq_true rfl)) hF (fun _ o14 hF => ?_)
        refine b_K hF (fun hF => ?_)
        refine b_if hF (fun hF => ?_) (fun hF => ?_)
        ·
          exact BX5_find_b67 (N := N) (K30 := FX5_find_b30 N n) @ih E hF
        ·
          exact b_ret E hF
theorem BX5_find_b26 {σo : fS} {q : Int × fS} {N : Nat} {s : fS} {l1 : Int} {s0 : Int} (E : bE 0 σo s) (hF : FX5_find_b26 N l1 s0 s = some q) : bE 0 σo q.2 := by
  unfold FX5_find_b26 at hF
  exact BX5_find_b30 (N := N) E hF
theorem BX5_find {σo : fS} {q : Int × fS} {N : Nat} {s : fS} {p0 : Int} {p1 : Int} (E : bE 0 σo s) (hF : FX5_find N p0 p1 s = some q) : bE 0 σo q.2 := by
  unfold FX5_find at hF
  refine b_if hF (fun hF => ?_) (fun hF => ?_)
  ·
    refine b_rO E (E.S.c0 (Nat.le_of_ble_eq_true rfl)) hF (fun _ o2 hF => ?_)
    refine b_K hF (fun hF => ?_)
    refine b_call E (fun _ hq => (BX2_whole (bE.rf E.S) o2 hq)) hF (fun _ hq4 D4 E4 hF => ?_)
    exact BX5_find_b26 (N := N) E4 hF
  ·
    exact BX5_find_b26 (N := N) E hF
theorem BX3_newFont_b130 {σo : fS} {q : (Unit ⊕ Nat) × fS} {N : Nat} {RE : Int → fS → Option ((Unit ⊕ Nat) × fS)} {RN : fS → Option ((Int ⊕ Nat) × fS)} (hrE : ∀ {s : fS} {x1 : Int} {q}, bS 0 s → RE x1 s = some q → bE 0 s q.2) (hrN : ∀ {s : fS} {q}, bS 0 s → RN s = some q → bE 0 s q.2) {s : fS} {l1 : Int} {l2 : Int} {l5 : Int} {s1 : Int} (E : bE 0 σo s) (hF : FX3_newFont_b130 N RE RN l1 l2 l5 s1 s = some q) : bE 0 σo q.2 := by
  unfold FX3_newFont_b130 at hF
  refine b_tB E (fun _ hq => BX4_want (bE.rf E.S) hq) hF (fun _ _ D2 E2 hF => ?_)
  refine b_call E2 (fun _ hq => (BX9_mean (N := N) (bE.rf E2.S) hq)) hF (fun _ hq5 D5 E5 hF => ?_)
  exact b_ret E5 hF
theorem BX3_newFont_b103 {σo : fS} {q : (Unit ⊕ Nat) × fS} {N : Nat} {RE : Int → fS → Option ((Unit ⊕ Nat) × fS)} {RN : fS → Option ((Int ⊕ Nat) × fS)} (hrE : ∀ {s : fS} {x1 : Int} {q}, bS 0 s → RE x1 s = some q → bE 0 s q.2) (hrN : ∀ {s : fS} {q}, bS 0 s → RN s = some q → bE 0 s q.2) {s : fS} {l1 : Int} {l2 : Int} {l3 : Int} {l4 : Int} (E : bE 0 σo s) (hF : FX3_newFont_b103 N RE RN l1 l2 l3 l4 s = some q) : bE 0 σo q.2 := by
  unfold FX3_newFont_b103 at hF
  refine b_call E (fun _ hq => (BX5_find (N := N) (bE.rf E.S) hq)) hF (fun _ hq3 D3 E3 hF => ?_)
  refine b_if hF (fun hF => ?_) (fun hF => ?_)
  ·
    exact BX3_newFont_b130 (N := N) (RE := RE) (RN := RN) @hrE @hrN E3 hF
  ·
    exact BX3_newFont_b130 (N := N) (RE := RE) (RN := RN) @hrE @hrN E3 hF
theorem BX3_newFont_b98 {σo : fS} {q : (Unit ⊕ Nat) × fS} {N : Nat} {RE : Int → fS → Option ((Unit ⊕ Nat) × fS)} {RN : fS → Option ((Int ⊕ Nat) × fS)} (hrE : ∀ {s : fS} {x1 : Int} {q}, bS 0 s → RE x1 s = some q → bE 0 s q.2) (hrN : ∀ {s : fS} {q}, bS 0 s → RN s = some q → bE 0 s q.2) {s : fS} {l1 : Int} {l2 : Int} {l3 : Int} {l4 : Int} {s1 : Int} (E : bE 0 σo s) (hF : FX3_newFont_b98 N RE RN l1 l2 l3 l4 s1 s = some q) : bE 0 σo q.2 := by
  unfold FX3_newFont_b98 at hF
  refine b_tB E (fun _ hq => BX4_want (bE.rf E.S) hq) hF (fun _ _ D2 E2 hF => ?_)
  exact BX3_newFont_b103 (N := N) (RE := RE) (RN := RN) @hrE @hrN E2 hF
theorem BX3_newFont_b97 {σo : fS} {q : (Unit ⊕ Nat) × fS} {N : Nat} {RE : Int → fS → Option ((Unit ⊕ Nat) × fS)} {RN : fS → Option ((Int ⊕ Nat) × fS)} (hrE : ∀ {s : fS} {x1 : Int} {q}, bS 0 s → RE x1 s = some q → bE 0 s q.2) (hrN : ∀ {s : fS} {q}, bS 0 s → RN s = some q → bE 0 s q.2) {s : fS} {l1 : Int} {l2 : Int} {l3 : Int} {l4 : Int} (E : bE 0 σo s) (hF : FX3_newFont_b97 N RE RN l1 l2 l3 l4 s = some q) : bE 0 σo q.2 := by
  unfold FX3_newFont_b97 at hF
  exact BX3_newFont_b98 (N := N) (RE := RE) (RN := RN) @hrE @hrN E hF
theorem BX3_newFont_b46 {σo : fS} {q : (Unit ⊕ Nat) × fS} {N : Nat} {RE : Int → fS → Option ((Unit ⊕ Nat) × fS)} {RN : fS → Option ((Int ⊕ Nat) × fS)} (hrE : ∀ {s : fS} {x1 : Int} {q}, bS 0 s → RE x1 s = some q → bE 0 s q.2) (hrN : ∀ {s : fS} {q}, bS 0 s → RN s = some q → bE 0 s q.2) {s : fS} {l1 : Int} {l2 : Int} {l3 : Int} {s1 : Int} (E : bE 0 σo s) (hF : FX3_newFont_b46 N RE RN l1 l2 l3 s1 s = some q) : bE 0 σo q.2 := by
  unfold FX3_newFont_b46 at hF
  refine b_tB E (fun _ hq => BX4_want (bE.rf E.S) hq) hF (fun _ _ D2 E2 hF => ?_)
  refine b_tB E2 (fun _ hq => BX8_keyword (N := N) (RE := RE) @hrE (bE.rf E2.S) hq) hF (fun _ _ D5 E5 hF => ?_)
  refine b_if hF (fun hF => ?_) (fun hF => ?_)
  ·
    exact BX3_newFont_b103 (N := N) (RE := RE) (RN := RN) @hrE @hrN E5 hF
  ·
    refine b_tB E5 (fun _ hq => BX8_dimension (N := N) (RE := RE) (RN := RN) @hrE @hrN (bE.rf E5.S) hq) hF (fun _ _ D8 E8 hF => ?_)
    refine b_if hF (fun hF => ?_) (fun hF => ?_)
    ·
      exact BX3_newFont_b97 (N := N) (RE := RE) (RN := RN) @hrE @hrN E8 hF
    ·
      refine b_if hF (fun hF => ?_) (fun hF => ?_)
      ·
        exact BX3_newFont_b97 (N := N) (RE := RE) (RN := RN) @hrE @hrN E8 hF
      ·
        exact BX3_newFont_b98 (N := N) (RE := RE) (RN := RN) @hrE @hrN E8 hF
theorem BX3_newFont {σo : fS} {q : (Unit ⊕ Nat) × fS} {N : Nat} {RE : Int → fS → Option ((Unit ⊕ Nat) × fS)} {RN : fS → Option ((Int ⊕ Nat) × fS)} (hrE : ∀ {s : fS} {x1 : Int} {q}, bS 0 s → RE x1 s = some q → bE 0 s q.2) (hrN : ∀ {s : fS} {q}, bS 0 s → RN s = some q → bE 0 s q.2) {s : fS} {p0 : Int} (E : bE 0 σo s) (hF : FX3_newFont N RE RN p0 s = some q) : bE 0 σo q.2 := by
  unfold FX3_newFont at hF
  refine b_tB E (fun _ hq => BX8_target (N := N) (bE.rf E.S) hq) hF (fun _ _ D3 E3 hF => ?_)
  refine b_tB E3 (fun _ hq => BX8_equals (N := N) (RE := RE) @hrE (bE.rf E3.S) hq) hF (fun _ _ D6 E6 hF => ?_)
  refine b_tB E6 (fun _ hq => BX8_within (RN := RN) @hrN (bE.rf E6.S) hq) hF (fun _ _ D9 E9 hF => ?_)
  refine b_rQ E9 (E9.S.c0 (Nat.le_of_ble_eq_true rfl)) hF (fun a22 o13 hF => ?_)
  cases a22 with
  | none =>
    dsimp only at hF
    exact BX3_newFont_b46 (N := N) (RE := RE) (RN := RN) @hrE @hrN E9 hF
  | some a24 =>
    dsimp only at hF
    exact BX3_newFont_b46 (N := N) (RE := RE) (RN := RN) @hrE @hrN E9 hF
theorem BX8_counter_b25 {σo : fS} {q : (Int ⊕ Nat) × fS} {s : fS} {l1 : Int} {s1 : Int} (E : bE 0 σo s) (hF : FX8_counter_b25 l1 s1 s = some q) : bE 0 σo q.2 := by
  unfold FX8_counter_b25 at hF
  refine b_tB E (fun _ hq => BX4_want (bE.rf E.S) hq) hF (fun _ _ D2 E2 hF => ?_)
  exact b_ret E2 hF
theorem BX8_counter_b24 {σo : fS} {q : (Int ⊕ Nat) × fS} {s : fS} {l1 : Int} (E : bE 0 σo s) (hF : FX8_counter_b24 l1 s = some q) : bE 0 σo q.2 := by
  unfold FX8_counter_b24 at hF
  exact BX8_counter_b25 E hF
theorem BX8_counter {σo : fS} {q : (Int ⊕ Nat) × fS} {s : fS} {p0 : Int} (E : bE 0 σo s) (hF : FX8_counter p0 s = some q) : bE 0 σo q.2 := by
  unfold FX8_counter at hF
  refine b_if hF (fun hF => ?_) (fun hF => ?_)
  ·
    exact BX8_counter_b24 E hF
  ·
    refine b_if hF (fun hF => ?_) (fun hF => ?_)
    ·
      exact BX8_counter_b24 E hF
    ·
      exact BX8_counter_b25 E hF
theorem BX8_more_b13 {σo : fS} {q : (Int ⊕ Nat) × fS} {s : fS} {l1 : Int} {s1 : Int} (E : bE 0 σo s) (hF : FX8_more_b13 l1 s1 s = some q) : bE 0 σo q.2 := by
  unfold FX8_more_b13 at hF
  refine b_tB E (fun _ hq => BX4_want (bE.rf E.S) hq) hF (fun _ _ D2 E2 hF => ?_)
  exact b_ret E2 hF
theorem BX8_more {σo : fS} {q : (Int ⊕ Nat) × fS} {s : fS} {p0 : Int} (E : bE 0 σo s) (hF : FX8_more p0 s = some q) : bE 0 σo q.2 := by
  unfold FX8_more at hF
  refine b_if hF (fun hF => ?_) (fun hF => ?_)
  ·
    exact BX8_more_b13 E hF
  ·
    exact BX8_more_b13 E hF
theorem BX8_stretch_b96 {σo : fS} {q : (Int ⊕ Nat) × fS} {N : Nat} {RE : Int → fS → Option ((Unit ⊕ Nat) × fS)} {RN : fS → Option ((Int ⊕ Nat) × fS)} (hrE : ∀ {s : fS} {x1 : Int} {q}, bS 0 s → RE x1 s = some q → bE 0 s q.2) (hrN : ∀ {s : fS} {q}, bS 0 s → RN s = some q → bE 0 s q.2) {s : fS} {s2 : Int} (E : bE 0 σo s) (hF : FX8_stretch_b96 N RE RN s2 s = some q) : bE 0 σo q.2 := by
  unfold FX8_stretch_b96 at hF
  refine b_tB E (fun _ hq => BX8_size (bE.rf E.S) hq) hF (fun _ _ D2 E2 hF => ?_)
  refine b_tB E2 (fun _ hq => BX8_more (bE.rf E2.S) hq) hF (fun _ _ D4 E4 hF => ?_)
  exact b_ret E4 hF
theorem BX8_stretch_b173 {σo : fS} {q : (Int ⊕ Nat) × fS} {N : Nat} {RE : Int → fS → Option ((Unit ⊕ Nat) × fS)} {RN : fS → Option ((Int ⊕ Nat) × fS)} (hrE : ∀ {s : fS} {x1 : Int} {q}, bS 0 s → RE x1 s = some q → bE 0 s q.2) (hrN : ∀ {s : fS} {q}, bS 0 s → RN s = some q → bE 0 s q.2) {s : fS} {s2 : Int} (E : bE 0 σo s) (hF : FX8_stretch_b173 N RE RN s2 s = some q) : bE 0 σo q.2 := by
  unfold FX8_stretch_b173 at hF
  refine b_tB E (fun _ hq => BX8_size (bE.rf E.S) hq) hF (fun _ _ D2 E2 hF => ?_)
  refine b_tB E2 (fun _ hq => BX8_more (bE.rf E2.S) hq) hF (fun _ _ D4 E4 hF => ?_)
  exact b_ret E4 hF
theorem BX8_stretch_b128 {σo : fS} {q : (Int ⊕ Nat) × fS} {N : Nat} {RE : Int → fS → Option ((Unit ⊕ Nat) × fS)} {RN : fS → Option ((Int ⊕ Nat) × fS)} (hrE : ∀ {s : fS} {x1 : Int} {q}, bS 0 s → RE x1 s = some q → bE 0 s q.2) (hrN : ∀ {s : fS} {q}, bS 0 s → RN s = some q → bE 0 s q.2) {s : fS} {l2 : Int} {l3 : Int} {l5 : Int} {l7 : Int} (E : bE 0 σo s) (hF : FX8_stretch_b128 N RE RN l2 l3 l5 l7 s = some q) : bE 0 σo q.2 := by
  unfold FX8_stretch_b128 at hF
  refine b_tB E (fun _ hq => BX8_dropSpace (N := N) (RE := RE) @hrE (bE.rf E.S) hq) hF (fun _ _ D2 E2 hF => ?_)
  refine b_tB E2 (fun _ hq => BX8_below (bE.rf E2.S) hq) hF (fun _ _ D4 E4 hF => ?_)
  refine b_pI E4 (E4.S.c0 (Nat.le_of_ble_eq_true rfl)) hF (fun _ D5 E5 hF => ?_)
  refine b_call E5 (fun _ hq => (BX8_nearest (bE.rf E5.S) hq)) hF (fun _ hq6 D6 E6 hF => ?_)
  refine b_if hF (fun hF => ?_) (fun hF => ?_)
  ·
    exact BX8_stretch_b173 (N := N) (RE := RE) (RN := RN) @hrE @hrN E6 hF
  ·
    exact BX8_stretch_b173 (N := N) (RE := RE) (RN := RN) @hrE @hrN E6 hF
theorem BX8_stretch_b106 {σo : fS} {q : (Int ⊕ Nat) × fS} {N : Nat} {RE : Int → fS → Option ((Unit ⊕ Nat) × fS)} {RN : fS → Option ((Int ⊕ Nat) × fS)} (hrE : ∀ {s : fS} {x1 : Int} {q}, bS 0 s → RE x1 s = some q → bE 0 s q.2) (hrN : ∀ {s : fS} {q}, bS 0 s → RN s = some q → bE 0 s q.2) : ∀ {n : Nat} {s : fS} {l2 : Int} {l3 : Int} {l5 : Int} {l7 : Int}, bE 0 σo s → FX8_stretch_b106 N RE RN n l2 l3 l5 l7 s = some q → bE 0 σo q.2 := by
  intro n
  induction n with
  | zero => intro s l2 l3 l5 l7 E  hF; simp [FX8_stretch_b106] at hF
  | succ n ih =>
    intro s l2 l3 l5 l7 E  hF
    rw [FX8_stretch_b106] at hF
    refine b_if hF (fun hF => ?_) (fun hF => ?_)
    ·
      exact BX8_stretch_b128 (N := N) (RE := RE) (RN := RN) @hrE @hrN E hF
    ·
      refine b_tB E (fun _ hq => BX8_keyword (N := N) (RE := RE) @hrE (bE.rf E.S) hq) hF (fun _ _ D2 E2 hF => ?_)
      refine b_if hF (fun hF => ?_) (fun hF => ?_)
      ·
        exact BX8_stretch_b128 (N := N) (RE := RE) (RN := RN) @hrE @hrN E2 hF
      ·
        exact ih E2 hF
theorem BX8_stretch {σo : fS} {q : (Int ⊕ Nat) × fS} {N : Nat} {RE : Int → fS → Option ((Unit ⊕ Nat) × fS)} {RN : fS → Option ((Int ⊕ Nat) × fS)} (hrE : ∀ {s : fS} {x1 : Int} {q}, bS 0 s → RE x1 s = some q → bE 0 s q.2) (hrN : ∀ {s : fS} {q}, bS 0 s → RN s = some q → bE 0 s q.2) {s : fS} (E : bE 0 σo s) (hF : FX8_stretch N RE RN s = some q) : bE 0 σo q.2 := by
  unfold FX8_stretch at hF
  refine b_tB E (fun _ hq => BX8_signed (N := N) (RE := RE) @hrE (bE.rf E.S) hq) hF (fun _ _ D2 E2 hF => ?_)
  refine b_pI E2 (E2.S.c0 (Nat.le_of_ble_eq_true rfl)) hF (fun _ D4 E4 hF => ?_)
  refine b_call E4 (fun _ hq => (BX8_isSized (bE.rf E4.S) hq)) hF (fun _ hq6 D6 E6 hF => ?_)
  refine b_if hF (fun hF => ?_) (fun hF => ?_)
  ·
    refine b_tB E6 (fun _ hq => BX8_factor (N := N) (RE := RE) (RN := RN) @hrE @hrN (bE.rf E6.S) hq) hF (fun _ _ D8 E8 hF => ?_)
    refine b_tB E8 (fun _ hq => BX8_keyword (N := N) (RE := RE) @hrE (bE.rf E8.S) hq) hF (fun _ _ D12 E12 hF => ?_)
    refine b_if hF (fun hF => ?_) (fun hF => ?_)
    ·
      exact BX8_stretch_b106 (N := N) (RE := RE) (RN := RN) @hrE @hrN E12 hF
    ·
      refine b_pJ E12 (E12.S.c0 (Nat.le_of_ble_eq_true rfl)) hF (fun _ D13 E13 hF => ?_)
      refine b_pJ E13 (E13.S.c0 (Nat.le_of_ble_eq_true rfl)) hF (fun _ D14 E14 hF => ?_)
      refine b_tB E14 (fun _ hq => BX8_united (N := N) (RE := RE) (RN := RN) @hrE @hrN (bE.rf E14.S) hq) hF (fun _ _ D16 E16 hF => ?_)
      refine b_pI E16 (E16.S.c0 (Nat.le_of_ble_eq_true rfl)) hF (fun _ D17 E17 hF => ?_)
      refine b_if hF (fun hF => ?_) (fun hF => ?_)
      ·
        exact BX8_stretch_b96 (N := N) (RE := RE) (RN := RN) @hrE @hrN E17 hF
      ·
        exact BX8_stretch_b96 (N := N) (RE := RE) (RN := RN) @hrE @hrN E17 hF
  ·
    refine b_tB E6 (fun _ hq => BX8_dimension_2 (N := N) (RE := RE) (RN := RN) @hrE @hrN (bE.rf E6.S) hq) hF (fun _ _ D19 E19 hF => ?_)
    refine b_tB E19 (fun _ hq => BX8_more (bE.rf E19.S) hq) hF (fun _ _ D21 E21 hF => ?_)
    exact b_ret E21 hF
