set_option maxRecDepth 100000
set_option maxHeartbeats 4000000
theorem BX8_glue_b126 {σo : fS} {q : (Unit ⊕ Nat) × fS} {N : Nat} {RE : Int → fS → Option ((Unit ⊕ Nat) × fS)} {RN : fS → Option ((Int ⊕ Nat) × fS)} (hrE : ∀ {s : fS} {x1 : Int} {q}, bS 0 s → RE x1 s = some q → bE 0 s q.2) (hrN : ∀ {s : fS} {q}, bS 0 s → RN s = some q → bE 0 s q.2) {s : fS} {s1 : Int} {s2 : Int} (E : bE 0 σo s) (hF : FX8_glue_b126 N RE RN s1 s2 s = some q) : bE 0 σo q.2 := by
  unfold FX8_glue_b126 at hF
  refine b_qI E (E.S.c0 (Nat.le_of_ble_eq_true rfl)) hF (fun _ D1 E1 hF => ?_)
  exact b_ret E1 hF
theorem BX8_glue_b96 {σo : fS} {q : (Unit ⊕ Nat) × fS} {N : Nat} {RE : Int → fS → Option ((Unit ⊕ Nat) × fS)} {RN : fS → Option ((Int ⊕ Nat) × fS)} (hrE : ∀ {s : fS} {x1 : Int} {q}, bS 0 s → RE x1 s = some q → bE 0 s q.2) (hrN : ∀ {s : fS} {q}, bS 0 s → RN s = some q → bE 0 s q.2) {s : fS} {l2 : Int} {s1 : Int} (E : bE 0 σo s) (hF : FX8_glue_b96 N RE RN l2 s1 s = some q) : bE 0 σo q.2 := by
  unfold FX8_glue_b96 at hF
  refine b_tB E (fun _ hq => BX4_want (bE.rf E.S) hq) hF (fun _ _ D2 E2 hF => ?_)
  refine b_if hF (fun hF => ?_) (fun hF => ?_)
  ·
    refine b_rv hF (fun _ hF => ?_)
    exact BX8_glue_b126 (N := N) (RE := RE) (RN := RN) @hrE @hrN E2 hF
  ·
    refine b_rv hF (fun _ hF => ?_)
    exact BX8_glue_b126 (N := N) (RE := RE) (RN := RN) @hrE @hrN E2 hF
theorem BX8_glue_b91 {σo : fS} {q : (Unit ⊕ Nat) × fS} {N : Nat} {RE : Int → fS → Option ((Unit ⊕ Nat) × fS)} {RN : fS → Option ((Int ⊕ Nat) × fS)} (hrE : ∀ {s : fS} {x1 : Int} {q}, bS 0 s → RE x1 s = some q → bE 0 s q.2) (hrN : ∀ {s : fS} {q}, bS 0 s → RN s = some q → bE 0 s q.2) {s : fS} {l2 : Int} (E : bE 0 σo s) (hF : FX8_glue_b91 N RE RN l2 s = some q) : bE 0 σo q.2 := by
  unfold FX8_glue_b91 at hF
  exact BX8_glue_b96 (N := N) (RE := RE) (RN := RN) @hrE @hrN E hF
theorem BX8_glue_b95 {σo : fS} {q : (Unit ⊕ Nat) × fS} {N : Nat} {RE : Int → fS → Option ((Unit ⊕ Nat) × fS)} {RN : fS → Option ((Int ⊕ Nat) × fS)} (hrE : ∀ {s : fS} {x1 : Int} {q}, bS 0 s → RE x1 s = some q → bE 0 s q.2) (hrN : ∀ {s : fS} {q}, bS 0 s → RN s = some q → bE 0 s q.2) {s : fS} {l2 : Int} (E : bE 0 σo s) (hF : FX8_glue_b95 N RE RN l2 s = some q) : bE 0 σo q.2 := by
  unfold FX8_glue_b95 at hF
  exact BX8_glue_b96 (N := N) (RE := RE) (RN := RN) @hrE @hrN E hF
theorem BX8_glue_b33 {σo : fS} {q : (Unit ⊕ Nat) × fS} {N : Nat} {RE : Int → fS → Option ((Unit ⊕ Nat) × fS)} {RN : fS → Option ((Int ⊕ Nat) × fS)} (hrE : ∀ {s : fS} {x1 : Int} {q}, bS 0 s → RE x1 s = some q → bE 0 s q.2) (hrN : ∀ {s : fS} {q}, bS 0 s → RN s = some q → bE 0 s q.2) : ∀ {n : Nat} {s : fS} {l2 : Int} {l4 : Int} {l5 : Int}, bE 0 σo s → FX8_glue_b33 N RE RN n l2 l4 l5 s = some q → bE 0 σo q.2 := by
  intro n
  induction n with
  | zero => intro s l2 l4 l5 E  hF; simp [FX8_glue_b33] at hF
  | succ n ih =>
    intro s l2 l4 l5 E  hF
    rw [FX8_glue_b33] at hF
    refine b_if hF (fun hF => ?_) (fun hF => ?_)
    ·
      refine b_if hF (fun hF => ?_) (fun hF => ?_)
      ·
        exact BX8_glue_b91 (N := N) (RE := RE) (RN := RN) @hrE @hrN E hF
      ·
        refine b_rv hF (fun _ hF => ?_)
        refine b_if hF (fun hF => ?_) (fun hF => ?_)
        ·
          exact BX8_glue_b95 (N := N) (RE := RE) (RN := RN) @hrE @hrN E hF
        ·
          refine b_rv hF (fun _ hF => ?_)
          refine b_if hF (fun hF => ?_) (fun hF => ?_)
          ·
            exact BX8_glue_b95 (N := N) (RE := RE) (RN := RN) @hrE @hrN E hF
          ·
            exact BX8_glue_b91 (N := N) (RE := RE) (RN := RN) @hrE @hrN E hF
    ·
      refine b_rv hF (fun _ hF => ?_)
      refine b_qI E (E.S.c0 (Nat.le_of_ble_eq_true rfl)) hF (fun _ D10 E10 hF => ?_)
      exact ih E10 hF
theorem BX8_glue_b218 {σo : fS} {q : (Unit ⊕ Nat) × fS} {N : Nat} {RE : Int → fS → Option ((Unit ⊕ Nat) × fS)} {RN : fS → Option ((Int ⊕ Nat) × fS)} (hrE : ∀ {s : fS} {x1 : Int} {q}, bS 0 s → RE x1 s = some q → bE 0 s q.2) (hrN : ∀ {s : fS} {q}, bS 0 s → RN s = some q → bE 0 s q.2) {s : fS} {l7 : Int} {s1 : Int} {s2 : Int} (E : bE 0 σo s) (hF : FX8_glue_b218 N RE RN l7 s1 s2 s = some q) : bE 0 σo q.2 := by
  unfold FX8_glue_b218 at hF
  refine b_qI E (E.S.c0 (Nat.le_of_ble_eq_true rfl)) hF (fun _ D1 E1 hF => ?_)
  refine b_qI E1 (E1.S.c0 (Nat.le_of_ble_eq_true rfl)) hF (fun _ D3 E3 hF => ?_)
  exact b_ret E3 hF
theorem BX8_glue_b184 {σo : fS} {q : (Unit ⊕ Nat) × fS} {N : Nat} {RE : Int → fS → Option ((Unit ⊕ Nat) × fS)} {RN : fS → Option ((Int ⊕ Nat) × fS)} (hrE : ∀ {s : fS} {x1 : Int} {q}, bS 0 s → RE x1 s = some q → bE 0 s q.2) (hrN : ∀ {s : fS} {q}, bS 0 s → RN s = some q → bE 0 s q.2) {s : fS} {l4 : Int} {l5 : Int} {l6 : Int} {s0 : Int} (E : bE 0 σo s) (hF : FX8_glue_b184 N RE RN l4 l5 l6 s0 s = some q) : bE 0 σo q.2 := by
  unfold FX8_glue_b184 at hF
  refine b_qI E (E.S.c0 (Nat.le_of_ble_eq_true rfl)) hF (fun _ D2 E2 hF => ?_)
  refine b_qI E2 (E2.S.c0 (Nat.le_of_ble_eq_true rfl)) hF (fun _ D4 E4 hF => ?_)
  refine b_if hF (fun hF => ?_) (fun hF => ?_)
  ·
    exact BX8_glue_b218 (N := N) (RE := RE) (RN := RN) @hrE @hrN E4 hF
  ·
    exact BX8_glue_b218 (N := N) (RE := RE) (RN := RN) @hrE @hrN E4 hF
theorem BX8_glue_b154 {σo : fS} {q : (Unit ⊕ Nat) × fS} {N : Nat} {RE : Int → fS → Option ((Unit ⊕ Nat) × fS)} {RN : fS → Option ((Int ⊕ Nat) × fS)} (hrE : ∀ {s : fS} {x1 : Int} {q}, bS 0 s → RE x1 s = some q → bE 0 s q.2) (hrN : ∀ {s : fS} {q}, bS 0 s → RN s = some q → bE 0 s q.2) {s : fS} {l4 : Int} {s0 : Int} (E : bE 0 σo s) (hF : FX8_glue_b154 N RE RN l4 s0 s = some q) : bE 0 σo q.2 := by
  unfold FX8_glue_b154 at hF
  refine b_tB E (fun _ hq => BX8_keyword (N := N) (RE := RE) @hrE (bE.rf E.S) hq) hF (fun _ _ D3 E3 hF => ?_)
  refine b_if hF (fun hF => ?_) (fun hF => ?_)
  ·
    exact BX8_glue_b184 (N := N) (RE := RE) (RN := RN) @hrE @hrN E3 hF
  ·
    refine b_tB E3 (fun _ hq => BX8_dimension (N := N) (RE := RE) (RN := RN) @hrE @hrN (bE.rf E3.S) hq) hF (fun _ _ D5 E5 hF => ?_)
    refine b_tB E5 (fun _ hq => BX8_more (bE.rf E5.S) hq) hF (fun _ _ D7 E7 hF => ?_)
    exact BX8_glue_b184 (N := N) (RE := RE) (RN := RN) @hrE @hrN E7 hF
theorem BX8_glue {σo : fS} {q : (Unit ⊕ Nat) × fS} {N : Nat} {RE : Int → fS → Option ((Unit ⊕ Nat) × fS)} {RN : fS → Option ((Int ⊕ Nat) × fS)} (hrE : ∀ {s : fS} {x1 : Int} {q}, bS 0 s → RE x1 s = some q → bE 0 s q.2) (hrN : ∀ {s : fS} {q}, bS 0 s → RN s = some q → bE 0 s q.2) {s : fS} (E : bE 0 σo s) (hF : FX8_glue N RE RN s = some q) : bE 0 σo q.2 := by
  unfold FX8_glue at hF
  refine b_tB E (fun _ hq => BX8_signed (N := N) (RE := RE) @hrE (bE.rf E.S) hq) hF (fun _ _ D2 E2 hF => ?_)
  refine b_call E2 (fun _ hq => (BX8_primitive (bE.rf E2.S) hq)) hF (fun _ hq5 D5 E5 hF => ?_)
  refine b_call E5 (fun _ hq => (BX8_isGlue (bE.rf E5.S) hq)) hF (fun _ hq6 D6 E6 hF => ?_)
  refine b_if hF (fun hF => ?_) (fun hF => ?_)
  ·
    refine b_tB E6 (fun _ hq => BX8_dimension_2 (N := N) (RE := RE) (RN := RN) @hrE @hrN (bE.rf E6.S) hq) hF (fun _ _ D8 E8 hF => ?_)
    refine b_tB E8 (fun _ hq => BX8_keyword (N := N) (RE := RE) @hrE (bE.rf E8.S) hq) hF (fun _ _ D10 E10 hF => ?_)
    refine b_if hF (fun hF => ?_) (fun hF => ?_)
    ·
      exact BX8_glue_b154 (N := N) (RE := RE) (RN := RN) @hrE @hrN E10 hF
    ·
      refine b_tB E10 (fun _ hq => BX8_stretch (N := N) (RE := RE) (RN := RN) @hrE @hrN (bE.rf E10.S) hq) hF (fun _ _ D12 E12 hF => ?_)
      exact BX8_glue_b154 (N := N) (RE := RE) (RN := RN) @hrE @hrN E12 hF
  ·
    refine b_tB E6 (fun _ hq => BX8_cellOf (RN := RN) @hrN (bE.rf E6.S) hq) hF (fun _ _ D14 E14 hF => ?_)
    exact BX8_glue_b33 (N := N) (RE := RE) (RN := RN) @hrE @hrN E14 hF
theorem BX8_addGlue_b144 {σo : fS} {q : (Unit ⊕ Nat) × fS} {s : fS} (E : bE 0 σo s) (hF : FX8_addGlue_b144 s = some q) : bE 0 σo q.2 := by
  unfold FX8_addGlue_b144 at hF
  exact b_ret E hF
theorem BX8_addGlue {σo : fS} {q : (Unit ⊕ Nat) × fS} {s : fS} {p0 : Int} (E : bE 0 σo s) (hF : FX8_addGlue p0 s = some q) : bE 0 σo q.2 := by
  unfold FX8_addGlue at hF
  refine b_rv hF (fun _ hF => ?_)
  refine b_rv hF (fun _ hF => ?_)
  refine b_rv hF (fun _ hF => ?_)
  refine b_rv hF (fun _ hF => ?_)
  refine b_tB E (fun _ hq => BX8_size (bE.rf E.S) hq) hF (fun _ _ D14 E14 hF => ?_)
  refine b_qI E14 (E14.S.c0 (Nat.le_of_ble_eq_true rfl)) hF (fun _ D15 E15 hF => ?_)
  refine b_rv hF (fun _ hF => ?_)
  refine b_rv hF (fun _ hF => ?_)
  refine b_tB E15 (fun _ hq => BX8_size (bE.rf E15.S) hq) hF (fun _ _ D23 E23 hF => ?_)
  refine b_qI E23 (E23.S.c0 (Nat.le_of_ble_eq_true rfl)) hF (fun _ D24 E24 hF => ?_)
  refine b_rv hF (fun _ hF => ?_)
  refine b_if hF (fun hF => ?_) (fun hF => ?_)
  ·
    refine b_rv hF (fun _ hF => ?_)
    refine b_if hF (fun hF => ?_) (fun hF => ?_)
    ·
      exact BX8_addGlue_b144 E24 hF
    ·
      refine b_qI E24 (E24.S.c0 (Nat.le_of_ble_eq_true rfl)) hF (fun _ D30 E30 hF => ?_)
      refine b_qI E30 (E30.S.c0 (Nat.le_of_ble_eq_true rfl)) hF (fun _ D32 E32 hF => ?_)
      exact BX8_addGlue_b144 E32 hF
  ·
    refine b_rv hF (fun _ hF => ?_)
    refine b_tB E24 (fun _ hq => BX8_size (bE.rf E24.S) hq) hF (fun _ _ D37 E37 hF => ?_)
    refine b_qI E37 (E37.S.c0 (Nat.le_of_ble_eq_true rfl)) hF (fun _ D38 E38 hF => ?_)
    exact BX8_addGlue_b144 E38 hF
theorem BX8_setGlue_b27 {σo : fS} {q : Unit × fS} {N : Nat} : ∀ {n : Nat} {s : fS} {l1 : Int} {l2 : Int} {l3 : Int}, bE 0 σo s → FX8_setGlue_b27 N n l1 l2 l3 s = some q → bE 0 σo q.2 := by
  intro n
  induction n with
  | zero => intro s l1 l2 l3 E  hF; simp [FX8_setGlue_b27] at hF
  | succ n ih =>
    intro s l1 l2 l3 E  hF
    rw [FX8_setGlue_b27] at hF
    refine b_if hF (fun hF => ?_) (fun hF => ?_)
    ·
      exact b_ret E hF
    ·
      refine b_rv hF (fun _ hF => ?_)
      refine b_call E (fun _ hq => (BX9_set (N := N) (bE.rf E.S) hq)) hF (fun _ hq5 D5 E5 hF => ?_)
      exact ih E5 hF
theorem BX8_setGlue_b24 {σo : fS} {q : Unit × fS} {N : Nat} {s : fS} {l1 : Int} {l2 : Int} {s1 : Int} {s2 : Int} (E : bE 0 σo s) (hF : FX8_setGlue_b24 N l1 l2 s1 s2 s = some q) : bE 0 σo q.2 := by
  unfold FX8_setGlue_b24 at hF
  refine b_qI E (E.S.c0 (Nat.le_of_ble_eq_true rfl)) hF (fun _ D1 E1 hF => ?_)
  exact BX8_setGlue_b27 (N := N) E1 hF
theorem BX8_setGlue {σo : fS} {q : Unit × fS} {N : Nat} {s : fS} {p0 : Int} {p1 : Int} (E : bE 0 σo s) (hF : FX8_setGlue N p0 p1 s = some q) : bE 0 σo q.2 := by
  unfold FX8_setGlue at hF
  refine b_rv hF (fun _ hF => ?_)
  refine b_if hF (fun hF => ?_) (fun hF => ?_)
  ·
    refine b_rv hF (fun _ hF => ?_)
    exact BX8_setGlue_b24 (N := N) E hF
  ·
    exact BX8_setGlue_b24 (N := N) E hF
theorem BX8_advance_b93 {σo : fS} {q : (Unit ⊕ Nat) × fS} {N : Nat} {RE : Int → fS → Option ((Unit ⊕ Nat) × fS)} {RN : fS → Option ((Int ⊕ Nat) × fS)} (hrE : ∀ {s : fS} {x1 : Int} {q}, bS 0 s → RE x1 s = some q → bE 0 s q.2) (hrN : ∀ {s : fS} {q}, bS 0 s → RN s = some q → bE 0 s q.2) {s : fS} (E : bE 0 σo s) (hF : FX8_advance_b93 N RE RN s = some q) : bE 0 σo q.2 := by
  unfold FX8_advance_b93 at hF
  exact b_ret E hF
theorem BX8_advance {σo : fS} {q : (Unit ⊕ Nat) × fS} {N : Nat} {RE : Int → fS → Option ((Unit ⊕ Nat) × fS)} {RN : fS → Option ((Int ⊕ Nat) × fS)} (hrE : ∀ {s : fS} {x1 : Int} {q}, bS 0 s → RE x1 s = some q → bE 0 s q.2) (hrN : ∀ {s : fS} {q}, bS 0 s → RN s = some q → bE 0 s q.2) {s : fS} {p0 : Int} {p1 : Int} {p2 : Int} (E : bE 0 σo s) (hF : FX8_advance N RE RN p0 p1 p2 s = some q) : bE 0 σo q.2 := by
  unfold FX8_advance at hF
  refine b_call E (fun _ hq => (BX8_isCounter (bE.rf E.S) hq)) hF (fun _ hq1 D1 E1 hF => ?_)
  refine b_if hF (fun hF => ?_) (fun hF => ?_)
  ·
    refine b_call E1 (fun _ hq => (BX8_isLength (bE.rf E1.S) hq)) hF (fun _ hq2 D2 E2 hF => ?_)
    refine b_if hF (fun hF => ?_) (fun hF => ?_)
    ·
      refine b_tB E2 (fun _ hq => BX8_glue (N := N) (RE := RE) (RN := RN) @hrE @hrN (bE.rf E2.S) hq) hF (fun _ _ D4 E4 hF => ?_)
      refine b_tB E4 (fun _ hq => BX8_addGlue (bE.rf E4.S) hq) hF (fun _ _ D6 E6 hF => ?_)
      refine b_call E6 (fun _ hq => (BX8_setGlue (N := N) (bE.rf E6.S) hq)) hF (fun _ hq8 D8 E8 hF => ?_)
      exact BX8_advance_b93 (N := N) (RE := RE) (RN := RN) @hrE @hrN E8 hF
    ·
      refine b_tB E2 (fun _ hq => BX8_dimension (N := N) (RE := RE) (RN := RN) @hrE @hrN (bE.rf E2.S) hq) hF (fun _ _ D11 E11 hF => ?_)
      refine b_rv hF (fun _ hF => ?_)
      refine b_tB E11 (fun _ hq => BX8_size (bE.rf E11.S) hq) hF (fun _ _ D16 E16 hF => ?_)
      refine b_call E16 (fun _ hq => (BX9_set (N := N) (bE.rf E16.S) hq)) hF (fun _ hq18 D18 E18 hF => ?_)
      exact BX8_advance_b93 (N := N) (RE := RE) (RN := RN) @hrE @hrN E18 hF
  ·
    refine b_tB E1 (fun _ hq => hrN E1.S hq) hF (fun _ _ D21 E21 hF => ?_)
    refine b_rv hF (fun _ hF => ?_)
    refine b_tB E21 (fun _ hq => BX8_counter (bE.rf E21.S) hq) hF (fun _ _ D26 E26 hF => ?_)
    refine b_call E26 (fun _ hq => (BX9_set (N := N) (bE.rf E26.S) hq)) hF (fun _ hq28 D28 E28 hF => ?_)
    exact BX8_advance_b93 (N := N) (RE := RE) (RN := RN) @hrE @hrN E28 hF
theorem BX8_reckoned_b44 {σo : fS} {q : (Int ⊕ Nat) × fS} {s : fS} {s0 : Int} (E : bE 0 σo s) (hF : FX8_reckoned_b44 s0 s = some q) : bE 0 σo q.2 := by
  unfold FX8_reckoned_b44 at hF
  exact b_ret E hF
theorem BX8_reckoned_b22 {σo : fS} {q : (Int ⊕ Nat) × fS} {s : fS} {l1 : Int} {l2 : Int} {l4 : Int} {s1 : Int} (E : bE 0 σo s) (hF : FX8_reckoned_b22 l1 l2 l4 s1 s = some q) : bE 0 σo q.2 := by
  unfold FX8_reckoned_b22 at hF
  refine b_tB E (fun _ hq => BX4_want (bE.rf E.S) hq) hF (fun _ _ D2 E2 hF => ?_)
  refine b_if hF (fun hF => ?_) (fun hF => ?_)
  ·
    refine b_dv hF (fun hF => ?_)
    exact BX8_reckoned_b44 E2 hF
  ·
    exact BX8_reckoned_b44 E2 hF
theorem BX8_reckoned_b17 {σo : fS} {q : (Int ⊕ Nat) × fS} {s : fS} {l1 : Int} {l2 : Int} {l4 : Int} (E : bE 0 σo s) (hF : FX8_reckoned_b17 l1 l2 l4 s = some q) : bE 0 σo q.2 := by
  unfold FX8_reckoned_b17 at hF
  exact BX8_reckoned_b22 E hF
theorem BX8_reckoned {σo : fS} {q : (Int ⊕ Nat) × fS} {s : fS} {p0 : Int} {p1 : Int} {p2 : Int} (E : bE 0 σo s) (hF : FX8_reckoned p0 p1 p2 s = some q) : bE 0 σo q.2 := by
  unfold FX8_reckoned at hF
  refine b_if hF (fun hF => ?_) (fun hF => ?_)
  ·
    exact BX8_reckoned_b17 E hF
  ·
    refine b_if hF (fun hF => ?_) (fun hF => ?_)
    ·
      exact BX8_reckoned_b22 E hF
    ·
      exact BX8_reckoned_b17 E hF
theorem BX8_reckon_b135 {σo : fS} {q : (Unit ⊕ Nat) × fS} {N : Nat} {RE : Int → fS → Option ((Unit ⊕ Nat) × fS)} {RN : fS → Option ((Int ⊕ Nat) × fS)} {K77 : Int → Int → Int → Int → Int → fS → Option ((Unit ⊕ Nat) × fS)} (hrE : ∀ {s : fS} {x1 : Int} {q}, bS 0 s → RE x1 s = some q → bE 0 s q.2) (hrN : ∀ {s : fS} {q}, bS 0 s → RN s = some q → bE 0 s q.2) (hk77 : ∀ {s : fS} {l1 : Int} {l2 : Int} {l4 : Int} {l6 : Int} {l8 : Int}, bE 0 σo s → K77 l1 l2 l4 l6 l8 s = some q → bE 0 σo q.2) {s : fS} {l1 : Int} {l2 : Int} {l4 : Int} {l6 : Int} {l8 : Int} {s1 : Int} {s2 : Int} (E : bE 0 σo s) (hF : FX8_reckon_b135 N RE RN K77 l1 l2 l4 l6 l8 s1 s2 s = some q) : bE 0 σo q.2 := by
  unfold FX8_reckon_b135 at hF
  refine b_qI E (E.S.c0 (Nat.le_of_ble_eq_true rfl)) hF (fun _ D1 E1 hF => ?_)
  exact hk77 E1 hF
theorem BX8_reckon_b169 {σo : fS} {q : (Unit ⊕ Nat) × fS} {N : Nat} {RE : Int → fS → Option ((Unit ⊕ Nat) × fS)} {RN : fS → Option ((Int ⊕ Nat) × fS)} (hrE : ∀ {s : fS} {x1 : Int} {q}, bS 0 s → RE x1 s = some q → bE 0 s q.2) (hrN : ∀ {s : fS} {q}, bS 0 s → RN s = some q → bE 0 s q.2) {s : fS} {l2 : Int} {l4 : Int} {s1 : Int} (E : bE 0 σo s) (hF : FX8_reckon_b169 N RE RN l2 l4 s1 s = some q) : bE 0 σo q.2 := by
  unfold FX8_reckon_b169 at hF
  refine b_tB E (fun _ hq => BX4_want (bE.rf E.S) hq) hF (fun _ _ D2 E2 hF => ?_)
  refine b_call E2 (fun _ hq => (BX8_setGlue (N := N) (bE.rf E2.S) hq)) hF (fun _ hq4 D4 E4 hF => ?_)
  exact b_ret E4 hF
theorem BX8_reckon_b168 {σo : fS} {q : (Unit ⊕ Nat) × fS} {N : Nat} {RE : Int → fS → Option ((Unit ⊕ Nat) × fS)} {RN : fS → Option ((Int ⊕ Nat) × fS)} (hrE : ∀ {s : fS} {x1 : Int} {q}, bS 0 s → RE x1 s = some q → bE 0 s q.2) (hrN : ∀ {s : fS} {q}, bS 0 s → RN s = some q → bE 0 s q.2) {s : fS} {l2 : Int} {l4 : Int} (E : bE 0 σo s) (hF : FX8_reckon_b168 N RE RN l2 l4 s = some q) : bE 0 σo q.2 := by
  unfold FX8_reckon_b168 at hF
  exact BX8_reckon_b169 (N := N) (RE := RE) (RN := RN) @hrE @hrN E hF
theorem BX8_reckon_b77 {σo : fS} {q : (Unit ⊕ Nat) × fS} {N : Nat} {RE : Int → fS → Option ((Unit ⊕ Nat) × fS)} {RN : fS → Option ((Int ⊕ Nat) × fS)} (hrE : ∀ {s : fS} {x1 : Int} {q}, bS 0 s → RE x1 s = some q → bE 0 s q.2) (hrN : ∀ {s : fS} {q}, bS 0 s → RN s = some q → bE 0 s q.2) : ∀ {n : Nat} {s : fS} {l1 : Int} {l2 : Int} {l4 : Int} {l6 : Int} {l8 : Int}, bE 0 σo s → FX8_reckon_b77 N RE RN n l1 l2 l4 l6 l8 s = some q → bE 0 σo q.2 := by
  intro n
  induction n with
  | zero => intro s l1 l2 l4 l6 l8 E  hF; simp [FX8_reckon_b77] at hF
  | succ n ih =>
    intro s l1 l2 l4 l6 l8 E  hF
    rw [FX8_reckon_b77] at hF
    refine b_if hF (fun hF => ?_) (fun hF => ?_)
    ·
      refine b_rv hF (fun _ hF => ?_)
      refine b_if hF (fun hF => ?_) (fun hF => ?_)
      ·
        exact BX8_reckon_b168 (N := N) (RE := RE) (RN := RN) @hrE @hrN E hF
      ·
        refine b_rv hF (fun _ hF => ?_)
        refine b_if hF (fun hF => ?_) (fun hF => ?_)
        ·
          exact BX8_reckon_b168 (N := N) (RE := RE) (RN := RN) @hrE @hrN E hF
        ·
          exact BX8_reckon_b169 (N := N) (RE := RE) (RN := RN) @hrE @hrN E hF
    ·
      refine b_if hF (fun hF => ?_) (fun hF => ?_)
      ·
        refine b_rv hF (fun _ hF => ?_)
        refine b_tB E (fun _ hq => BX8_reckoned (bE.rf E.S) hq) hF (fun _ _ D11 E11 hF => ?_)
        refine b_tB E11 (fun _ hq => BX8_size (bE.rf E11.S) hq) hF (fun _ _ D13 E13 hF => ?_)
        exact BX8_reckon_b135 (N := N) (RE := RE) (RN := RN) (K77 := FX8_reckon_b77 N RE RN n) @hrE @hrN @ih E13 hF
      ·
        refine b_rv hF (fun _ hF => ?_)
        exact BX8_reckon_b135 (N := N) (RE := RE) (RN := RN) (K77 := FX8_reckon_b77 N RE RN n) @hrE @hrN @ih E hF
theorem BX8_reckon_b230 {σo : fS} {q : (Unit ⊕ Nat) × fS} {N : Nat} {RE : Int → fS → Option ((Unit ⊕ Nat) × fS)} {RN : fS → Option ((Int ⊕ Nat) × fS)} (hrE : ∀ {s : fS} {x1 : Int} {q}, bS 0 s → RE x1 s = some q → bE 0 s q.2) (hrN : ∀ {s : fS} {q}, bS 0 s → RN s = some q → bE 0 s q.2) {s : fS} {l2 : Int} {s1 : Int} {s2 : Int} (E : bE 0 σo s) (hF : FX8_reckon_b230 N RE RN l2 s1 s2 s = some q) : bE 0 σo q.2 := by
  unfold FX8_reckon_b230 at hF
  refine b_call E (fun _ hq => (BX9_set (N := N) (bE.rf E.S) hq)) hF (fun _ hq2 D2 E2 hF => ?_)
  exact b_ret E2 hF
theorem BX8_reckon_b24 {σo : fS} {q : (Unit ⊕ Nat) × fS} {N : Nat} {RE : Int → fS → Option ((Unit ⊕ Nat) × fS)} {RN : fS → Option ((Int ⊕ Nat) × fS)} (hrE : ∀ {s : fS} {x1 : Int} {q}, bS 0 s → RE x1 s = some q → bE 0 s q.2) (hrN : ∀ {s : fS} {q}, bS 0 s → RN s = some q → bE 0 s q.2) {s : fS} {l1 : Int} {l2 : Int} {l3 : Int} {s1 : Int} (E : bE 0 σo s) (hF : FX8_reckon_b24 N RE RN l1 l2 l3 s1 s = some q) : bE 0 σo q.2 := by
  unfold FX8_reckon_b24 at hF
  refine b_tB E (fun _ hq => BX4_want (bE.rf E.S) hq) hF (fun _ _ D2 E2 hF => ?_)
  refine b_tB E2 (fun _ hq => BX8_cellOf (RN := RN) @hrN (bE.rf E2.S) hq) hF (fun _ _ D4 E4 hF => ?_)
  refine b_tB E4 (fun _ hq => BX8_keyword (N := N) (RE := RE) @hrE (bE.rf E4.S) hq) hF (fun _ _ D6 E6 hF => ?_)
  refine b_if hF (fun hF => ?_) (fun hF => ?_)
  ·
    refine b_tB E6 (fun _ hq => hrN E6.S hq) hF (fun _ _ D8 E8 hF => ?_)
    refine b_call E8 (fun _ hq => (BX8_isGlue (bE.rf E8.S) hq)) hF (fun _ hq9 D9 E9 hF => ?_)
    refine b_if hF (fun hF => ?_) (fun hF => ?_)
    ·
      refine b_rv hF (fun _ hF => ?_)
      refine b_tB E9 (fun _ hq => BX8_reckoned (bE.rf E9.S) hq) hF (fun _ _ D14 E14 hF => ?_)
      refine b_call E14 (fun _ hq => (BX8_isCounter (bE.rf E14.S) hq)) hF (fun _ hq16 D16 E16 hF => ?_)
      refine b_if hF (fun hF => ?_) (fun hF => ?_)
      ·
        refine b_tB E16 (fun _ hq => BX8_size (bE.rf E16.S) hq) hF (fun _ _ D18 E18 hF => ?_)
        exact BX8_reckon_b230 (N := N) (RE := RE) (RN := RN) @hrE @hrN E18 hF
      ·
        refine b_tB E16 (fun _ hq => BX8_counter (bE.rf E16.S) hq) hF (fun _ _ D20 E20 hF => ?_)
        exact BX8_reckon_b230 (N := N) (RE := RE) (RN := RN) @hrE @hrN E20 hF
    ·
      exact BX8_reckon_b77 (N := N) (RE := RE) (RN := RN) @hrE @hrN E9 hF
  ·
    refine b_tB E6 (fun _ hq => BX8_advance (N := N) (RE := RE) (RN := RN) @hrE @hrN (bE.rf E6.S) hq) hF (fun _ _ D22 E22 hF => ?_)
    exact b_ret E22 hF
theorem BX8_reckon {σo : fS} {q : (Unit ⊕ Nat) × fS} {N : Nat} {RE : Int → fS → Option ((Unit ⊕ Nat) × fS)} {RN : fS → Option ((Int ⊕ Nat) × fS)} (hrE : ∀ {s : fS} {x1 : Int} {q}, bS 0 s → RE x1 s = some q → bE 0 s q.2) (hrN : ∀ {s : fS} {q}, bS 0 s → RN s = some q → bE 0 s q.2) {s : fS} {p0 : Int} {p1 : Int} (E : bE 0 σo s) (hF : FX8_reckon N RE RN p0 p1 s = some q) : bE 0 σo q.2 := by
  unfold FX8_reckon at hF
  refine b_tB E (fun _ hq => BX8_needSolid (N := N) (RE := RE) @hrE (bE.rf E.S) hq) hF (fun _ _ D2 E2 hF => ?_)
  refine b_call E2 (fun _ hq => (BX8_primitive (bE.rf E2.S) hq)) hF (fun _ hq4 D4 E4 hF => ?_)
  refine b_if hF (fun hF => ?_) (fun hF => ?_)
  ·
    exact BX8_reckon_b24 (N := N) (RE := RE) (RN := RN) @hrE @hrN E4 hF
  ·
    exact BX8_reckon_b24 (N := N) (RE := RE) (RN := RN) @hrE @hrN E4 hF
theorem BX3_readBox_b57 {σo : fS} {q : (Unit ⊕ Nat) × fS} {N : Nat} {RE : Int → fS → Option ((Unit ⊕ Nat) × fS)} {RN : fS → Option ((Int ⊕ Nat) × fS)} (hrE : ∀ {s : fS} {x1 : Int} {q}, bS 0 s → RE x1 s = some q → bE 0 s q.2) (hrN : ∀ {s : fS} {q}, bS 0 s → RN s = some q → bE 0 s q.2) {s : fS} {l2 : Int} {l3 : Int} {l4 : Int} {l6 : Int} (E : bE 0 σo s) (hF : FX3_readBox_b57 N RE RN l2 l3 l4 l6 s = some q) : bE 0 σo q.2 := by
  unfold FX3_readBox_b57 at hF
  refine b_tB E (fun _ hq => BX3_deliver (N := N) (bE.rf E.S) hq) hF (fun _ _ D2 E2 hF => ?_)
  exact b_ret E2 hF
theorem BX3_readBox_b12 {σo : fS} {q : (Unit ⊕ Nat) × fS} {N : Nat} {RE : Int → fS → Option ((Unit ⊕ Nat) × fS)} {RN : fS → Option ((Int ⊕ Nat) × fS)} (hrE : ∀ {s : fS} {x1 : Int} {q}, bS 0 s → RE x1 s = some q → bE 0 s q.2) (hrN : ∀ {s : fS} {q}, bS 0 s → RN s = some q → bE 0 s q.2) {s : fS} {l1 : Int} {l2 : Int} {l3 : Int} {l4 : Int} (E : bE 0 σo s) (hF : FX3_readBox_b12 N RE RN l1 l2 l3 l4 s = some q) : bE 0 σo q.2 := by
  unfold FX3_readBox_b12 at hF
  refine b_tB E (fun _ hq => BX8_within (RN := RN) @hrN (bE.rf E.S) hq) hF (fun _ _ D3 E3 hF => ?_)
  refine b_rv hF (fun _ hF => ?_)
  refine b_if hF (fun hF => ?_) (fun hF => ?_)
  ·
    exact BX3_readBox_b57 (N := N) (RE := RE) (RN := RN) @hrE @hrN E3 hF
  ·
    refine b_qI E3 (E3.S.c0 (Nat.le_of_ble_eq_true rfl)) hF (fun _ D9 E9 hF => ?_)
    exact BX3_readBox_b57 (N := N) (RE := RE) (RN := RN) @hrE @hrN E9 hF
theorem BX3_readBox_b215 {σo : fS} {q : (Unit ⊕ Nat) × fS} {N : Nat} {RE : Int → fS → Option ((Unit ⊕ Nat) × fS)} {RN : fS → Option ((Int ⊕ Nat) × fS)} (hrE : ∀ {s : fS} {x1 : Int} {q}, bS 0 s → RE x1 s = some q → bE 0 s q.2) (hrN : ∀ {s : fS} {q}, bS 0 s → RN s = some q → bE 0 s q.2) {s : fS} {l2 : Int} {l3 : Int} {l4 : Int} {l5 : Int} {l6 : Int} {s1 : Int} (E : bE 0 σo s) (hF : FX3_readBox_b215 N RE RN l2 l3 l4 l5 l6 s1 s = some q) : bE 0 σo q.2 := by
  unfold FX3_readBox_b215 at hF
  refine b_call E (fun _ hq => (BX3_push (bE.rf E.S) hq)) hF (fun _ hq2 D2 E2 hF => ?_)
  refine b_qI E2 (E2.S.c0 (Nat.le_of_ble_eq_true rfl)) hF (fun _ D5 E5 hF => ?_)
  refine b_qI E5 (E5.S.c0 (Nat.le_of_ble_eq_true rfl)) hF (fun _ D8 E8 hF => ?_)
  refine b_qI E8 (E8.S.c0 (Nat.le_of_ble_eq_true rfl)) hF (fun _ D11 E11 hF => ?_)
  refine b_qI E11 (E11.S.c0 (Nat.le_of_ble_eq_true rfl)) hF (fun _ D14 E14 hF => ?_)
  refine b_qI E14 (E14.S.c0 (Nat.le_of_ble_eq_true rfl)) hF (fun _ D17 E17 hF => ?_)
  exact b_ret E17 hF
theorem BX3_readBox_b193 {σo : fS} {q : (Unit ⊕ Nat) × fS} {N : Nat} {RE : Int → fS → Option ((Unit ⊕ Nat) × fS)} {RN : fS → Option ((Int ⊕ Nat) × fS)} (hrE : ∀ {s : fS} {x1 : Int} {q}, bS 0 s → RE x1 s = some q → bE 0 s q.2) (hrN : ∀ {s : fS} {q}, bS 0 s → RN s = some q → bE 0 s q.2) {s : fS} {l1 : Int} {l2 : Int} {l3 : Int} {l4 : Int} {l5 : Int} {l6 : Int} {s1 : Int} (E : bE 0 σo s) (hF : FX3_readBox_b193 N RE RN l1 l2 l3 l4 l5 l6 s1 s = some q) : bE 0 σo q.2 := by
  unfold FX3_readBox_b193 at hF
  refine b_tB E (fun _ hq => BX4_want (bE.rf E.S) hq) hF (fun _ _ D2 E2 hF => ?_)
  refine b_tB E2 (fun _ hq => BX3_open (bE.rf E2.S) hq) hF (fun _ _ D4 E4 hF => ?_)
  refine b_if hF (fun hF => ?_) (fun hF => ?_)
  ·
    exact BX3_readBox_b215 (N := N) (RE := RE) (RN := RN) @hrE @hrN E4 hF
  ·
    exact BX3_readBox_b215 (N := N) (RE := RE) (RN := RN) @hrE @hrN E4 hF
theorem BX3_readBox_b192 {σo : fS} {q : (Unit ⊕ Nat) × fS} {N : Nat} {RE : Int → fS → Option ((Unit ⊕ Nat) × fS)} {RN : fS → Option ((Int ⊕ Nat) × fS)} (hrE : ∀ {s : fS} {x1 : Int} {q}, bS 0 s → RE x1 s = some q → bE 0 s q.2) (hrN : ∀ {s : fS} {q}, bS 0 s → RN s = some q → bE 0 s q.2) {s : fS} {l1 : Int} {l2 : Int} {l3 : Int} {l4 : Int} {l5 : Int} {l6 : Int} (E : bE 0 σo s) (hF : FX3_readBox_b192 N RE RN l1 l2 l3 l4 l5 l6 s = some q) : bE 0 σo q.2 := by
  unfold FX3_readBox_b192 at hF
  exact BX3_readBox_b193 (N := N) (RE := RE) (RN := RN) @hrE @hrN E hF
theorem BX3_readBox_b147 {σo : fS} {q : (Unit ⊕ Nat) × fS} {N : Nat} {RE : Int → fS → Option ((Unit ⊕ Nat) × fS)} {RN : fS → Option ((Int ⊕ Nat) × fS)} (hrE : ∀ {s : fS} {x1 : Int} {q}, bS 0 s → RE x1 s = some q → bE 0 s q.2) (hrN : ∀ {s : fS} {q}, bS 0 s → RN s = some q → bE 0 s q.2) {s : fS} {l1 : Int} {l2 : Int} {l3 : Int} {l4 : Int} {l5 : Int} {s0 : Int} (E : bE 0 σo s) (hF : FX3_readBox_b147 N RE RN l1 l2 l3 l4 l5 s0 s = some q) : bE 0 σo q.2 := by
  unfold FX3_readBox_b147 at hF
  refine b_tB E (fun _ hq => BX3_solid (N := N) (RE := RE) @hrE (bE.rf E.S) hq) hF (fun _ _ D2 E2 hF => ?_)
  refine b_call E2 (fun _ hq => (BX8_kind (bE.rf E2.S) hq)) hF (fun _ hq6 D6 E6 hF => ?_)
  refine b_if hF (fun hF => ?_) (fun hF => ?_)
  ·
    exact BX3_readBox_b192 (N := N) (RE := RE) (RN := RN) @hrE @hrN E6 hF
  ·
    refine b_call E6 (fun _ hq => (BX8_value (bE.rf E6.S) hq)) hF (fun _ hq9 D9 E9 hF => ?_)
    refine b_call E9 (fun _ hq => (BX1_category (bE.rf E9.S) hq)) hF (fun _ hq10 D10 E10 hF => ?_)
    refine b_if hF (fun hF => ?_) (fun hF => ?_)
    ·
      exact BX3_readBox_b192 (N := N) (RE := RE) (RN := RN) @hrE @hrN E10 hF
    ·
      exact BX3_readBox_b193 (N := N) (RE := RE) (RN := RN) @hrE @hrN E10 hF
theorem BX3_readBox_b129 {σo : fS} {q : (Unit ⊕ Nat) × fS} {N : Nat} {RE : Int → fS → Option ((Unit ⊕ Nat) × fS)} {RN : fS → Option ((Int ⊕ Nat) × fS)} (hrE : ∀ {s : fS} {x1 : Int} {q}, bS 0 s → RE x1 s = some q → bE 0 s q.2) (hrN : ∀ {s : fS} {q}, bS 0 s → RN s = some q → bE 0 s q.2) {s : fS} {l1 : Int} {l2 : Int} {l3 : Int} {l4 : Int} {s0 : Int} (E : bE 0 σo s) (hF : FX3_readBox_b129 N RE RN l1 l2 l3 l4 s0 s = some q) : bE 0 σo q.2 := by
  unfold FX3_readBox_b129 at hF
  refine b_if hF (fun hF => ?_) (fun hF => ?_)
  ·
    exact BX3_readBox_b147 (N := N) (RE := RE) (RN := RN) @hrE @hrN E hF
  ·
    refine b_tB E (fun _ hq => BX8_dimension (N := N) (RE := RE) (RN := RN) @hrE @hrN (bE.rf E.S) hq) hF (fun _ _ D3 E3 hF => ?_)
    exact BX3_readBox_b147 (N := N) (RE := RE) (RN := RN) @hrE @hrN E3 hF
theorem BX3_readBox_b89 {σo : fS} {q : (Unit ⊕ Nat) × fS} {N : Nat} {RE : Int → fS → Option ((Unit ⊕ Nat) × fS)} {RN : fS → Option ((Int ⊕ Nat) × fS)} (hrE : ∀ {s : fS} {x1 : Int} {q}, bS 0 s → RE x1 s = some q → bE 0 s q.2) (hrN : ∀ {s : fS} {q}, bS 0 s → RN s = some q → bE 0 s q.2) {s : fS} {l1 : Int} {l2 : Int} {l3 : Int} {l4 : Int} {s1 : Int} (E : bE 0 σo s) (hF : FX3_readBox_b89 N RE RN l1 l2 l3 l4 s1 s = some q) : bE 0 σo q.2 := by
  unfold FX3_readBox_b89 at hF
  refine b_tB E (fun _ hq => BX4_want (bE.rf E.S) hq) hF (fun _ _ D2 E2 hF => ?_)
  refine b_tB E2 (fun _ hq => BX8_keyword (N := N) (RE := RE) @hrE (bE.rf E2.S) hq) hF (fun _ _ D5 E5 hF => ?_)
  refine b_if hF (fun hF => ?_) (fun hF => ?_)
  ·
    refine b_tB E5 (fun _ hq => BX8_keyword (N := N) (RE := RE) @hrE (bE.rf E5.S) hq) hF (fun _ _ D8 E8 hF => ?_)
    refine b_if hF (fun hF => ?_) (fun hF => ?_)
    ·
      exact BX3_readBox_b129 (N := N) (RE := RE) (RN := RN) @hrE @hrN E8 hF
    ·
      exact BX3_readBox_b129 (N := N) (RE := RE) (RN := RN) @hrE @hrN E8 hF
  ·
    exact BX3_readBox_b129 (N := N) (RE := RE) (RN := RN) @hrE @hrN E5 hF
theorem BX3_readBox_b84 {σo : fS} {q : (Unit ⊕ Nat) × fS} {N : Nat} {RE : Int → fS → Option ((Unit ⊕ Nat) × fS)} {RN : fS → Option ((Int ⊕ Nat) × fS)} (hrE : ∀ {s : fS} {x1 : Int} {q}, bS 0 s → RE x1 s = some q → bE 0 s q.2) (hrN : ∀ {s : fS} {q}, bS 0 s → RN s = some q → bE 0 s q.2) {s : fS} {l1 : Int} {l2 : Int} {l3 : Int} {l4 : Int} (E : bE 0 σo s) (hF : FX3_readBox_b84 N RE RN l1 l2 l3 l4 s = some q) : bE 0 σo q.2 := by
  unfold FX3_readBox_b84 at hF
  exact BX3_readBox_b89 (N := N) (RE := RE) (RN := RN) @hrE @hrN E hF
theorem BX3_readBox {σo : fS} {q : (Unit ⊕ Nat) × fS} {N : Nat} {RE : Int → fS → Option ((Unit ⊕ Nat) × fS)} {RN : fS → Option ((Int ⊕ Nat) × fS)} (hrE : ∀ {s : fS} {x1 : Int} {q}, bS 0 s → RE x1 s = some q → bE 0 s q.2) (hrN : ∀ {s : fS} {q}, bS 0 s → RN s = some q → bE 0 s q.2) {s : fS} {p0 : Int} {p1 : Int} {p2 : Int} {p3 : Int} (E : bE 0 σo s) (hF : FX3_readBox N RE RN p0 p1 p2 p3 s = some q) : bE 0 σo q.2 := by
  unfold FX3_readBox at hF
  refine b_if hF (fun hF => ?_) (fun hF => ?_)
  ·
    exact BX3_readBox_b12 (N := N) (RE := RE) (RN := RN) @hrE @hrN E hF
  ·
    refine b_if hF (fun hF => ?_) (fun hF => ?_)
    ·
      refine b_if hF (fun hF => ?_) (fun hF => ?_)
      ·
        exact BX3_readBox_b84 (N := N) (RE := RE) (RN := RN) @hrE @hrN E hF
      ·
        refine b_if hF (fun hF => ?_) (fun hF => ?_)
        ·
          exact BX3_readBox_b89 (N := N) (RE := RE) (RN := RN) @hrE @hrN E hF
        ·
          exact BX3_readBox_b84 (N := N) (RE := RE) (RN := RN) @hrE @hrN E hF
    ·
      exact BX3_readBox_b12 (N := N) (RE := RE) (RN := RN) @hrE @hrN E hF
theorem BX8_set_b86 {σo : fS} {q : (Unit ⊕ Nat) × fS} {N : Nat} {RE : Int → fS → Option ((Unit ⊕ Nat) × fS)} {RN : fS → Option ((Int ⊕ Nat) × fS)} (hrE : ∀ {s : fS} {x1 : Int} {q}, bS 0 s → RE x1 s = some q → bE 0 s q.2) (hrN : ∀ {s : fS} {q}, bS 0 s → RN s = some q → bE 0 s q.2) {s : fS} (E : bE 0 σo s) (hF : FX8_set_b86 N RE RN s = some q) : bE 0 σo q.2 := by
  unfold FX8_set_b86 at hF
  exact b_ret E hF
theorem BX8_set {σo : fS} {q : (Unit ⊕ Nat) × fS} {N : Nat} {RE : Int → fS → Option ((Unit ⊕ Nat) × fS)} {RN : fS → Option ((Int ⊕ Nat) × fS)} (hrE : ∀ {s : fS} {x1 : Int} {q}, bS 0 s → RE x1 s = some q → bE 0 s q.2) (hrN : ∀ {s : fS} {q}, bS 0 s → RN s = some q → bE 0 s q.2) {s : fS} {p0 : Int} {p1 : Int} (E : bE 0 σo s) (hF : FX8_set N RE RN p0 p1 s = some q) : bE 0 σo q.2 := by
  unfold FX8_set at hF
  refine b_call E (fun _ hq => (BX8_isCounter (bE.rf E.S) hq)) hF (fun _ hq1 D1 E1 hF => ?_)
  refine b_if hF (fun hF => ?_) (fun hF => ?_)
  ·
    refine b_call E1 (fun _ hq => (BX8_isLength (bE.rf E1.S) hq)) hF (fun _ hq2 D2 E2 hF => ?_)
    refine b_if hF (fun hF => ?_) (fun hF => ?_)
    ·
      refine b_tB E2 (fun _ hq => BX8_cellOf (RN := RN) @hrN (bE.rf E2.S) hq) hF (fun _ _ D4 E4 hF => ?_)
      refine b_tB E4 (fun _ hq => BX8_equals (N := N) (RE := RE) @hrE (bE.rf E4.S) hq) hF (fun _ _ D6 E6 hF => ?_)
      refine b_tB E6 (fun _ hq => BX8_glue (N := N) (RE := RE) (RN := RN) @hrE @hrN (bE.rf E6.S) hq) hF (fun _ _ D8 E8 hF => ?_)
      refine b_call E8 (fun _ hq => (BX8_setGlue (N := N) (bE.rf E8.S) hq)) hF (fun _ hq10 D10 E10 hF => ?_)
      exact BX8_set_b86 (N := N) (RE := RE) (RN := RN) @hrE @hrN E10 hF
    ·
      refine b_tB E2 (fun _ hq => BX8_cellOf (RN := RN) @hrN (bE.rf E2.S) hq) hF (fun _ _ D12 E12 hF => ?_)
      refine b_tB E12 (fun _ hq => BX8_equals (N := N) (RE := RE) @hrE (bE.rf E12.S) hq) hF (fun _ _ D14 E14 hF => ?_)
      refine b_tB E14 (fun _ hq => BX8_dimension (N := N) (RE := RE) (RN := RN) @hrE @hrN (bE.rf E14.S) hq) hF (fun _ _ D17 E17 hF => ?_)
      refine b_call E17 (fun _ hq => (BX9_set (N := N) (bE.rf E17.S) hq)) hF (fun _ hq19 D19 E19 hF => ?_)
      exact BX8_set_b86 (N := N) (RE := RE) (RN := RN) @hrE @hrN E19 hF
  ·
    refine b_tB E1 (fun _ hq => BX8_cellOf (RN := RN) @hrN (bE.rf E1.S) hq) hF (fun _ _ D21 E21 hF => ?_)
    refine b_tB E21 (fun _ hq => BX8_equals (N := N) (RE := RE) @hrE (bE.rf E21.S) hq) hF (fun _ _ D23 E23 hF => ?_)
    refine b_tB E23 (fun _ hq => hrN E23.S hq) hF (fun _ _ D26 E26 hF => ?_)
    refine b_call E26 (fun _ hq => (BX9_set (N := N) (bE.rf E26.S) hq)) hF (fun _ hq28 D28 E28 hF => ?_)
    exact BX8_set_b86 (N := N) (RE := RE) (RN := RN) @hrE @hrN E28 hF
theorem BX12_open_b24 {σo : fS} {q : (Unit ⊕ Nat) × fS} {s : fS} {s1 : Int} (E : bE 0 σo s) (hF : FX12_open_b24 s1 s = some q) : bE 0 σo q.2 := by
  unfold FX12_open_b24 at hF
  refine b_tB E (fun _ hq => BX4_want (bE.rf E.S) hq) hF (fun _ _ D2 E2 hF => ?_)
  refine b_call E2 (fun _ hq => (BX1_grown (bE.rf E2.S) (E2.S.c0 (Nat.le_of_ble_eq_true rfl)) hq).1) hF (fun _ hq5 D5 E5 hF => ?_)
  refine b_mv E5 (E5.S.c0 (Nat.le_of_ble_eq_true rfl)) (BX1_grown (bE.rf E2.S) (E2.S.c0 (Nat.le_of_ble_eq_true rfl)) hq5).2 hF (fun _ D6 E6 hF => ?_)
  refine b_call E6 (fun _ hq => (BX1_grown (bE.rf E6.S) (E6.S.c0 (Nat.le_of_ble_eq_true rfl)) hq).1) hF (fun _ hq9 D9 E9 hF => ?_)
  refine b_mv E9 (E9.S.c0 (Nat.le_of_ble_eq_true rfl)) (BX1_grown (bE.rf E6.S) (E6.S.c0 (Nat.le_of_ble_eq_true rfl)) hq9).2 hF (fun _ D10 E10 hF => ?_)
  refine b_call E10 (fun _ hq => (BX1_grown (bE.rf E10.S) (E10.S.c0 (Nat.le_of_ble_eq_true rfl)) hq).1) hF (fun _ hq13 D13 E13 hF => ?_)
  refine b_mv E13 (E13.S.c0 (Nat.le_of_ble_eq_true rfl)) (BX1_grown (bE.rf E10.S) (E10.S.c0 (Nat.le_of_ble_eq_true rfl)) hq13).2 hF (fun _ D14 E14 hF => ?_)
  refine b_call E14 (fun _ hq => (BX1_grown (bE.rf E14.S) (E14.S.c0 (Nat.le_of_ble_eq_true rfl)) hq).1) hF (fun _ hq17 D17 E17 hF => ?_)
  refine b_mv E17 (E17.S.c0 (Nat.le_of_ble_eq_true rfl)) (BX1_grown (bE.rf E14.S) (E14.S.c0 (Nat.le_of_ble_eq_true rfl)) hq17).2 hF (fun _ D18 E18 hF => ?_)
  refine b_qI E18 (E18.S.c0 (Nat.le_of_ble_eq_true rfl)) hF (fun _ D22 E22 hF => ?_)
  exact b_ret E22 hF
theorem BX12_open {σo : fS} {q : (Unit ⊕ Nat) × fS} {s : fS} (E : bE 0 σo s) (hF : FX12_open s = some q) : bE 0 σo q.2 := by
  unfold FX12_open at hF
  refine b_if hF (fun hF => ?_) (fun hF => ?_)
  ·
    exact BX12_open_b24 E hF
  ·
    exact BX12_open_b24 E hF
theorem BX12_add_b26 {σo : fS} {q : (Unit ⊕ Nat) × fS} {s : fS} {l1 : Int} {s1 : Int} (E : bE 0 σo s) (hF : FX12_add_b26 l1 s1 s = some q) : bE 0 σo q.2 := by
  unfold FX12_add_b26 at hF
  refine b_tB E (fun _ hq => BX4_want (bE.rf E.S) hq) hF (fun _ _ D2 E2 hF => ?_)
  refine b_pI E2 (E2.S.c0 (Nat.le_of_ble_eq_true rfl)) hF (fun _ D5 E5 hF => ?_)
  refine b_qI E5 (E5.S.c0 (Nat.le_of_ble_eq_true rfl)) hF (fun _ D6 E6 hF => ?_)
  exact b_ret E6 hF
theorem BX12_add {σo : fS} {q : (Unit ⊕ Nat) × fS} {s : fS} {p0 : Int} (E : bE 0 σo s) (hF : FX12_add p0 s = some q) : bE 0 σo q.2 := by
  unfold FX12_add at hF
  refine b_if hF (fun hF => ?_) (fun hF => ?_)
  ·
    exact BX12_add_b26 E hF
  ·
    exact BX12_add_b26 E hF
theorem BX12_body {σo : fS} {q : Unit × fS} {s : fS} {p0 : Int} (E : bE 0 σo s) (hF : FX12_body p0 s = some q) : bE 0 σo q.2 := by
  unfold FX12_body at hF
  refine b_qI E (E.S.c0 (Nat.le_of_ble_eq_true rfl)) hF (fun _ D3 E3 hF => ?_)
  refine b_qI E3 (E3.S.c0 (Nat.le_of_ble_eq_true rfl)) hF (fun _ D7 E7 hF => ?_)
  exact b_ret E7 hF
theorem BX8_next_b15 {σo : fS} {q : (Int ⊕ Nat) × fS} {N : Nat} {RE : Int → fS → Option ((Unit ⊕ Nat) × fS)} (hrE : ∀ {s : fS} {x1 : Int} {q}, bS 0 s → RE x1 s = some q → bE 0 s q.2) {s : fS} {s0 : Int} (E : bE 0 σo s) (hF : FX8_next_b15 N RE s0 s = some q) : bE 0 σo q.2 := by
  unfold FX8_next_b15 at hF
  exact b_ret E hF
theorem BX8_next {σo : fS} {q : (Int ⊕ Nat) × fS} {N : Nat} {RE : Int → fS → Option ((Unit ⊕ Nat) × fS)} (hrE : ∀ {s : fS} {x1 : Int} {q}, bS 0 s → RE x1 s = some q → bE 0 s q.2) {s : fS} {p0 : Int} (E : bE 0 σo s) (hF : FX8_next N RE p0 s = some q) : bE 0 σo q.2 := by
  unfold FX8_next at hF
  refine b_if hF (fun hF => ?_) (fun hF => ?_)
  ·
    refine b_tB E (fun _ hq => BX8_need (N := N) (bE.rf E.S) hq) hF (fun _ _ D2 E2 hF => ?_)
    exact BX8_next_b15 (N := N) (RE := RE) @hrE E2 hF
  ·
    refine b_tB E (fun _ hq => BX8_needExpanded (N := N) (RE := RE) @hrE (bE.rf E.S) hq) hF (fun _ _ D4 E4 hF => ?_)
    exact BX8_next_b15 (N := N) (RE := RE) @hrE E4 hF
theorem BX8_readBody_b168 {σo : fS} {q : (Unit ⊕ Nat) × fS} {N : Nat} {RE : Int → fS → Option ((Unit ⊕ Nat) × fS)} {K2 : Int → Int → Int → fS → Option ((Unit ⊕ Nat) × fS)} (hrE : ∀ {s : fS} {x1 : Int} {q}, bS 0 s → RE x1 s = some q → bE 0 s q.2) (hk2 : ∀ {s : fS} {l1 : Int} {l2 : Int} {l3 : Int}, bE 0 σo s → K2 l1 l2 l3 s = some q → bE 0 σo q.2) {s : fS} {l1 : Int} {l2 : Int} {l3 : Int} (E : bE 0 σo s) (hF : FX8_readBody_b168 N RE K2 l1 l2 l3 s = some q) : bE 0 σo q.2 := by
  unfold FX8_readBody_b168 at hF
  exact hk2 E hF
theorem BX8_readBody_b146 {σo : fS} {q : (Unit ⊕ Nat) × fS} {N : Nat} {RE : Int → fS → Option ((Unit ⊕ Nat) × fS)} {K2 : Int → Int → Int → fS → Option ((Unit ⊕ Nat) × fS)} (hrE : ∀ {s : fS} {x1 : Int} {q}, bS 0 s → RE x1 s = some q → bE 0 s q.2) (hk2 : ∀ {s : fS} {l1 : Int} {l2 : Int} {l3 : Int}, bE 0 σo s → K2 l1 l2 l3 s = some q → bE 0 σo q.2) {s : fS} {l1 : Int} {l2 : Int} {l3 : Int} {s1 : Int} (E : bE 0 σo s) (hF : FX8_readBody_b146 N RE K2 l1 l2 l3 s1 s = some q) : bE 0 σo q.2 := by
  unfold FX8_readBody_b146 at hF
  refine b_tB E (fun _ hq => BX12_add (bE.rf E.S) hq) hF (fun _ _ D2 E2 hF => ?_)
  exact BX8_readBody_b168 (N := N) (RE := RE) (K2 := K2) @hrE @hk2 E2 hF
theorem BX8_readBody_b116 {σo : fS} {q : (Unit ⊕ Nat) × fS} {N : Nat} {RE : Int → fS → Option ((Unit ⊕ Nat) × fS)} {K2 : Int → Int → Int → fS → Option ((Unit ⊕ Nat) × fS)} (hrE : ∀ {s : fS} {x1 : Int} {q}, bS 0 s → RE x1 s = some q → bE 0 s q.2) (hk2 : ∀ {s : fS} {l1 : Int} {l2 : Int} {l3 : Int}, bE 0 σo s → K2 l1 l2 l3 s = some q → bE 0 σo q.2) {s : fS} {l1 : Int} {l2 : Int} {l3 : Int} {l5 : Int} {l6 : Int} {s1 : Int} (E : bE 0 σo s) (hF : FX8_readBody_b116 N RE K2 l1 l2 l3 l5 l6 s1 s = some q) : bE 0 σo q.2 := by
  unfold FX8_readBody_b116 at hF
  refine b_tB E (fun _ hq => BX4_want (bE.rf E.S) hq) hF (fun _ _ D2 E2 hF => ?_)
  refine b_if hF (fun hF => ?_) (fun hF => ?_)
  ·
    exact BX8_readBody_b146 (N := N) (RE := RE) (K2 := K2) @hrE @hk2 E2 hF
  ·
    exact BX8_readBody_b146 (N := N) (RE := RE) (K2 := K2) @hrE @hk2 E2 hF
theorem BX8_readBody_b111 {σo : fS} {q : (Unit ⊕ Nat) × fS} {N : Nat} {RE : Int → fS → Option ((Unit ⊕ Nat) × fS)} {K2 : Int → Int → Int → fS → Option ((Unit ⊕ Nat) × fS)} (hrE : ∀ {s : fS} {x1 : Int} {q}, bS 0 s → RE x1 s = some q → bE 0 s q.2) (hk2 : ∀ {s : fS} {l1 : Int} {l2 : Int} {l3 : Int}, bE 0 σo s → K2 l1 l2 l3 s = some q → bE 0 σo q.2) {s : fS} {l1 : Int} {l2 : Int} {l3 : Int} {l5 : Int} {l6 : Int} (E : bE 0 σo s) (hF : FX8_readBody_b111 N RE K2 l1 l2 l3 l5 l6 s = some q) : bE 0 σo q.2 := by
  unfold FX8_readBody_b111 at hF
  exact BX8_readBody_b116 (N := N) (RE := RE) (K2 := K2) @hrE @hk2 E hF
theorem BX8_readBody_b90 {σo : fS} {q : (Unit ⊕ Nat) × fS} {N : Nat} {RE : Int → fS → Option ((Unit ⊕ Nat) × fS)} {K2 : Int → Int → Int → fS → Option ((Unit ⊕ Nat) × fS)} (hrE : ∀ {s : fS} {x1 : Int} {q}, bS 0 s → RE x1 s = some q → bE 0 s q.2) (hk2 : ∀ {s : fS} {l1 : Int} {l2 : Int} {l3 : Int}, bE 0 σo s → K2 l1 l2 l3 s = some q → bE 0 σo q.2) {s : fS} {l1 : Int} {l2 : Int} {l3 : Int} {l5 : Int} {s0 : Int} (E : bE 0 σo s) (hF : FX8_readBody_b90 N RE K2 l1 l2 l3 l5 s0 s = some q) : bE 0 σo q.2 := by
  unfold FX8_readBody_b90 at hF
  refine b_if hF (fun hF => ?_) (fun hF => ?_)
  ·
    exact BX8_readBody_b111 (N := N) (RE := RE) (K2 := K2) @hrE @hk2 E hF
  ·
    refine b_call E (fun _ hq => (BX1_is (bE.rf E.S) hq)) hF (fun _ hq2 D2 E2 hF => ?_)
    refine b_if hF (fun hF => ?_) (fun hF => ?_)
    ·
      exact BX8_readBody_b116 (N := N) (RE := RE) (K2 := K2) @hrE @hk2 E2 hF
    ·
      exact BX8_readBody_b111 (N := N) (RE := RE) (K2 := K2) @hrE @hk2 E2 hF
theorem BX8_readBody_b89 {σo : fS} {q : (Unit ⊕ Nat) × fS} {N : Nat} {RE : Int → fS → Option ((Unit ⊕ Nat) × fS)} {K2 : Int → Int → Int → fS → Option ((Unit ⊕ Nat) × fS)} (hrE : ∀ {s : fS} {x1 : Int} {q}, bS 0 s → RE x1 s = some q → bE 0 s q.2) (hk2 : ∀ {s : fS} {l1 : Int} {l2 : Int} {l3 : Int}, bE 0 σo s → K2 l1 l2 l3 s = some q → bE 0 σo q.2) {s : fS} {l1 : Int} {l2 : Int} {l3 : Int} {l5 : Int} (E : bE 0 σo s) (hF : FX8_readBody_b89 N RE K2 l1 l2 l3 l5 s = some q) : bE 0 σo q.2 := by
  unfold FX8_readBody_b89 at hF
  exact BX8_readBody_b90 (N := N) (RE := RE) (K2 := K2) @hrE @hk2 E hF
theorem BX8_readBody_b41 {σo : fS} {q : (Unit ⊕ Nat) × fS} {N : Nat} {RE : Int → fS → Option ((Unit ⊕ Nat) × fS)} {K2 : Int → Int → Int → fS → Option ((Unit ⊕ Nat) × fS)} (hrE : ∀ {s : fS} {x1 : Int} {q}, bS 0 s → RE x1 s = some q → bE 0 s q.2) (hk2 : ∀ {s : fS} {l1 : Int} {l2 : Int} {l3 : Int}, bE 0 σo s → K2 l1 l2 l3 s = some q → bE 0 σo q.2) {s : fS} {l1 : Int} {l2 : Int} {l4 : Int} {s0 : Int} {s1 : Int} (E : bE 0 σo s) (hF : FX8_readBody_b41 N RE K2 l1 l2 l4 s0 s1 s = some q) : bE 0 σo q.2 := by
  unfold FX8_readBody_b41 at hF
  refine b_call E (fun _ hq => (BX1_is (bE.rf E.S) hq)) hF (fun _ hq1 D1 E1 hF => ?_)
  refine b_if hF (fun hF => ?_) (fun hF => ?_)
  ·
    refine b_if hF (fun hF => ?_) (fun hF => ?_)
    ·
      exact BX8_readBody_b168 (N := N) (RE := RE) (K2 := K2) @hrE @hk2 E1 hF
    ·
      refine b_call E1 (fun _ hq => (BX8_bare (bE.rf E1.S) hq)) hF (fun _ hq3 D3 E3 hF => ?_)
      refine b_tB E3 (fun _ hq => BX12_add (bE.rf E3.S) hq) hF (fun _ _ D5 E5 hF => ?_)
      exact BX8_readBody_b168 (N := N) (RE := RE) (K2 := K2) @hrE @hk2 E5 hF
  ·
    refine b_tB E1 (fun _ hq => BX8_next (N := N) (RE := RE) @hrE (bE.rf E1.S) hq) hF (fun _ _ D7 E7 hF => ?_)
    refine b_call E7 (fun _ hq => (BX1_isDigit (bE.rf E7.S) hq)) hF (fun _ hq8 D8 E8 hF => ?_)
    refine b_if hF (fun hF => ?_) (fun hF => ?_)
    ·
      exact BX8_readBody_b89 (N := N) (RE := RE) (K2 := K2) @hrE @hk2 E8 hF
    ·
      refine b_if hF (fun hF => ?_) (fun hF => ?_)
      ·
        exact BX8_readBody_b89 (N := N) (RE := RE) (K2 := K2) @hrE @hk2 E8 hF
      ·
        refine b_if hF (fun hF => ?_) (fun hF => ?_)
        ·
          exact BX8_readBody_b89 (N := N) (RE := RE) (K2 := K2) @hrE @hk2 E8 hF
        ·
          exact BX8_readBody_b90 (N := N) (RE := RE) (K2 := K2) @hrE @hk2 E8 hF
theorem BX8_readBody_b2 {σo : fS} {q : (Unit ⊕ Nat) × fS} {N : Nat} {RE : Int → fS → Option ((Unit ⊕ Nat) × fS)} (hrE : ∀ {s : fS} {x1 : Int} {q}, bS 0 s → RE x1 s = some q → bE 0 s q.2) : ∀ {n : Nat} {s : fS} {l1 : Int} {l2 : Int} {l3 : Int}, bE 0 σo s → FX8_readBody_b2 N RE n l1 l2 l3 s = some q → bE 0 σo q.2 := by
  intro n
  induction n with
  | zero => intro s l1 l2 l3 E  hF; simp [FX8_readBody_b2] at hF
  | succ n ih =>
    intro s l1 l2 l3 E  hF
    rw [FX8_readBody_b2] at hF
    refine b_if hF (fun hF => ?_) (fun hF => ?_)
    ·
      exact b_ret E hF
    ·
      refine b_tB E (fun _ hq => BX8_next (N := N) (RE := RE) @hrE (bE.rf E.S) hq) hF (fun _ _ D2 E2 hF => ?_)
      refine b_call E2 (fun _ hq => (BX1_is (bE.rf E2.S) hq)) hF (fun _ hq3 D3 E3 hF => ?_)
      refine b_if hF (fun hF => ?_) (fun hF => ?_)
      ·
        refine b_call E3 (fun _ hq => (BX1_is (bE.rf E3.S) hq)) hF (fun _ hq4 D4 E4 hF => ?_)
        refine b_if hF (fun hF => ?_) (fun hF => ?_)
        ·
          exact BX8_readBody_b41 (N := N) (RE := RE) (K2 := FX8_readBody_b2 N RE n) @hrE @ih E4 hF
        ·
          exact BX8_readBody_b41 (N := N) (RE := RE) (K2 := FX8_readBody_b2 N RE n) @hrE @ih E4 hF
      ·
        exact BX8_readBody_b41 (N := N) (RE := RE) (K2 := FX8_readBody_b2 N RE n) @hrE @ih E3 hF
theorem BX8_readBody {σo : fS} {q : (Unit ⊕ Nat) × fS} {N : Nat} {RE : Int → fS → Option ((Unit ⊕ Nat) × fS)} (hrE : ∀ {s : fS} {x1 : Int} {q}, bS 0 s → RE x1 s = some q → bE 0 s q.2) {s : fS} {p0 : Int} {p1 : Int} (E : bE 0 σo s) (hF : FX8_readBody N RE p0 p1 s = some q) : bE 0 σo q.2 := by
  unfold FX8_readBody at hF
  exact BX8_readBody_b2 (N := N) (RE := RE) @hrE E hF
theorem BX12_close {σo : fS} {q : Int × fS} {s : fS} (E : bE 0 σo s) (hF : FX12_close s = some q) : bE 0 σo q.2 := by
  unfold FX12_close at hF
  refine b_qI E (E.S.c0 (Nat.le_of_ble_eq_true rfl)) hF (fun _ D4 E4 hF => ?_)
  refine b_pI E4 (E4.S.c0 (Nat.le_of_ble_eq_true rfl)) hF (fun _ D6 E6 hF => ?_)
  exact b_ret E6 hF
theorem BX8_define_b140 {σo : fS} {q : (Unit ⊕ Nat) × fS} {N : Nat} {RE : Int → fS → Option ((Unit ⊕ Nat) × fS)} {K21 : Int → Int → Int → Int → Int → fS → Option ((Unit ⊕ Nat) × fS)} (hrE : ∀ {s : fS} {x1 : Int} {q}, bS 0 s → RE x1 s = some q → bE 0 s q.2) (hk21 : ∀ {s : fS} {l1 : Int} {l2 : Int} {l3 : Int} {l4 : Int} {l5 : Int}, bE 0 σo s → K21 l1 l2 l3 l4 l5 s = some q → bE 0 σo q.2) {s : fS} {l1 : Int} {l2 : Int} {l3 : Int} {l4 : Int} (E : bE 0 σo s) (hF : FX8_define_b140 N RE K21 l1 l2 l3 l4 s = some q) : bE 0 σo q.2 := by
  unfold FX8_define_b140 at hF
  refine b_tB E (fun _ hq => BX8_need (N := N) (bE.rf E.S) hq) hF (fun _ _ D2 E2 hF => ?_)
  exact hk21 E2 hF
theorem BX8_define_b104 {σo : fS} {q : (Unit ⊕ Nat) × fS} {N : Nat} {RE : Int → fS → Option ((Unit ⊕ Nat) × fS)} {K21 : Int → Int → Int → Int → Int → fS → Option ((Unit ⊕ Nat) × fS)} (hrE : ∀ {s : fS} {x1 : Int} {q}, bS 0 s → RE x1 s = some q → bE 0 s q.2) (hk21 : ∀ {s : fS} {l1 : Int} {l2 : Int} {l3 : Int} {l4 : Int} {l5 : Int}, bE 0 σo s → K21 l1 l2 l3 l4 l5 s = some q → bE 0 σo q.2) {s : fS} {l1 : Int} {l2 : Int} {l3 : Int} {l4 : Int} {s1 : Int} (E : bE 0 σo s) (hF : FX8_define_b104 N RE K21 l1 l2 l3 l4 s1 s = some q) : bE 0 σo q.2 := by
  unfold FX8_define_b104 at hF
  refine b_tB E (fun _ hq => BX4_want (bE.rf E.S) hq) hF (fun _ _ D2 E2 hF => ?_)
  refine b_tB E2 (fun _ hq => BX12_add (bE.rf E2.S) hq) hF (fun _ _ D5 E5 hF => ?_)
  exact BX8_define_b140 (N := N) (RE := RE) (K21 := K21) @hrE @hk21 E5 hF
theorem BX8_define_b103 {σo : fS} {q : (Unit ⊕ Nat) × fS} {N : Nat} {RE : Int → fS → Option ((Unit ⊕ Nat) × fS)} {K21 : Int → Int → Int → Int → Int → fS → Option ((Unit ⊕ Nat) × fS)} (hrE : ∀ {s : fS} {x1 : Int} {q}, bS 0 s → RE x1 s = some q → bE 0 s q.2) (hk21 : ∀ {s : fS} {l1 : Int} {l2 : Int} {l3 : Int} {l4 : Int} {l5 : Int}, bE 0 σo s → K21 l1 l2 l3 l4 l5 s = some q → bE 0 σo q.2) {s : fS} {l1 : Int} {l2 : Int} {l3 : Int} {l4 : Int} (E : bE 0 σo s) (hF : FX8_define_b103 N RE K21 l1 l2 l3 l4 s = some q) : bE 0 σo q.2 := by
  unfold FX8_define_b103 at hF
  exact BX8_define_b104 (N := N) (RE := RE) (K21 := K21) @hrE @hk21 E hF
theorem BX8_define_b48 {σo : fS} {q : (Unit ⊕ Nat) × fS} {N : Nat} {RE : Int → fS → Option ((Unit ⊕ Nat) × fS)} {K21 : Int → Int → Int → Int → Int → fS → Option ((Unit ⊕ Nat) × fS)} (hrE : ∀ {s : fS} {x1 : Int} {q}, bS 0 s → RE x1 s = some q → bE 0 s q.2) (hk21 : ∀ {s : fS} {l1 : Int} {l2 : Int} {l3 : Int} {l4 : Int} {l5 : Int}, bE 0 σo s → K21 l1 l2 l3 l4 l5 s = some q → bE 0 σo q.2) {s : fS} {l1 : Int} {l2 : Int} {l3 : Int} {l4 : Int} {l5 : Int} {s1 : Int} (E : bE 0 σo s) (hF : FX8_define_b48 N RE K21 l1 l2 l3 l4 l5 s1 s = some q) : bE 0 σo q.2 := by
  unfold FX8_define_b48 at hF
  refine b_tB E (fun _ hq => BX4_want (bE.rf E.S) hq) hF (fun _ _ D2 E2 hF => ?_)
  refine b_call E2 (fun _ hq => (BX1_is (bE.rf E2.S) hq)) hF (fun _ hq3 D3 E3 hF => ?_)
  refine b_if hF (fun hF => ?_) (fun hF => ?_)
  ·
    refine b_call E3 (fun _ hq => (BX8_bare (bE.rf E3.S) hq)) hF (fun _ hq5 D5 E5 hF => ?_)
    refine b_tB E5 (fun _ hq => BX12_add (bE.rf E5.S) hq) hF (fun _ _ D7 E7 hF => ?_)
    exact BX8_define_b140 (N := N) (RE := RE) (K21 := K21) @hrE @hk21 E7 hF
  ·
    refine b_tB E3 (fun _ hq => BX8_need (N := N) (bE.rf E3.S) hq) hF (fun _ _ D9 E9 hF => ?_)
    refine b_if hF (fun hF => ?_) (fun hF => ?_)
    ·
      exact BX8_define_b103 (N := N) (RE := RE) (K21 := K21) @hrE @hk21 E9 hF
    ·
      refine b_call E9 (fun _ hq => (BX1_isDigit (bE.rf E9.S) hq)) hF (fun _ hq11 D11 E11 hF => ?_)
      refine b_if hF (fun hF => ?_) (fun hF => ?_)
      ·
        exact BX8_define_b103 (N := N) (RE := RE) (K21 := K21) @hrE @hk21 E11 hF
      ·
        refine b_if hF (fun hF => ?_) (fun hF => ?_)
        ·
          exact BX8_define_b103 (N := N) (RE := RE) (K21 := K21) @hrE @hk21 E11 hF
        ·
          exact BX8_define_b104 (N := N) (RE := RE) (K21 := K21) @hrE @hk21 E11 hF
theorem BX8_define_b176 {σo : fS} {q : (Unit ⊕ Nat) × fS} {N : Nat} {RE : Int → fS → Option ((Unit ⊕ Nat) × fS)} (hrE : ∀ {s : fS} {x1 : Int} {q}, bS 0 s → RE x1 s = some q → bE 0 s q.2) {s : fS} {l2 : Int} {l3 : Int} {l4 : Int} {s1 : Int} (E : bE 0 σo s) (hF : FX8_define_b176 N RE l2 l3 l4 s1 s = some q) : bE 0 σo q.2 := by
  unfold FX8_define_b176 at hF
  refine b_tB E (fun _ hq => BX8_readBody (N := N) (RE := RE) @hrE (bE.rf E.S) hq) hF (fun _ _ D2 E2 hF => ?_)
  refine b_call E2 (fun _ hq => (BX12_close (bE.rf E2.S) hq)) hF (fun _ hq6 D6 E6 hF => ?_)
  refine b_call E6 (fun _ hq => (BX9_mean (N := N) (bE.rf E6.S) hq)) hF (fun _ hq8 D8 E8 hF => ?_)
  exact b_ret E8 hF
theorem BX8_define_b171 {σo : fS} {q : (Unit ⊕ Nat) × fS} {N : Nat} {RE : Int → fS → Option ((Unit ⊕ Nat) × fS)} (hrE : ∀ {s : fS} {x1 : Int} {q}, bS 0 s → RE x1 s = some q → bE 0 s q.2) {s : fS} {l2 : Int} {l3 : Int} {l4 : Int} (E : bE 0 σo s) (hF : FX8_define_b171 N RE l2 l3 l4 s = some q) : bE 0 σo q.2 := by
  unfold FX8_define_b171 at hF
  exact BX8_define_b176 (N := N) (RE := RE) @hrE E hF
theorem BX8_define_b21 {σo : fS} {q : (Unit ⊕ Nat) × fS} {N : Nat} {RE : Int → fS → Option ((Unit ⊕ Nat) × fS)} (hrE : ∀ {s : fS} {x1 : Int} {q}, bS 0 s → RE x1 s = some q → bE 0 s q.2) : ∀ {n : Nat} {s : fS} {l1 : Int} {l2 : Int} {l3 : Int} {l4 : Int} {l5 : Int}, bE 0 σo s → FX8_define_b21 N RE n l1 l2 l3 l4 l5 s = some q → bE 0 σo q.2 := by
  intro n
  induction n with
  | zero => intro s l1 l2 l3 l4 l5 E  hF; simp [FX8_define_b21] at hF
  | succ n ih =>
    intro s l1 l2 l3 l4 l5 E  hF
    rw [FX8_define_b21] at hF
    refine b_call E (fun _ hq => (BX1_is (bE.rf E.S) hq)) hF (fun _ hq1 D1 E1 hF => ?_)
    refine b_if hF (fun hF => ?_) (fun hF => ?_)
    ·
      refine b_call E1 (fun _ hq => (BX12_body (bE.rf E1.S) hq)) hF (fun _ hq4 D4 E4 hF => ?_)
      refine b_if hF (fun hF => ?_) (fun hF => ?_)
      ·
        exact BX8_define_b171 (N := N) (RE := RE) @hrE E4 hF
      ·
        refine b_if hF (fun hF => ?_) (fun hF => ?_)
        ·
          exact BX8_define_b176 (N := N) (RE := RE) @hrE E4 hF
        ·
          exact BX8_define_b171 (N := N) (RE := RE) @hrE E4 hF
    ·
      refine b_call E1 (fun _ hq => (BX1_is (bE.rf E1.S) hq)) hF (fun _ hq6 D6 E6 hF => ?_)
      refine b_if hF (fun hF => ?_) (fun hF => ?_)
      ·
        exact BX8_define_b48 (N := N) (RE := RE) (K21 := FX8_define_b21 N RE n) @hrE @ih E6 hF
      ·
        exact BX8_define_b48 (N := N) (RE := RE) (K21 := FX8_define_b21 N RE n) @hrE @ih E6 hF
theorem BX8_define {σo : fS} {q : (Unit ⊕ Nat) × fS} {N : Nat} {RE : Int → fS → Option ((Unit ⊕ Nat) × fS)} (hrE : ∀ {s : fS} {x1 : Int} {q}, bS 0 s → RE x1 s = some q → bE 0 s q.2) {s : fS} {p0 : Int} {p1 : Int} (E : bE 0 σo s) (hF : FX8_define N RE p0 p1 s = some q) : bE 0 σo q.2 := by
  unfold FX8_define at hF
  refine b_tB E (fun _ hq => BX8_target (N := N) (bE.rf E.S) hq) hF (fun _ _ D2 E2 hF => ?_)
  refine b_tB E2 (fun _ hq => BX12_open (bE.rf E2.S) hq) hF (fun _ _ D5 E5 hF => ?_)
  refine b_tB E5 (fun _ hq => BX8_need (N := N) (bE.rf E5.S) hq) hF (fun _ _ D7 E7 hF => ?_)
  exact BX8_define_b21 (N := N) (RE := RE) @hrE E7 hF
theorem BX3_set_b250 {σo : fS} {q : (Unit ⊕ Nat) × fS} {N : Nat} {RE : Int → fS → Option ((Unit ⊕ Nat) × fS)} {RN : fS → Option ((Int ⊕ Nat) × fS)} (hrE : ∀ {s : fS} {x1 : Int} {q}, bS 0 s → RE x1 s = some q → bE 0 s q.2) (hrN : ∀ {s : fS} {q}, bS 0 s → RN s = some q → bE 0 s q.2) {s : fS} (E : bE 0 σo s) (hF : FX3_set_b250 N RE RN s = some q) : bE 0 σo q.2 := by
  unfold FX3_set_b250 at hF
  exact b_ret E hF
theorem BX3_set_b247 {σo : fS} {q : (Unit ⊕ Nat) × fS} {N : Nat} {RE : Int → fS → Option ((Unit ⊕ Nat) × fS)} {RN : fS → Option ((Int ⊕ Nat) × fS)} (hrE : ∀ {s : fS} {x1 : Int} {q}, bS 0 s → RE x1 s = some q → bE 0 s q.2) (hrN : ∀ {s : fS} {q}, bS 0 s → RN s = some q → bE 0 s q.2) {s : fS} {s1 : Int} {s2 : Int} (E : bE 0 σo s) (hF : FX3_set_b247 N RE RN s1 s2 s = some q) : bE 0 σo q.2 := by
  unfold FX3_set_b247 at hF
  refine b_tB E (fun _ hq => BX8_define (N := N) (RE := RE) @hrE (bE.rf E.S) hq) hF (fun _ _ D2 E2 hF => ?_)
  exact BX3_set_b250 (N := N) (RE := RE) (RN := RN) @hrE @hrN E2 hF
theorem BX3_set_b242 {σo : fS} {q : (Unit ⊕ Nat) × fS} {N : Nat} {RE : Int → fS → Option ((Unit ⊕ Nat) × fS)} {RN : fS → Option ((Int ⊕ Nat) × fS)} (hrE : ∀ {s : fS} {x1 : Int} {q}, bS 0 s → RE x1 s = some q → bE 0 s q.2) (hrN : ∀ {s : fS} {q}, bS 0 s → RN s = some q → bE 0 s q.2) {s : fS} {s1 : Int} (E : bE 0 σo s) (hF : FX3_set_b242 N RE RN s1 s = some q) : bE 0 σo q.2 := by
  unfold FX3_set_b242 at hF
  exact BX3_set_b247 (N := N) (RE := RE) (RN := RN) @hrE @hrN E hF
theorem BX3_set {σo : fS} {q : (Unit ⊕ Nat) × fS} {N : Nat} {RE : Int → fS → Option ((Unit ⊕ Nat) × fS)} {RN : fS → Option ((Int ⊕ Nat) × fS)} (hrE : ∀ {s : fS} {x1 : Int} {q}, bS 0 s → RE x1 s = some q → bE 0 s q.2) (hrN : ∀ {s : fS} {q}, bS 0 s → RN s = some q → bE 0 s q.2) {s : fS} {p0 : Int} {p1 : Int} (E : bE 0 σo s) (hF : FX3_set N RE RN p0 p1 s = some q) : bE 0 σo q.2 := by
  unfold FX3_set at hF
  refine b_if hF (fun hF => ?_) (fun hF => ?_)
  ·
    refine b_tB E (fun _ hq => BX8_let (N := N) (bE.rf E.S) hq) hF (fun _ _ D3 E3 hF => ?_)
    exact BX3_set_b250 (N := N) (RE := RE) (RN := RN) @hrE @hrN E3 hF
  ·
    refine b_if hF (fun hF => ?_) (fun hF => ?_)
    ·
      refine b_tB E (fun _ hq => BX8_target (N := N) (bE.rf E.S) hq) hF (fun _ _ D6 E6 hF => ?_)
      refine b_tB E6 (fun _ hq => BX8_equals (N := N) (RE := RE) @hrE (bE.rf E6.S) hq) hF (fun _ _ D9 E9 hF => ?_)
      refine b_tB E9 (fun _ hq => BX8_within (RN := RN) @hrN (bE.rf E9.S) hq) hF (fun _ _ D13 E13 hF => ?_)
      refine b_call E13 (fun _ hq => (BX9_mean (N := N) (bE.rf E13.S) hq)) hF (fun _ hq15 D15 E15 hF => ?_)
      exact BX3_set_b250 (N := N) (RE := RE) (RN := RN) @hrE @hrN E15 hF
    ·
      refine b_if hF (fun hF => ?_) (fun hF => ?_)
      ·
        refine b_tB E (fun _ hq => BX3_newFont (N := N) (RE := RE) (RN := RN) @hrE @hrN (bE.rf E.S) hq) hF (fun _ _ D17 E17 hF => ?_)
        exact BX3_set_b250 (N := N) (RE := RE) (RN := RN) @hrE @hrN E17 hF
      ·
        refine b_if hF (fun hF => ?_) (fun hF => ?_)
        ·
          refine b_tB E (fun _ hq => BX8_within (RN := RN) @hrN (bE.rf E.S) hq) hF (fun _ _ D20 E20 hF => ?_)
          refine b_tB E20 (fun _ hq => BX8_equals (N := N) (RE := RE) @hrE (bE.rf E20.S) hq) hF (fun _ _ D23 E23 hF => ?_)
          refine b_tB E23 (fun _ hq => BX8_within (RN := RN) @hrN (bE.rf E23.S) hq) hF (fun _ _ D27 E27 hF => ?_)
          refine b_call E27 (fun _ hq => (BX9_set (N := N) (bE.rf E27.S) hq)) hF (fun _ hq29 D29 E29 hF => ?_)
          exact BX3_set_b250 (N := N) (RE := RE) (RN := RN) @hrE @hrN E29 hF
        ·
          refine b_if hF (fun hF => ?_) (fun hF => ?_)
          ·
            refine b_tB E (fun _ hq => BX8_reckon (N := N) (RE := RE) (RN := RN) @hrE @hrN (bE.rf E.S) hq) hF (fun _ _ D32 E32 hF => ?_)
            exact BX3_set_b250 (N := N) (RE := RE) (RN := RN) @hrE @hrN E32 hF
          ·
            refine b_if hF (fun hF => ?_) (fun hF => ?_)
            ·
              refine b_tB E (fun _ hq => BX8_reckon (N := N) (RE := RE) (RN := RN) @hrE @hrN (bE.rf E.S) hq) hF (fun _ _ D35 E35 hF => ?_)
              exact BX3_set_b250 (N := N) (RE := RE) (RN := RN) @hrE @hrN E35 hF
            ·
              refine b_if hF (fun hF => ?_) (fun hF => ?_)
              ·
                refine b_tB E (fun _ hq => BX8_reckon (N := N) (RE := RE) (RN := RN) @hrE @hrN (bE.rf E.S) hq) hF (fun _ _ D38 E38 hF => ?_)
                exact BX3_set_b250 (N := N) (RE := RE) (RN := RN) @hrE @hrN E38 hF
              ·
                refine b_if hF (fun hF => ?_) (fun hF => ?_)
                ·
                  refine b_tB E (fun _ hq => BX8_within (RN := RN) @hrN (bE.rf E.S) hq) hF (fun _ _ D41 E41 hF => ?_)
                  refine b_tB E41 (fun _ hq => BX8_equals (N := N) (RE := RE) @hrE (bE.rf E41.S) hq) hF (fun _ _ D44 E44 hF => ?_)
                  refine b_tB E44 (fun _ hq => BX3_solid (N := N) (RE := RE) @hrE (bE.rf E44.S) hq) hF (fun _ _ D47 E47 hF => ?_)
                  refine b_call E47 (fun _ hq => (BX8_primitive (bE.rf E47.S) hq)) hF (fun _ hq49 D49 E49 hF => ?_)
                  refine b_tB E49 (fun _ hq => BX3_readBox (N := N) (RE := RE) (RN := RN) @hrE @hrN (bE.rf E49.S) hq) hF (fun _ _ D51 E51 hF => ?_)
                  exact BX3_set_b250 (N := N) (RE := RE) (RN := RN) @hrE @hrN E51 hF
                ·
                  refine b_if hF (fun hF => ?_) (fun hF => ?_)
                  ·
                    refine b_if hF (fun hF => ?_) (fun hF => ?_)
                    ·
                      exact BX3_set_b242 (N := N) (RE := RE) (RN := RN) @hrE @hrN E hF
                    ·
                      refine b_if hF (fun hF => ?_) (fun hF => ?_)
                      ·
                        exact BX3_set_b242 (N := N) (RE := RE) (RN := RN) @hrE @hrN E hF
                      ·
                        refine b_if hF (fun hF => ?_) (fun hF => ?_)
                        ·
                          exact BX3_set_b247 (N := N) (RE := RE) (RN := RN) @hrE @hrN E hF
                        ·
                          exact BX3_set_b242 (N := N) (RE := RE) (RN := RN) @hrE @hrN E hF
                  ·
                    refine b_tB E (fun _ hq => BX8_set (N := N) (RE := RE) (RN := RN) @hrE @hrN (bE.rf E.S) hq) hF (fun _ _ D55 E55 hF => ?_)
                    exact BX3_set_b250 (N := N) (RE := RE) (RN := RN) @hrE @hrN E55 hF
theorem BX3_actGlobal_b39 {σo : fS} {q : (Unit ⊕ Nat) × fS} {N : Nat} {RE : Int → fS → Option ((Unit ⊕ Nat) × fS)} {RN : fS → Option ((Int ⊕ Nat) × fS)} (hrE : ∀ {s : fS} {x1 : Int} {q}, bS 0 s → RE x1 s = some q → bE 0 s q.2) (hrN : ∀ {s : fS} {q}, bS 0 s → RN s = some q → bE 0 s q.2) {s : fS} {l1 : Int} {s1 : Int} (E : bE 0 σo s) (hF : FX3_actGlobal_b39 N RE RN l1 s1 s = some q) : bE 0 σo q.2 := by
  unfold FX3_actGlobal_b39 at hF
  refine b_tB E (fun _ hq => BX4_want (bE.rf E.S) hq) hF (fun _ _ D2 E2 hF => ?_)
  refine b_tB E2 (fun _ hq => BX3_set (N := N) (RE := RE) (RN := RN) @hrE @hrN (bE.rf E2.S) hq) hF (fun _ _ D4 E4 hF => ?_)
  exact b_ret E4 hF
theorem BX3_actGlobal_b3 {σo : fS} {q : (Unit ⊕ Nat) × fS} {N : Nat} {RE : Int → fS → Option ((Unit ⊕ Nat) × fS)} {RN : fS → Option ((Int ⊕ Nat) × fS)} (hrE : ∀ {s : fS} {x1 : Int} {q}, bS 0 s → RE x1 s = some q → bE 0 s q.2) (hrN : ∀ {s : fS} {q}, bS 0 s → RN s = some q → bE 0 s q.2) : ∀ {n : Nat} {s : fS} {l1 : Int}, bE 0 σo s → FX3_actGlobal_b3 N RE RN n l1 s = some q → bE 0 σo q.2 := by
  intro n
  induction n with
  | zero => intro s l1 E  hF; simp [FX3_actGlobal_b3] at hF
  | succ n ih =>
    intro s l1 E  hF
    rw [FX3_actGlobal_b3] at hF
    refine b_if hF (fun hF => ?_) (fun hF => ?_)
    ·
      refine b_if hF (fun hF => ?_) (fun hF => ?_)
      ·
        exact BX3_actGlobal_b39 (N := N) (RE := RE) (RN := RN) @hrE @hrN E hF
      ·
        exact BX3_actGlobal_b39 (N := N) (RE := RE) (RN := RN) @hrE @hrN E hF
    ·
      refine b_tB E (fun _ hq => BX3_solid (N := N) (RE := RE) @hrE (bE.rf E.S) hq) hF (fun _ _ D4 E4 hF => ?_)
      refine b_call E4 (fun _ hq => (BX8_primitive (bE.rf E4.S) hq)) hF (fun _ hq6 D6 E6 hF => ?_)
      exact ih E6 hF
theorem BX3_actGlobal {σo : fS} {q : (Unit ⊕ Nat) × fS} {N : Nat} {RE : Int → fS → Option ((Unit ⊕ Nat) × fS)} {RN : fS → Option ((Int ⊕ Nat) × fS)} (hrE : ∀ {s : fS} {x1 : Int} {q}, bS 0 s → RE x1 s = some q → bE 0 s q.2) (hrN : ∀ {s : fS} {q}, bS 0 s → RN s = some q → bE 0 s q.2) {s : fS} (E : bE 0 σo s) (hF : FX3_actGlobal N RE RN s = some q) : bE 0 σo q.2 := by
  unfold FX3_actGlobal at hF
  exact BX3_actGlobal_b3 (N := N) (RE := RE) (RN := RN) @hrE @hrN E hF
theorem BX3_actSkip_b66 {σo : fS} {q : (Unit ⊕ Nat) × fS} {N : Nat} {RE : Int → fS → Option ((Unit ⊕ Nat) × fS)} {RN : fS → Option ((Int ⊕ Nat) × fS)} (hrE : ∀ {s : fS} {x1 : Int} {q}, bS 0 s → RE x1 s = some q → bE 0 s q.2) (hrN : ∀ {s : fS} {q}, bS 0 s → RN s = some q → bE 0 s q.2) {s : fS} (E : bE 0 σo s) (hF : FX3_actSkip_b66 N RE RN s = some q) : bE 0 σo q.2 := by
  unfold FX3_actSkip_b66 at hF
  exact b_ret E hF
theorem BX3_actSkip {σo : fS} {q : (Unit ⊕ Nat) × fS} {N : Nat} {RE : Int → fS → Option ((Unit ⊕ Nat) × fS)} {RN : fS → Option ((Int ⊕ Nat) × fS)} (hrE : ∀ {s : fS} {x1 : Int} {q}, bS 0 s → RE x1 s = some q → bE 0 s q.2) (hrN : ∀ {s : fS} {q}, bS 0 s → RN s = some q → bE 0 s q.2) {s : fS} {p0 : Int} {p1 : Int} (E : bE 0 σo s) (hF : FX3_actSkip N RE RN p0 p1 s = some q) : bE 0 σo q.2 := by
  unfold FX3_actSkip at hF
  refine b_if hF (fun hF => ?_) (fun hF => ?_)
  ·
    refine b_tB E (fun _ hq => BX3_add (N := N) (bE.rf E.S) hq) hF (fun _ _ D2 E2 hF => ?_)
    exact BX3_actSkip_b66 (N := N) (RE := RE) (RN := RN) @hrE @hrN E2 hF
  ·
    refine b_tB E (fun _ hq => BX8_glue (N := N) (RE := RE) (RN := RN) @hrE @hrN (bE.rf E.S) hq) hF (fun _ _ D5 E5 hF => ?_)
    refine b_rv hF (fun _ hF => ?_)
    refine b_rv hF (fun _ hF => ?_)
    refine b_rv hF (fun _ hF => ?_)
    refine b_rv hF (fun _ hF => ?_)
    refine b_tB E5 (fun _ hq => BX3_add (N := N) (bE.rf E5.S) hq) hF (fun _ _ D19 E19 hF => ?_)
    exact BX3_actSkip_b66 (N := N) (RE := RE) (RN := RN) @hrE @hrN E19 hF
theorem BX3_wantVertical_b44 {σo : fS} {q : (Unit ⊕ Nat) × fS} {N : Nat} {s : fS} (E : bE 0 σo s) (hF : FX3_wantVertical_b44 N s = some q) : bE 0 σo q.2 := by
  unfold FX3_wantVertical_b44 at hF
  exact b_ret E hF
theorem BX3_wantVertical_b22 {σo : fS} {q : (Unit ⊕ Nat) × fS} {N : Nat} {s : fS} {s1 : Int} (E : bE 0 σo s) (hF : FX3_wantVertical_b22 N s1 s = some q) : bE 0 σo q.2 := by
  unfold FX3_wantVertical_b22 at hF
  refine b_tB E (fun _ hq => BX4_want (bE.rf E.S) hq) hF (fun _ _ D2 E2 hF => ?_)
  refine b_rv hF (fun _ hF => ?_)
  refine b_if hF (fun hF => ?_) (fun hF => ?_)
  ·
    exact BX3_wantVertical_b44 (N := N) E2 hF
  ·
    refine b_tB E2 (fun _ hq => BX3_endParagraph (N := N) (bE.rf E2.S) hq) hF (fun _ _ D7 E7 hF => ?_)
    exact BX3_wantVertical_b44 (N := N) E7 hF
theorem BX3_wantVertical {σo : fS} {q : (Unit ⊕ Nat) × fS} {N : Nat} {s : fS} (E : bE 0 σo s) (hF : FX3_wantVertical N s = some q) : bE 0 σo q.2 := by
  unfold FX3_wantVertical at hF
  refine b_rv hF (fun _ hF => ?_)
  refine b_if hF (fun hF => ?_) (fun hF => ?_)
  ·
    exact BX3_wantVertical_b22 (N := N) E hF
  ·
    exact BX3_wantVertical_b22 (N := N) E hF
theorem BX3_rule_b12 {σo : fS} {q : (Unit ⊕ Nat) × fS} {N : Nat} {RE : Int → fS → Option ((Unit ⊕ Nat) × fS)} {RN : fS → Option ((Int ⊕ Nat) × fS)} (hrE : ∀ {s : fS} {x1 : Int} {q}, bS 0 s → RE x1 s = some q → bE 0 s q.2) (hrN : ∀ {s : fS} {q}, bS 0 s → RN s = some q → bE 0 s q.2) : ∀ {n : Nat} {s : fS} {l4 : Int} {l5 : Int} {l6 : Int} {l7 : Int}, bE 0 σo s → FX3_rule_b12 N RE RN n l4 l5 l6 l7 s = some q → bE 0 σo q.2 := by
  intro n
  induction n with
  | zero => intro s l4 l5 l6 l7 E  hF; simp [FX3_rule_b12] at hF
  | succ n ih =>
    intro s l4 l5 l6 l7 E  hF
    rw [FX3_rule_b12] at hF
    refine b_if hF (fun hF => ?_) (fun hF => ?_)
    ·
      refine b_tB E (fun _ hq => BX3_add (N := N) (bE.rf E.S) hq) hF (fun _ _ D2 E2 hF => ?_)
      exact b_ret E2 hF
    ·
      refine b_tB E (fun _ hq => BX8_keyword (N := N) (RE := RE) @hrE (bE.rf E.S) hq) hF (fun _ _ D5 E5 hF => ?_)
      refine b_if hF (fun hF => ?_) (fun hF => ?_)
      ·
        refine b_tB E5 (fun _ hq => BX8_keyword (N := N) (RE := RE) @hrE (bE.rf E5.S) hq) hF (fun _ _ D8 E8 hF => ?_)
        refine b_if hF (fun hF => ?_) (fun hF => ?_)
        ·
          refine b_tB E8 (fun _ hq => BX8_keyword (N := N) (RE := RE) @hrE (bE.rf E8.S) hq) hF (fun _ _ D11 E11 hF => ?_)
          refine b_if hF (fun hF => ?_) (fun hF => ?_)
          ·
            exact ih E11 hF
          ·
            refine b_tB E11 (fun _ hq => BX8_dimension (N := N) (RE := RE) (RN := RN) @hrE @hrN (bE.rf E11.S) hq) hF (fun _ _ D14 E14 hF => ?_)
            exact ih E14 hF
        ·
          refine b_tB E8 (fun _ hq => BX8_dimension (N := N) (RE := RE) (RN := RN) @hrE @hrN (bE.rf E8.S) hq) hF (fun _ _ D17 E17 hF => ?_)
          exact ih E17 hF
      ·
        refine b_tB E5 (fun _ hq => BX8_dimension (N := N) (RE := RE) (RN := RN) @hrE @hrN (bE.rf E5.S) hq) hF (fun _ _ D20 E20 hF => ?_)
        exact ih E20 hF
theorem BX3_rule {σo : fS} {q : (Unit ⊕ Nat) × fS} {N : Nat} {RE : Int → fS → Option ((Unit ⊕ Nat) × fS)} {RN : fS → Option ((Int ⊕ Nat) × fS)} (hrE : ∀ {s : fS} {x1 : Int} {q}, bS 0 s → RE x1 s = some q → bE 0 s q.2) (hrN : ∀ {s : fS} {q}, bS 0 s → RN s = some q → bE 0 s q.2) {s : fS} {p0 : Int} {p1 : Int} {p2 : Int} (E : bE 0 σo s) (hF : FX3_rule N RE RN p0 p1 p2 s = some q) : bE 0 σo q.2 := by
  unfold FX3_rule at hF
  exact BX3_rule_b12 (N := N) (RE := RE) (RN := RN) @hrE @hrN E hF
theorem BX3_dash_b68 {σo : fS} {q : (Unit ⊕ Nat) × fS} {s : fS} (E : bE 0 σo s) (hF : FX3_dash_b68 s = some q) : bE 0 σo q.2 := by
  unfold FX3_dash_b68 at hF
  exact b_ret E hF
theorem BX3_dash_b57 {σo : fS} {q : (Unit ⊕ Nat) × fS} {s : fS} (E : bE 0 σo s) (hF : FX3_dash_b57 s = some q) : bE 0 σo q.2 := by
  unfold FX3_dash_b57 at hF
  refine b_tB E (fun _ hq => BX3_put (bE.rf E.S) hq) hF (fun _ _ D2 E2 hF => ?_)
  exact BX3_dash_b68 E2 hF
theorem BX3_dash {σo : fS} {q : (Unit ⊕ Nat) × fS} {s : fS} (E : bE 0 σo s) (hF : FX3_dash s = some q) : bE 0 σo q.2 := by
  unfold FX3_dash at hF
  refine b_rv hF (fun _ hF => ?_)
  refine b_if hF (fun hF => ?_) (fun hF => ?_)
  ·
    refine b_rv hF (fun _ hF => ?_)
    refine b_if hF (fun hF => ?_) (fun hF => ?_)
    ·
      exact BX3_dash_b57 E hF
    ·
      refine b_rO E (E.S.c0 (Nat.le_of_ble_eq_true rfl)) hF (fun _ o9 hF => ?_)
      refine b_K hF (fun hF => ?_)
      refine b_call E (fun _ hq => (BX6_has (bE.rf E.S) o9 hq)) hF (fun _ hq11 D11 E11 hF => ?_)
      refine b_if hF (fun hF => ?_) (fun hF => ?_)
      ·
        exact BX3_dash_b57 E11 hF
      ·
        refine b_tB E11 (fun _ hq => BX3_addHyphen (bE.rf E11.S) hq) hF (fun _ _ D13 E13 hF => ?_)
        exact BX3_dash_b68 E13 hF
  ·
    exact b_ret E hF
theorem BX3_actBox_b85 {σo : fS} {q : (Unit ⊕ Nat) × fS} {N : Nat} {RE : Int → fS → Option ((Unit ⊕ Nat) × fS)} {RN : fS → Option ((Int ⊕ Nat) × fS)} (hrE : ∀ {s : fS} {x1 : Int} {q}, bS 0 s → RE x1 s = some q → bE 0 s q.2) (hrN : ∀ {s : fS} {q}, bS 0 s → RN s = some q → bE 0 s q.2) {s : fS} {s0 : Int} (E : bE 0 σo s) (hF : FX3_actBox_b85 N RE RN s0 s = some q) : bE 0 σo q.2 := by
  unfold FX3_actBox_b85 at hF
  refine b_tB E (fun _ hq => BX3_solid (N := N) (RE := RE) @hrE (bE.rf E.S) hq) hF (fun _ _ D3 E3 hF => ?_)
  refine b_call E3 (fun _ hq => (BX8_primitive (bE.rf E3.S) hq)) hF (fun _ hq5 D5 E5 hF => ?_)
  refine b_tB E5 (fun _ hq => BX3_readBox (N := N) (RE := RE) (RN := RN) @hrE @hrN (bE.rf E5.S) hq) hF (fun _ _ D7 E7 hF => ?_)
  exact b_ret E7 hF
theorem BX3_actBox_b79 {σo : fS} {q : (Unit ⊕ Nat) × fS} {N : Nat} {RE : Int → fS → Option ((Unit ⊕ Nat) × fS)} {RN : fS → Option ((Int ⊕ Nat) × fS)} (hrE : ∀ {s : fS} {x1 : Int} {q}, bS 0 s → RE x1 s = some q → bE 0 s q.2) (hrN : ∀ {s : fS} {q}, bS 0 s → RN s = some q → bE 0 s q.2) {s : fS} {l2 : Int} (E : bE 0 σo s) (hF : FX3_actBox_b79 N RE RN l2 s = some q) : bE 0 σo q.2 := by
  unfold FX3_actBox_b79 at hF
  exact BX3_actBox_b85 (N := N) (RE := RE) (RN := RN) @hrE @hrN E hF
theorem BX3_actBox_b54 {σo : fS} {q : (Unit ⊕ Nat) × fS} {N : Nat} {RE : Int → fS → Option ((Unit ⊕ Nat) × fS)} {RN : fS → Option ((Int ⊕ Nat) × fS)} (hrE : ∀ {s : fS} {x1 : Int} {q}, bS 0 s → RE x1 s = some q → bE 0 s q.2) (hrN : ∀ {s : fS} {q}, bS 0 s → RN s = some q → bE 0 s q.2) {s : fS} {l1 : Int} {s1 : Int} (E : bE 0 σo s) (hF : FX3_actBox_b54 N RE RN l1 s1 s = some q) : bE 0 σo q.2 := by
  unfold FX3_actBox_b54 at hF
  refine b_tB E (fun _ hq => BX4_want (bE.rf E.S) hq) hF (fun _ _ D2 E2 hF => ?_)
  refine b_tB E2 (fun _ hq => BX8_dimension (N := N) (RE := RE) (RN := RN) @hrE @hrN (bE.rf E2.S) hq) hF (fun _ _ D5 E5 hF => ?_)
  refine b_if hF (fun hF => ?_) (fun hF => ?_)
  ·
    exact BX3_actBox_b79 (N := N) (RE := RE) (RN := RN) @hrE @hrN E5 hF
  ·
    refine b_if hF (fun hF => ?_) (fun hF => ?_)
    ·
      exact BX3_actBox_b85 (N := N) (RE := RE) (RN := RN) @hrE @hrN E5 hF
    ·
      exact BX3_actBox_b79 (N := N) (RE := RE) (RN := RN) @hrE @hrN E5 hF
theorem BX3_actBox_b46 {σo : fS} {q : (Unit ⊕ Nat) × fS} {N : Nat} {RE : Int → fS → Option ((Unit ⊕ Nat) × fS)} {RN : fS → Option ((Int ⊕ Nat) × fS)} (hrE : ∀ {s : fS} {x1 : Int} {q}, bS 0 s → RE x1 s = some q → bE 0 s q.2) (hrN : ∀ {s : fS} {q}, bS 0 s → RN s = some q → bE 0 s q.2) {s : fS} {l1 : Int} {s1 : Int} {s2 : Int} (E : bE 0 σo s) (hF : FX3_actBox_b46 N RE RN l1 s1 s2 s = some q) : bE 0 σo q.2 := by
  unfold FX3_actBox_b46 at hF
  refine b_if hF (fun hF => ?_) (fun hF => ?_)
  ·
    exact BX3_actBox_b54 (N := N) (RE := RE) (RN := RN) @hrE @hrN E hF
  ·
    exact BX3_actBox_b54 (N := N) (RE := RE) (RN := RN) @hrE @hrN E hF
theorem BX3_actBox_b41 {σo : fS} {q : (Unit ⊕ Nat) × fS} {N : Nat} {RE : Int → fS → Option ((Unit ⊕ Nat) × fS)} {RN : fS → Option ((Int ⊕ Nat) × fS)} (hrE : ∀ {s : fS} {x1 : Int} {q}, bS 0 s → RE x1 s = some q → bE 0 s q.2) (hrN : ∀ {s : fS} {q}, bS 0 s → RN s = some q → bE 0 s q.2) {s : fS} {l1 : Int} {s1 : Int} (E : bE 0 σo s) (hF : FX3_actBox_b41 N RE RN l1 s1 s = some q) : bE 0 σo q.2 := by
  unfold FX3_actBox_b41 at hF
  exact BX3_actBox_b46 (N := N) (RE := RE) (RN := RN) @hrE @hrN E hF
theorem BX3_actBox_b21 {σo : fS} {q : (Unit ⊕ Nat) × fS} {N : Nat} {RE : Int → fS → Option ((Unit ⊕ Nat) × fS)} {RN : fS → Option ((Int ⊕ Nat) × fS)} (hrE : ∀ {s : fS} {x1 : Int} {q}, bS 0 s → RE x1 s = some q → bE 0 s q.2) (hrN : ∀ {s : fS} {q}, bS 0 s → RN s = some q → bE 0 s q.2) {s : fS} {l1 : Int} (E : bE 0 σo s) (hF : FX3_actBox_b21 N RE RN l1 s = some q) : bE 0 σo q.2 := by
  unfold FX3_actBox_b21 at hF
  refine b_call E (fun _ hq => (BX3_isVertical (bE.rf E.S) hq)) hF (fun _ hq3 D3 E3 hF => ?_)
  refine b_if hF (fun hF => ?_) (fun hF => ?_)
  ·
    exact BX3_actBox_b41 (N := N) (RE := RE) (RN := RN) @hrE @hrN E3 hF
  ·
    refine b_if hF (fun hF => ?_) (fun hF => ?_)
    ·
      exact BX3_actBox_b46 (N := N) (RE := RE) (RN := RN) @hrE @hrN E3 hF
    ·
      exact BX3_actBox_b41 (N := N) (RE := RE) (RN := RN) @hrE @hrN E3 hF
theorem BX3_actBox {σo : fS} {q : (Unit ⊕ Nat) × fS} {N : Nat} {RE : Int → fS → Option ((Unit ⊕ Nat) × fS)} {RN : fS → Option ((Int ⊕ Nat) × fS)} (hrE : ∀ {s : fS} {x1 : Int} {q}, bS 0 s → RE x1 s = some q → bE 0 s q.2) (hrN : ∀ {s : fS} {q}, bS 0 s → RN s = some q → bE 0 s q.2) {s : fS} {p0 : Int} (E : bE 0 σo s) (hF : FX3_actBox N RE RN p0 s = some q) : bE 0 σo q.2 := by
  unfold FX3_actBox at hF
  refine b_if hF (fun hF => ?_) (fun hF => ?_)
  ·
    exact BX3_actBox_b21 (N := N) (RE := RE) (RN := RN) @hrE @hrN E hF
  ·
    refine b_if hF (fun hF => ?_) (fun hF => ?_)
    ·
      exact BX3_actBox_b21 (N := N) (RE := RE) (RN := RN) @hrE @hrN E hF
    ·
      refine b_tB E (fun _ hq => BX3_readBox (N := N) (RE := RE) (RN := RN) @hrE @hrN (bE.rf E.S) hq) hF (fun _ _ D2 E2 hF => ?_)
      exact b_ret E2 hF
theorem BX3_actItem_b330 {σo : fS} {q : (Unit ⊕ Nat) × fS} {N : Nat} {RE : Int → fS → Option ((Unit ⊕ Nat) × fS)} {RN : fS → Option ((Int ⊕ Nat) × fS)} (hrE : ∀ {s : fS} {x1 : Int} {q}, bS 0 s → RE x1 s = some q → bE 0 s q.2) (hrN : ∀ {s : fS} {q}, bS 0 s → RN s = some q → bE 0 s q.2) {s : fS} (E : bE 0 σo s) (hF : FX3_actItem_b330 N RE RN s = some q) : bE 0 σo q.2 := by
  unfold FX3_actItem_b330 at hF
  exact b_ret E hF
theorem BX3_actItem_b116 {σo : fS} {q : (Unit ⊕ Nat) × fS} {N : Nat} {RE : Int → fS → Option ((Unit ⊕ Nat) × fS)} {RN : fS → Option ((Int ⊕ Nat) × fS)} (hrE : ∀ {s : fS} {x1 : Int} {q}, bS 0 s → RE x1 s = some q → bE 0 s q.2) (hrN : ∀ {s : fS} {q}, bS 0 s → RN s = some q → bE 0 s q.2) {s : fS} {l1 : Int} {s1 : Int} (E : bE 0 σo s) (hF : FX3_actItem_b116 N RE RN l1 s1 s = some q) : bE 0 σo q.2 := by
  unfold FX3_actItem_b116 at hF
  refine b_tB E (fun _ hq => BX3_wantHorizontal (N := N) (bE.rf E.S) hq) hF (fun _ _ D2 E2 hF => ?_)
  refine b_if hF (fun hF => ?_) (fun hF => ?_)
  ·
    exact BX3_actItem_b330 (N := N) (RE := RE) (RN := RN) @hrE @hrN E2 hF
  ·
    refine b_if hF (fun hF => ?_) (fun hF => ?_)
    ·
      exact BX3_actItem_b330 (N := N) (RE := RE) (RN := RN) @hrE @hrN E2 hF
    ·
      refine b_tB E2 (fun _ hq => BX3_indent (N := N) (bE.rf E2.S) hq) hF (fun _ _ D4 E4 hF => ?_)
      exact BX3_actItem_b330 (N := N) (RE := RE) (RN := RN) @hrE @hrN E4 hF
theorem BX3_actItem_b166 {σo : fS} {q : (Unit ⊕ Nat) × fS} {N : Nat} {RE : Int → fS → Option ((Unit ⊕ Nat) × fS)} {RN : fS → Option ((Int ⊕ Nat) × fS)} (hrE : ∀ {s : fS} {x1 : Int} {q}, bS 0 s → RE x1 s = some q → bE 0 s q.2) (hrN : ∀ {s : fS} {q}, bS 0 s → RN s = some q → bE 0 s q.2) {s : fS} {s1 : Int} {s2 : Int} (E : bE 0 σo s) (hF : FX3_actItem_b166 N RE RN s1 s2 s = some q) : bE 0 σo q.2 := by
  unfold FX3_actItem_b166 at hF
  refine b_tB E (fun _ hq => BX3_actSkip (N := N) (RE := RE) (RN := RN) @hrE @hrN (bE.rf E.S) hq) hF (fun _ _ D2 E2 hF => ?_)
  exact BX3_actItem_b330 (N := N) (RE := RE) (RN := RN) @hrE @hrN E2 hF
theorem BX3_actItem_b155 {σo : fS} {q : (Unit ⊕ Nat) × fS} {N : Nat} {RE : Int → fS → Option ((Unit ⊕ Nat) × fS)} {RN : fS → Option ((Int ⊕ Nat) × fS)} (hrE : ∀ {s : fS} {x1 : Int} {q}, bS 0 s → RE x1 s = some q → bE 0 s q.2) (hrN : ∀ {s : fS} {q}, bS 0 s → RN s = some q → bE 0 s q.2) {s : fS} {l1 : Int} {s1 : Int} (E : bE 0 σo s) (hF : FX3_actItem_b155 N RE RN l1 s1 s = some q) : bE 0 σo q.2 := by
  unfold FX3_actItem_b155 at hF
  refine b_if hF (fun hF => ?_) (fun hF => ?_)
  ·
    exact BX3_actItem_b166 (N := N) (RE := RE) (RN := RN) @hrE @hrN E hF
  ·
    exact BX3_actItem_b166 (N := N) (RE := RE) (RN := RN) @hrE @hrN E hF
theorem BX3_actItem_b199 {σo : fS} {q : (Unit ⊕ Nat) × fS} {N : Nat} {RE : Int → fS → Option ((Unit ⊕ Nat) × fS)} {RN : fS → Option ((Int ⊕ Nat) × fS)} (hrE : ∀ {s : fS} {x1 : Int} {q}, bS 0 s → RE x1 s = some q → bE 0 s q.2) (hrN : ∀ {s : fS} {q}, bS 0 s → RN s = some q → bE 0 s q.2) {s : fS} {s1 : Int} {s2 : Int} (E : bE 0 σo s) (hF : FX3_actItem_b199 N RE RN s1 s2 s = some q) : bE 0 σo q.2 := by
  unfold FX3_actItem_b199 at hF
  refine b_tB E (fun _ hq => BX3_actSkip (N := N) (RE := RE) (RN := RN) @hrE @hrN (bE.rf E.S) hq) hF (fun _ _ D2 E2 hF => ?_)
  exact BX3_actItem_b330 (N := N) (RE := RE) (RN := RN) @hrE @hrN E2 hF
theorem BX3_actItem_b188 {σo : fS} {q : (Unit ⊕ Nat) × fS} {N : Nat} {RE : Int → fS → Option ((Unit ⊕ Nat) × fS)} {RN : fS → Option ((Int ⊕ Nat) × fS)} (hrE : ∀ {s : fS} {x1 : Int} {q}, bS 0 s → RE x1 s = some q → bE 0 s q.2) (hrN : ∀ {s : fS} {q}, bS 0 s → RN s = some q → bE 0 s q.2) {s : fS} {l1 : Int} {s1 : Int} (E : bE 0 σo s) (hF : FX3_actItem_b188 N RE RN l1 s1 s = some q) : bE 0 σo q.2 := by
  unfold FX3_actItem_b188 at hF
  refine b_if hF (fun hF => ?_) (fun hF => ?_)
  ·
    exact BX3_actItem_b199 (N := N) (RE := RE) (RN := RN) @hrE @hrN E hF
  ·
    exact BX3_actItem_b199 (N := N) (RE := RE) (RN := RN) @hrE @hrN E hF
theorem BX3_actItem {σo : fS} {q : (Unit ⊕ Nat) × fS} {N : Nat} {RE : Int → fS → Option ((Unit ⊕ Nat) × fS)} {RN : fS → Option ((Int ⊕ Nat) × fS)} (hrE : ∀ {s : fS} {x1 : Int} {q}, bS 0 s → RE x1 s = some q → bE 0 s q.2) (hrN : ∀ {s : fS} {q}, bS 0 s → RN s = some q → bE 0 s q.2) {s : fS} {p0 : Int} (E : bE 0 σo s) (hF : FX3_actItem N RE RN p0 s = some q) : bE 0 σo q.2 := by
  unfold FX3_actItem at hF
  refine b_if hF (fun hF => ?_) (fun hF => ?_)
  ·
    refine b_if hF (fun hF => ?_) (fun hF => ?_)
    ·
      exact BX3_actItem_b116 (N := N) (RE := RE) (RN := RN) @hrE @hrN E hF
    ·
      exact BX3_actItem_b116 (N := N) (RE := RE) (RN := RN) @hrE @hrN E hF
  ·
    refine b_if hF (fun hF => ?_) (fun hF => ?_)
    ·
      refine b_if hF (fun hF => ?_) (fun hF => ?_)
      ·
        exact BX3_actItem_b116 (N := N) (RE := RE) (RN := RN) @hrE @hrN E hF
      ·
        exact BX3_actItem_b116 (N := N) (RE := RE) (RN := RN) @hrE @hrN E hF
    ·
      refine b_if hF (fun hF => ?_) (fun hF => ?_)
      ·
        refine b_tB E (fun _ hq => BX3_wantHorizontal (N := N) (bE.rf E.S) hq) hF (fun _ _ D2 E2 hF => ?_)
        refine b_if hF (fun hF => ?_) (fun hF => ?_)
        ·
          exact BX3_actItem_b155 (N := N) (RE := RE) (RN := RN) @hrE @hrN E2 hF
        ·
          exact BX3_actItem_b155 (N := N) (RE := RE) (RN := RN) @hrE @hrN E2 hF
      ·
        refine b_if hF (fun hF => ?_) (fun hF => ?_)
        ·
          refine b_tB E (fun _ hq => BX3_wantVertical (N := N) (bE.rf E.S) hq) hF (fun _ _ D4 E4 hF => ?_)
          refine b_if hF (fun hF => ?_) (fun hF => ?_)
          ·
            exact BX3_actItem_b188 (N := N) (RE := RE) (RN := RN) @hrE @hrN E4 hF
          ·
            exact BX3_actItem_b188 (N := N) (RE := RE) (RN := RN) @hrE @hrN E4 hF
        ·
          refine b_if hF (fun hF => ?_) (fun hF => ?_)
          ·
            refine b_tB E (fun _ hq => BX3_wantHorizontal (N := N) (bE.rf E.S) hq) hF (fun _ _ D6 E6 hF => ?_)
            refine b_if hF (fun hF => ?_) (fun hF => ?_)
            ·
              exact BX3_actItem_b155 (N := N) (RE := RE) (RN := RN) @hrE @hrN E6 hF
            ·
              exact BX3_actItem_b155 (N := N) (RE := RE) (RN := RN) @hrE @hrN E6 hF
          ·
            refine b_if hF (fun hF => ?_) (fun hF => ?_)
            ·
              refine b_tB E (fun _ hq => BX3_wantHorizontal (N := N) (bE.rf E.S) hq) hF (fun _ _ D8 E8 hF => ?_)
              refine b_if hF (fun hF => ?_) (fun hF => ?_)
              ·
                exact BX3_actItem_b155 (N := N) (RE := RE) (RN := RN) @hrE @hrN E8 hF
              ·
                exact BX3_actItem_b155 (N := N) (RE := RE) (RN := RN) @hrE @hrN E8 hF
            ·
              refine b_if hF (fun hF => ?_) (fun hF => ?_)
              ·
                refine b_tB E (fun _ hq => BX3_wantVertical (N := N) (bE.rf E.S) hq) hF (fun _ _ D10 E10 hF => ?_)
                refine b_if hF (fun hF => ?_) (fun hF => ?_)
                ·
                  exact BX3_actItem_b188 (N := N) (RE := RE) (RN := RN) @hrE @hrN E10 hF
                ·
                  exact BX3_actItem_b188 (N := N) (RE := RE) (RN := RN) @hrE @hrN E10 hF
              ·
                refine b_if hF (fun hF => ?_) (fun hF => ?_)
                ·
                  refine b_tB E (fun _ hq => BX3_wantVertical (N := N) (bE.rf E.S) hq) hF (fun _ _ D12 E12 hF => ?_)
                  refine b_if hF (fun hF => ?_) (fun hF => ?_)
                  ·
                    exact BX3_actItem_b188 (N := N) (RE := RE) (RN := RN) @hrE @hrN E12 hF
                  ·
                    exact BX3_actItem_b188 (N := N) (RE := RE) (RN := RN) @hrE @hrN E12 hF
                ·
                  refine b_if hF (fun hF => ?_) (fun hF => ?_)
                  ·
                    refine b_tB E (fun _ hq => BX8_dimension (N := N) (RE := RE) (RN := RN) @hrE @hrN (bE.rf E.S) hq) hF (fun _ _ D15 E15 hF => ?_)
                    refine b_tB E15 (fun _ hq => BX3_add (N := N) (bE.rf E15.S) hq) hF (fun _ _ D17 E17 hF => ?_)
                    exact BX3_actItem_b330 (N := N) (RE := RE) (RN := RN) @hrE @hrN E17 hF
                  ·
                    refine b_if hF (fun hF => ?_) (fun hF => ?_)
                    ·
                      refine b_tB E (fun _ hq => hrN E.S hq) hF (fun _ _ D20 E20 hF => ?_)
                      refine b_call E20 (fun _ hq => (BX3_clipped (bE.rf E20.S) hq)) hF (fun _ hq21 D21 E21 hF => ?_)
                      refine b_tB E21 (fun _ hq => BX3_add (N := N) (bE.rf E21.S) hq) hF (fun _ _ D23 E23 hF => ?_)
                      exact BX3_actItem_b330 (N := N) (RE := RE) (RN := RN) @hrE @hrN E23 hF
                    ·
                      refine b_if hF (fun hF => ?_) (fun hF => ?_)
                      ·
                        refine b_tB E (fun _ hq => BX3_wantVertical (N := N) (bE.rf E.S) hq) hF (fun _ _ D25 E25 hF => ?_)
                        refine b_tB E25 (fun _ hq => BX3_rule (N := N) (RE := RE) (RN := RN) @hrE @hrN (bE.rf E25.S) hq) hF (fun _ _ D27 E27 hF => ?_)
                        refine b_qI E27 (E27.S.c0 (Nat.le_of_ble_eq_true rfl)) hF (fun _ D30 E30 hF => ?_)
                        exact BX3_actItem_b330 (N := N) (RE := RE) (RN := RN) @hrE @hrN E30 hF
                      ·
                        refine b_if hF (fun hF => ?_) (fun hF => ?_)
                        ·
                          refine b_tB E (fun _ hq => BX3_wantHorizontal (N := N) (bE.rf E.S) hq) hF (fun _ _ D32 E32 hF => ?_)
                          refine b_tB E32 (fun _ hq => BX3_rule (N := N) (RE := RE) (RN := RN) @hrE @hrN (bE.rf E32.S) hq) hF (fun _ _ D34 E34 hF => ?_)
                          exact BX3_actItem_b330 (N := N) (RE := RE) (RN := RN) @hrE @hrN E34 hF
                        ·
                          refine b_if hF (fun hF => ?_) (fun hF => ?_)
                          ·
                            refine b_tB E (fun _ hq => BX3_actBox (N := N) (RE := RE) (RN := RN) @hrE @hrN (bE.rf E.S) hq) hF (fun _ _ D36 E36 hF => ?_)
                            exact BX3_actItem_b330 (N := N) (RE := RE) (RN := RN) @hrE @hrN E36 hF
                          ·
                            refine b_if hF (fun hF => ?_) (fun hF => ?_)
                            ·
                              refine b_tB E (fun _ hq => BX3_actBox (N := N) (RE := RE) (RN := RN) @hrE @hrN (bE.rf E.S) hq) hF (fun _ _ D38 E38 hF => ?_)
                              exact BX3_actItem_b330 (N := N) (RE := RE) (RN := RN) @hrE @hrN E38 hF
                            ·
                              refine b_if hF (fun hF => ?_) (fun hF => ?_)
                              ·
                                refine b_tB E (fun _ hq => BX3_actBox (N := N) (RE := RE) (RN := RN) @hrE @hrN (bE.rf E.S) hq) hF (fun _ _ D40 E40 hF => ?_)
                                exact BX3_actItem_b330 (N := N) (RE := RE) (RN := RN) @hrE @hrN E40 hF
                              ·
                                refine b_if hF (fun hF => ?_) (fun hF => ?_)
                                ·
                                  refine b_tB E (fun _ hq => BX3_actBox (N := N) (RE := RE) (RN := RN) @hrE @hrN (bE.rf E.S) hq) hF (fun _ _ D42 E42 hF => ?_)
                                  exact BX3_actItem_b330 (N := N) (RE := RE) (RN := RN) @hrE @hrN E42 hF
                                ·
                                  refine b_if hF (fun hF => ?_) (fun hF => ?_)
                                  ·
                                    refine b_tB E (fun _ hq => BX3_actBox (N := N) (RE := RE) (RN := RN) @hrE @hrN (bE.rf E.S) hq) hF (fun _ _ D44 E44 hF => ?_)
                                    exact BX3_actItem_b330 (N := N) (RE := RE) (RN := RN) @hrE @hrN E44 hF
                                  ·
                                    refine b_if hF (fun hF => ?_) (fun hF => ?_)
                                    ·
                                      refine b_tB E (fun _ hq => BX3_actBox (N := N) (RE := RE) (RN := RN) @hrE @hrN (bE.rf E.S) hq) hF (fun _ _ D46 E46 hF => ?_)
                                      exact BX3_actItem_b330 (N := N) (RE := RE) (RN := RN) @hrE @hrN E46 hF
                                    ·
                                      refine b_if hF (fun hF => ?_) (fun hF => ?_)
                                      ·
                                        refine b_tB E (fun _ hq => BX3_actBox (N := N) (RE := RE) (RN := RN) @hrE @hrN (bE.rf E.S) hq) hF (fun _ _ D48 E48 hF => ?_)
                                        exact BX3_actItem_b330 (N := N) (RE := RE) (RN := RN) @hrE @hrN E48 hF
                                      ·
                                        refine b_if hF (fun hF => ?_) (fun hF => ?_)
                                        ·
                                          refine b_tB E (fun _ hq => BX3_actBox (N := N) (RE := RE) (RN := RN) @hrE @hrN (bE.rf E.S) hq) hF (fun _ _ D50 E50 hF => ?_)
                                          exact BX3_actItem_b330 (N := N) (RE := RE) (RN := RN) @hrE @hrN E50 hF
                                        ·
                                          refine b_if hF (fun hF => ?_) (fun hF => ?_)
                                          ·
                                            refine b_tB E (fun _ hq => BX3_wantHorizontal (N := N) (bE.rf E.S) hq) hF (fun _ _ D52 E52 hF => ?_)
                                            refine b_tB E52 (fun _ hq => BX3_dash (bE.rf E52.S) hq) hF (fun _ _ D54 E54 hF => ?_)
                                            exact BX3_actItem_b330 (N := N) (RE := RE) (RN := RN) @hrE @hrN E54 hF
                                          ·
                                            refine b_if hF (fun hF => ?_) (fun hF => ?_)
                                            ·
                                              refine b_tB E (fun _ hq => BX3_wantHorizontal (N := N) (bE.rf E.S) hq) hF (fun _ _ D56 E56 hF => ?_)
                                              refine b_tB E56 (fun _ hq => BX3_space (bE.rf E56.S) hq) hF (fun _ _ D58 E58 hF => ?_)
                                              exact BX3_actItem_b330 (N := N) (RE := RE) (RN := RN) @hrE @hrN E58 hF
                                            ·
                                              refine b_tB E (fun _ hq => BX3_actBox (N := N) (RE := RE) (RN := RN) @hrE @hrN (bE.rf E.S) hq) hF (fun _ _ D60 E60 hF => ?_)
                                              exact BX3_actItem_b330 (N := N) (RE := RE) (RN := RN) @hrE @hrN E60 hF
theorem BX3_actPrimitive_b307 {σo : fS} {q : (Unit ⊕ Nat) × fS} {N : Nat} {RE : Int → fS → Option ((Unit ⊕ Nat) × fS)} {RN : fS → Option ((Int ⊕ Nat) × fS)} (hrE : ∀ {s : fS} {x1 : Int} {q}, bS 0 s → RE x1 s = some q → bE 0 s q.2) (hrN : ∀ {s : fS} {q}, bS 0 s → RN s = some q → bE 0 s q.2) {s : fS} (E : bE 0 σo s) (hF : FX3_actPrimitive_b307 N RE RN s = some q) : bE 0 σo q.2 := by
  unfold FX3_actPrimitive_b307 at hF
  exact b_ret E hF
theorem BX3_actPrimitive {σo : fS} {q : (Unit ⊕ Nat) × fS} {N : Nat} {RE : Int → fS → Option ((Unit ⊕ Nat) × fS)} {RN : fS → Option ((Int ⊕ Nat) × fS)} (hrE : ∀ {s : fS} {x1 : Int} {q}, bS 0 s → RE x1 s = some q → bE 0 s q.2) (hrN : ∀ {s : fS} {q}, bS 0 s → RN s = some q → bE 0 s q.2) {s : fS} {p0 : Int} (E : bE 0 σo s) (hF : FX3_actPrimitive N RE RN p0 s = some q) : bE 0 σo q.2 := by
  unfold FX3_actPrimitive at hF
  refine b_if hF (fun hF => ?_) (fun hF => ?_)
  ·
    exact BX3_actPrimitive_b307 (N := N) (RE := RE) (RN := RN) @hrE @hrN E hF
  ·
    refine b_if hF (fun hF => ?_) (fun hF => ?_)
    ·
      refine b_rv hF (fun _ hF => ?_)
      refine b_if hF (fun hF => ?_) (fun hF => ?_)
      ·
        exact BX3_actPrimitive_b307 (N := N) (RE := RE) (RN := RN) @hrE @hrN E hF
      ·
        refine b_tB E (fun _ hq => BX3_endParagraph (N := N) (bE.rf E.S) hq) hF (fun _ _ D5 E5 hF => ?_)
        exact BX3_actPrimitive_b307 (N := N) (RE := RE) (RN := RN) @hrE @hrN E5 hF
    ·
      refine b_if hF (fun hF => ?_) (fun hF => ?_)
      ·
        refine b_tB E (fun _ hq => BX3_open (bE.rf E.S) hq) hF (fun _ _ D7 E7 hF => ?_)
        exact BX3_actPrimitive_b307 (N := N) (RE := RE) (RN := RN) @hrE @hrN E7 hF
      ·
        refine b_if hF (fun hF => ?_) (fun hF => ?_)
        ·
          refine b_tB E (fun _ hq => BX3_close (N := N) (bE.rf E.S) hq) hF (fun _ _ D9 E9 hF => ?_)
          exact BX3_actPrimitive_b307 (N := N) (RE := RE) (RN := RN) @hrE @hrN E9 hF
        ·
          refine b_if hF (fun hF => ?_) (fun hF => ?_)
          ·
            refine b_pZ E (E.S.c0 (Nat.le_of_ble_eq_true rfl)) hF (fun _ D10 E10 hF => ?_)
            exact BX3_actPrimitive_b307 (N := N) (RE := RE) (RN := RN) @hrE @hrN E10 hF
          ·
            refine b_if hF (fun hF => ?_) (fun hF => ?_)
            ·
              refine b_tB E (fun _ hq => BX4_fail (bE.rf E.S) hq) hF (fun _ _ D13 E13 hF => ?_)
              exact BX3_actPrimitive_b307 (N := N) (RE := RE) (RN := RN) @hrE @hrN E13 hF
            ·
              refine b_if hF (fun hF => ?_) (fun hF => ?_)
              ·
                refine b_tB E (fun _ hq => BX3_wantHorizontal (N := N) (bE.rf E.S) hq) hF (fun _ _ D15 E15 hF => ?_)
                refine b_tB E15 (fun _ hq => BX8_within (RN := RN) @hrN (bE.rf E15.S) hq) hF (fun _ _ D18 E18 hF => ?_)
                refine b_tB E18 (fun _ hq => BX3_character (N := N) (bE.rf E18.S) hq) hF (fun _ _ D20 E20 hF => ?_)
                exact BX3_actPrimitive_b307 (N := N) (RE := RE) (RN := RN) @hrE @hrN E20 hF
              ·
                refine b_if hF (fun hF => ?_) (fun hF => ?_)
                ·
                  refine b_if hF (fun hF => ?_) (fun hF => ?_)
                  ·
                    refine b_tB E (fun _ hq => BX3_actItem (N := N) (RE := RE) (RN := RN) @hrE @hrN (bE.rf E.S) hq) hF (fun _ _ D22 E22 hF => ?_)
                    exact BX3_actPrimitive_b307 (N := N) (RE := RE) (RN := RN) @hrE @hrN E22 hF
                  ·
                    refine b_tB E (fun _ hq => BX3_set (N := N) (RE := RE) (RN := RN) @hrE @hrN (bE.rf E.S) hq) hF (fun _ _ D24 E24 hF => ?_)
                    exact BX3_actPrimitive_b307 (N := N) (RE := RE) (RN := RN) @hrE @hrN E24 hF
                ·
                  refine b_if hF (fun hF => ?_) (fun hF => ?_)
                  ·
                    refine b_if hF (fun hF => ?_) (fun hF => ?_)
                    ·
                      refine b_tB E (fun _ hq => BX3_actItem (N := N) (RE := RE) (RN := RN) @hrE @hrN (bE.rf E.S) hq) hF (fun _ _ D26 E26 hF => ?_)
                      exact BX3_actPrimitive_b307 (N := N) (RE := RE) (RN := RN) @hrE @hrN E26 hF
                    ·
                      refine b_tB E (fun _ hq => BX3_set (N := N) (RE := RE) (RN := RN) @hrE @hrN (bE.rf E.S) hq) hF (fun _ _ D28 E28 hF => ?_)
                      exact BX3_actPrimitive_b307 (N := N) (RE := RE) (RN := RN) @hrE @hrN E28 hF
                  ·
                    refine b_if hF (fun hF => ?_) (fun hF => ?_)
                    ·
                      refine b_if hF (fun hF => ?_) (fun hF => ?_)
                      ·
                        refine b_tB E (fun _ hq => BX3_actItem (N := N) (RE := RE) (RN := RN) @hrE @hrN (bE.rf E.S) hq) hF (fun _ _ D30 E30 hF => ?_)
                        exact BX3_actPrimitive_b307 (N := N) (RE := RE) (RN := RN) @hrE @hrN E30 hF
                      ·
                        refine b_tB E (fun _ hq => BX3_set (N := N) (RE := RE) (RN := RN) @hrE @hrN (bE.rf E.S) hq) hF (fun _ _ D32 E32 hF => ?_)
                        exact BX3_actPrimitive_b307 (N := N) (RE := RE) (RN := RN) @hrE @hrN E32 hF
                    ·
                      refine b_if hF (fun hF => ?_) (fun hF => ?_)
                      ·
                        refine b_if hF (fun hF => ?_) (fun hF => ?_)
                        ·
                          refine b_tB E (fun _ hq => BX3_actItem (N := N) (RE := RE) (RN := RN) @hrE @hrN (bE.rf E.S) hq) hF (fun _ _ D34 E34 hF => ?_)
                          exact BX3_actPrimitive_b307 (N := N) (RE := RE) (RN := RN) @hrE @hrN E34 hF
                        ·
                          refine b_tB E (fun _ hq => BX3_set (N := N) (RE := RE) (RN := RN) @hrE @hrN (bE.rf E.S) hq) hF (fun _ _ D36 E36 hF => ?_)
                          exact BX3_actPrimitive_b307 (N := N) (RE := RE) (RN := RN) @hrE @hrN E36 hF
                      ·
                        refine b_if hF (fun hF => ?_) (fun hF => ?_)
                        ·
                          refine b_if hF (fun hF => ?_) (fun hF => ?_)
                          ·
                            refine b_tB E (fun _ hq => BX3_actItem (N := N) (RE := RE) (RN := RN) @hrE @hrN (bE.rf E.S) hq) hF (fun _ _ D38 E38 hF => ?_)
                            exact BX3_actPrimitive_b307 (N := N) (RE := RE) (RN := RN) @hrE @hrN E38 hF
                          ·
                            refine b_tB E (fun _ hq => BX3_set (N := N) (RE := RE) (RN := RN) @hrE @hrN (bE.rf E.S) hq) hF (fun _ _ D40 E40 hF => ?_)
                            exact BX3_actPrimitive_b307 (N := N) (RE := RE) (RN := RN) @hrE @hrN E40 hF
                        ·
                          refine b_if hF (fun hF => ?_) (fun hF => ?_)
                          ·
                            refine b_if hF (fun hF => ?_) (fun hF => ?_)
                            ·
                              refine b_tB E (fun _ hq => BX3_actItem (N := N) (RE := RE) (RN := RN) @hrE @hrN (bE.rf E.S) hq) hF (fun _ _ D42 E42 hF => ?_)
                              exact BX3_actPrimitive_b307 (N := N) (RE := RE) (RN := RN) @hrE @hrN E42 hF
                            ·
                              refine b_tB E (fun _ hq => BX3_set (N := N) (RE := RE) (RN := RN) @hrE @hrN (bE.rf E.S) hq) hF (fun _ _ D44 E44 hF => ?_)
                              exact BX3_actPrimitive_b307 (N := N) (RE := RE) (RN := RN) @hrE @hrN E44 hF
                          ·
                            refine b_if hF (fun hF => ?_) (fun hF => ?_)
                            ·
                              refine b_if hF (fun hF => ?_) (fun hF => ?_)
                              ·
                                refine b_tB E (fun _ hq => BX3_actItem (N := N) (RE := RE) (RN := RN) @hrE @hrN (bE.rf E.S) hq) hF (fun _ _ D46 E46 hF => ?_)
                                exact BX3_actPrimitive_b307 (N := N) (RE := RE) (RN := RN) @hrE @hrN E46 hF
                              ·
                                refine b_tB E (fun _ hq => BX3_set (N := N) (RE := RE) (RN := RN) @hrE @hrN (bE.rf E.S) hq) hF (fun _ _ D48 E48 hF => ?_)
                                exact BX3_actPrimitive_b307 (N := N) (RE := RE) (RN := RN) @hrE @hrN E48 hF
                            ·
                              refine b_if hF (fun hF => ?_) (fun hF => ?_)
                              ·
                                refine b_if hF (fun hF => ?_) (fun hF => ?_)
                                ·
                                  refine b_tB E (fun _ hq => BX3_actItem (N := N) (RE := RE) (RN := RN) @hrE @hrN (bE.rf E.S) hq) hF (fun _ _ D50 E50 hF => ?_)
                                  exact BX3_actPrimitive_b307 (N := N) (RE := RE) (RN := RN) @hrE @hrN E50 hF
                                ·
                                  refine b_tB E (fun _ hq => BX3_set (N := N) (RE := RE) (RN := RN) @hrE @hrN (bE.rf E.S) hq) hF (fun _ _ D52 E52 hF => ?_)
                                  exact BX3_actPrimitive_b307 (N := N) (RE := RE) (RN := RN) @hrE @hrN E52 hF
                              ·
                                refine b_if hF (fun hF => ?_) (fun hF => ?_)
                                ·
                                  refine b_if hF (fun hF => ?_) (fun hF => ?_)
                                  ·
                                    refine b_tB E (fun _ hq => BX3_actItem (N := N) (RE := RE) (RN := RN) @hrE @hrN (bE.rf E.S) hq) hF (fun _ _ D54 E54 hF => ?_)
                                    exact BX3_actPrimitive_b307 (N := N) (RE := RE) (RN := RN) @hrE @hrN E54 hF
                                  ·
                                    refine b_tB E (fun _ hq => BX3_set (N := N) (RE := RE) (RN := RN) @hrE @hrN (bE.rf E.S) hq) hF (fun _ _ D56 E56 hF => ?_)
                                    exact BX3_actPrimitive_b307 (N := N) (RE := RE) (RN := RN) @hrE @hrN E56 hF
                                ·
                                  refine b_if hF (fun hF => ?_) (fun hF => ?_)
                                  ·
                                    refine b_if hF (fun hF => ?_) (fun hF => ?_)
                                    ·
                                      refine b_tB E (fun _ hq => BX3_actItem (N := N) (RE := RE) (RN := RN) @hrE @hrN (bE.rf E.S) hq) hF (fun _ _ D58 E58 hF => ?_)
                                      exact BX3_actPrimitive_b307 (N := N) (RE := RE) (RN := RN) @hrE @hrN E58 hF
                                    ·
                                      refine b_tB E (fun _ hq => BX3_set (N := N) (RE := RE) (RN := RN) @hrE @hrN (bE.rf E.S) hq) hF (fun _ _ D60 E60 hF => ?_)
                                      exact BX3_actPrimitive_b307 (N := N) (RE := RE) (RN := RN) @hrE @hrN E60 hF
                                  ·
                                    refine b_if hF (fun hF => ?_) (fun hF => ?_)
                                    ·
                                      refine b_if hF (fun hF => ?_) (fun hF => ?_)
                                      ·
                                        refine b_tB E (fun _ hq => BX3_actItem (N := N) (RE := RE) (RN := RN) @hrE @hrN (bE.rf E.S) hq) hF (fun _ _ D62 E62 hF => ?_)
                                        exact BX3_actPrimitive_b307 (N := N) (RE := RE) (RN := RN) @hrE @hrN E62 hF
                                      ·
                                        refine b_tB E (fun _ hq => BX3_set (N := N) (RE := RE) (RN := RN) @hrE @hrN (bE.rf E.S) hq) hF (fun _ _ D64 E64 hF => ?_)
                                        exact BX3_actPrimitive_b307 (N := N) (RE := RE) (RN := RN) @hrE @hrN E64 hF
                                    ·
                                      refine b_if hF (fun hF => ?_) (fun hF => ?_)
                                      ·
                                        refine b_if hF (fun hF => ?_) (fun hF => ?_)
                                        ·
                                          refine b_tB E (fun _ hq => BX3_actItem (N := N) (RE := RE) (RN := RN) @hrE @hrN (bE.rf E.S) hq) hF (fun _ _ D66 E66 hF => ?_)
                                          exact BX3_actPrimitive_b307 (N := N) (RE := RE) (RN := RN) @hrE @hrN E66 hF
                                        ·
                                          refine b_tB E (fun _ hq => BX3_set (N := N) (RE := RE) (RN := RN) @hrE @hrN (bE.rf E.S) hq) hF (fun _ _ D68 E68 hF => ?_)
                                          exact BX3_actPrimitive_b307 (N := N) (RE := RE) (RN := RN) @hrE @hrN E68 hF
                                      ·
                                        refine b_if hF (fun hF => ?_) (fun hF => ?_)
                                        ·
                                          refine b_if hF (fun hF => ?_) (fun hF => ?_)
                                          ·
                                            refine b_tB E (fun _ hq => BX3_actItem (N := N) (RE := RE) (RN := RN) @hrE @hrN (bE.rf E.S) hq) hF (fun _ _ D70 E70 hF => ?_)
                                            exact BX3_actPrimitive_b307 (N := N) (RE := RE) (RN := RN) @hrE @hrN E70 hF
                                          ·
                                            refine b_tB E (fun _ hq => BX3_set (N := N) (RE := RE) (RN := RN) @hrE @hrN (bE.rf E.S) hq) hF (fun _ _ D72 E72 hF => ?_)
                                            exact BX3_actPrimitive_b307 (N := N) (RE := RE) (RN := RN) @hrE @hrN E72 hF
                                        ·
                                          refine b_if hF (fun hF => ?_) (fun hF => ?_)
                                          ·
                                            refine b_if hF (fun hF => ?_) (fun hF => ?_)
                                            ·
                                              refine b_tB E (fun _ hq => BX3_actItem (N := N) (RE := RE) (RN := RN) @hrE @hrN (bE.rf E.S) hq) hF (fun _ _ D74 E74 hF => ?_)
                                              exact BX3_actPrimitive_b307 (N := N) (RE := RE) (RN := RN) @hrE @hrN E74 hF
                                            ·
                                              refine b_tB E (fun _ hq => BX3_set (N := N) (RE := RE) (RN := RN) @hrE @hrN (bE.rf E.S) hq) hF (fun _ _ D76 E76 hF => ?_)
                                              exact BX3_actPrimitive_b307 (N := N) (RE := RE) (RN := RN) @hrE @hrN E76 hF
                                          ·
                                            refine b_if hF (fun hF => ?_) (fun hF => ?_)
                                            ·
                                              refine b_if hF (fun hF => ?_) (fun hF => ?_)
                                              ·
                                                refine b_tB E (fun _ hq => BX3_actItem (N := N) (RE := RE) (RN := RN) @hrE @hrN (bE.rf E.S) hq) hF (fun _ _ D78 E78 hF => ?_)
                                                exact BX3_actPrimitive_b307 (N := N) (RE := RE) (RN := RN) @hrE @hrN E78 hF
                                              ·
                                                refine b_tB E (fun _ hq => BX3_set (N := N) (RE := RE) (RN := RN) @hrE @hrN (bE.rf E.S) hq) hF (fun _ _ D80 E80 hF => ?_)
                                                exact BX3_actPrimitive_b307 (N := N) (RE := RE) (RN := RN) @hrE @hrN E80 hF
                                            ·
                                              refine b_if hF (fun hF => ?_) (fun hF => ?_)
                                              ·
                                                refine b_if hF (fun hF => ?_) (fun hF => ?_)
                                                ·
                                                  refine b_tB E (fun _ hq => BX3_actItem (N := N) (RE := RE) (RN := RN) @hrE @hrN (bE.rf E.S) hq) hF (fun _ _ D82 E82 hF => ?_)
                                                  exact BX3_actPrimitive_b307 (N := N) (RE := RE) (RN := RN) @hrE @hrN E82 hF
                                                ·
                                                  refine b_tB E (fun _ hq => BX3_set (N := N) (RE := RE) (RN := RN) @hrE @hrN (bE.rf E.S) hq) hF (fun _ _ D84 E84 hF => ?_)
                                                  exact BX3_actPrimitive_b307 (N := N) (RE := RE) (RN := RN) @hrE @hrN E84 hF
                                              ·
                                                refine b_if hF (fun hF => ?_) (fun hF => ?_)
                                                ·
                                                  refine b_if hF (fun hF => ?_) (fun hF => ?_)
                                                  ·
                                                    refine b_tB E (fun _ hq => BX3_actItem (N := N) (RE := RE) (RN := RN) @hrE @hrN (bE.rf E.S) hq) hF (fun _ _ D86 E86 hF => ?_)
                                                    exact BX3_actPrimitive_b307 (N := N) (RE := RE) (RN := RN) @hrE @hrN E86 hF
                                                  ·
                                                    refine b_tB E (fun _ hq => BX3_set (N := N) (RE := RE) (RN := RN) @hrE @hrN (bE.rf E.S) hq) hF (fun _ _ D88 E88 hF => ?_)
                                                    exact BX3_actPrimitive_b307 (N := N) (RE := RE) (RN := RN) @hrE @hrN E88 hF
                                                ·
                                                  refine b_if hF (fun hF => ?_) (fun hF => ?_)
                                                  ·
                                                    refine b_if hF (fun hF => ?_) (fun hF => ?_)
                                                    ·
                                                      refine b_tB E (fun _ hq => BX3_actItem (N := N) (RE := RE) (RN := RN) @hrE @hrN (bE.rf E.S) hq) hF (fun _ _ D90 E90 hF => ?_)
                                                      exact BX3_actPrimitive_b307 (N := N) (RE := RE) (RN := RN) @hrE @hrN E90 hF
                                                    ·
                                                      refine b_tB E (fun _ hq => BX3_set (N := N) (RE := RE) (RN := RN) @hrE @hrN (bE.rf E.S) hq) hF (fun _ _ D92 E92 hF => ?_)
                                                      exact BX3_actPrimitive_b307 (N := N) (RE := RE) (RN := RN) @hrE @hrN E92 hF
                                                  ·
                                                    refine b_if hF (fun hF => ?_) (fun hF => ?_)
                                                    ·
                                                      refine b_if hF (fun hF => ?_) (fun hF => ?_)
                                                      ·
                                                        refine b_tB E (fun _ hq => BX3_actItem (N := N) (RE := RE) (RN := RN) @hrE @hrN (bE.rf E.S) hq) hF (fun _ _ D94 E94 hF => ?_)
                                                        exact BX3_actPrimitive_b307 (N := N) (RE := RE) (RN := RN) @hrE @hrN E94 hF
                                                      ·
                                                        refine b_tB E (fun _ hq => BX3_set (N := N) (RE := RE) (RN := RN) @hrE @hrN (bE.rf E.S) hq) hF (fun _ _ D96 E96 hF => ?_)
                                                        exact BX3_actPrimitive_b307 (N := N) (RE := RE) (RN := RN) @hrE @hrN E96 hF
                                                    ·
                                                      refine b_if hF (fun hF => ?_) (fun hF => ?_)
                                                      ·
                                                        refine b_if hF (fun hF => ?_) (fun hF => ?_)
                                                        ·
                                                          refine b_tB E (fun _ hq => BX3_actItem (N := N) (RE := RE) (RN := RN) @hrE @hrN (bE.rf E.S) hq) hF (fun _ _ D98 E98 hF => ?_)
                                                          exact BX3_actPrimitive_b307 (N := N) (RE := RE) (RN := RN) @hrE @hrN E98 hF
                                                        ·
                                                          refine b_tB E (fun _ hq => BX3_set (N := N) (RE := RE) (RN := RN) @hrE @hrN (bE.rf E.S) hq) hF (fun _ _ D100 E100 hF => ?_)
                                                          exact BX3_actPrimitive_b307 (N := N) (RE := RE) (RN := RN) @hrE @hrN E100 hF
                                                      ·
                                                        refine b_if hF (fun hF => ?_) (fun hF => ?_)
                                                        ·
                                                          refine b_if hF (fun hF => ?_) (fun hF => ?_)
                                                          ·
                                                            refine b_tB E (fun _ hq => BX3_actItem (N := N) (RE := RE) (RN := RN) @hrE @hrN (bE.rf E.S) hq) hF (fun _ _ D102 E102 hF => ?_)
                                                            exact BX3_actPrimitive_b307 (N := N) (RE := RE) (RN := RN) @hrE @hrN E102 hF
                                                          ·
                                                            refine b_tB E (fun _ hq => BX3_set (N := N) (RE := RE) (RN := RN) @hrE @hrN (bE.rf E.S) hq) hF (fun _ _ D104 E104 hF => ?_)
                                                            exact BX3_actPrimitive_b307 (N := N) (RE := RE) (RN := RN) @hrE @hrN E104 hF
                                                        ·
                                                          refine b_if hF (fun hF => ?_) (fun hF => ?_)
                                                          ·
                                                            refine b_if hF (fun hF => ?_) (fun hF => ?_)
                                                            ·
                                                              refine b_tB E (fun _ hq => BX3_actItem (N := N) (RE := RE) (RN := RN) @hrE @hrN (bE.rf E.S) hq) hF (fun _ _ D106 E106 hF => ?_)
                                                              exact BX3_actPrimitive_b307 (N := N) (RE := RE) (RN := RN) @hrE @hrN E106 hF
                                                            ·
                                                              refine b_tB E (fun _ hq => BX3_set (N := N) (RE := RE) (RN := RN) @hrE @hrN (bE.rf E.S) hq) hF (fun _ _ D108 E108 hF => ?_)
                                                              exact BX3_actPrimitive_b307 (N := N) (RE := RE) (RN := RN) @hrE @hrN E108 hF
                                                          ·
                                                            refine b_if hF (fun hF => ?_) (fun hF => ?_)
                                                            ·
                                                              refine b_tB E (fun _ hq => BX4_fail (bE.rf E.S) hq) hF (fun _ _ D111 E111 hF => ?_)
                                                              exact BX3_actPrimitive_b307 (N := N) (RE := RE) (RN := RN) @hrE @hrN E111 hF
                                                            ·
                                                              refine b_if hF (fun hF => ?_) (fun hF => ?_)
                                                              ·
                                                                refine b_tB E (fun _ hq => BX4_fail (bE.rf E.S) hq) hF (fun _ _ D114 E114 hF => ?_)
                                                                exact BX3_actPrimitive_b307 (N := N) (RE := RE) (RN := RN) @hrE @hrN E114 hF
                                                              ·
                                                                refine b_if hF (fun hF => ?_) (fun hF => ?_)
                                                                ·
                                                                  refine b_tB E (fun _ hq => BX4_fail (bE.rf E.S) hq) hF (fun _ _ D117 E117 hF => ?_)
                                                                  exact BX3_actPrimitive_b307 (N := N) (RE := RE) (RN := RN) @hrE @hrN E117 hF
                                                                ·
                                                                  refine b_if hF (fun hF => ?_) (fun hF => ?_)
                                                                  ·
                                                                    refine b_if hF (fun hF => ?_) (fun hF => ?_)
                                                                    ·
                                                                      refine b_tB E (fun _ hq => BX3_actItem (N := N) (RE := RE) (RN := RN) @hrE @hrN (bE.rf E.S) hq) hF (fun _ _ D119 E119 hF => ?_)
                                                                      exact BX3_actPrimitive_b307 (N := N) (RE := RE) (RN := RN) @hrE @hrN E119 hF
                                                                    ·
                                                                      refine b_tB E (fun _ hq => BX3_set (N := N) (RE := RE) (RN := RN) @hrE @hrN (bE.rf E.S) hq) hF (fun _ _ D121 E121 hF => ?_)
                                                                      exact BX3_actPrimitive_b307 (N := N) (RE := RE) (RN := RN) @hrE @hrN E121 hF
                                                                  ·
                                                                    refine b_if hF (fun hF => ?_) (fun hF => ?_)
                                                                    ·
                                                                      refine b_if hF (fun hF => ?_) (fun hF => ?_)
                                                                      ·
                                                                        refine b_tB E (fun _ hq => BX3_actItem (N := N) (RE := RE) (RN := RN) @hrE @hrN (bE.rf E.S) hq) hF (fun _ _ D123 E123 hF => ?_)
                                                                        exact BX3_actPrimitive_b307 (N := N) (RE := RE) (RN := RN) @hrE @hrN E123 hF
                                                                      ·
                                                                        refine b_tB E (fun _ hq => BX3_set (N := N) (RE := RE) (RN := RN) @hrE @hrN (bE.rf E.S) hq) hF (fun _ _ D125 E125 hF => ?_)
                                                                        exact BX3_actPrimitive_b307 (N := N) (RE := RE) (RN := RN) @hrE @hrN E125 hF
                                                                    ·
                                                                      refine b_if hF (fun hF => ?_) (fun hF => ?_)
                                                                      ·
                                                                        refine b_if hF (fun hF => ?_) (fun hF => ?_)
                                                                        ·
                                                                          refine b_tB E (fun _ hq => BX3_actItem (N := N) (RE := RE) (RN := RN) @hrE @hrN (bE.rf E.S) hq) hF (fun _ _ D127 E127 hF => ?_)
                                                                          exact BX3_actPrimitive_b307 (N := N) (RE := RE) (RN := RN) @hrE @hrN E127 hF
                                                                        ·
                                                                          refine b_tB E (fun _ hq => BX3_set (N := N) (RE := RE) (RN := RN) @hrE @hrN (bE.rf E.S) hq) hF (fun _ _ D129 E129 hF => ?_)
                                                                          exact BX3_actPrimitive_b307 (N := N) (RE := RE) (RN := RN) @hrE @hrN E129 hF
                                                                      ·
                                                                        refine b_if hF (fun hF => ?_) (fun hF => ?_)
                                                                        ·
                                                                          refine b_if hF (fun hF => ?_) (fun hF => ?_)
                                                                          ·
                                                                            refine b_tB E (fun _ hq => BX3_actItem (N := N) (RE := RE) (RN := RN) @hrE @hrN (bE.rf E.S) hq) hF (fun _ _ D131 E131 hF => ?_)
                                                                            exact BX3_actPrimitive_b307 (N := N) (RE := RE) (RN := RN) @hrE @hrN E131 hF
                                                                          ·
                                                                            refine b_tB E (fun _ hq => BX3_set (N := N) (RE := RE) (RN := RN) @hrE @hrN (bE.rf E.S) hq) hF (fun _ _ D133 E133 hF => ?_)
                                                                            exact BX3_actPrimitive_b307 (N := N) (RE := RE) (RN := RN) @hrE @hrN E133 hF
                                                                        ·
                                                                          refine b_if hF (fun hF => ?_) (fun hF => ?_)
                                                                          ·
                                                                            refine b_if hF (fun hF => ?_) (fun hF => ?_)
                                                                            ·
                                                                              refine b_tB E (fun _ hq => BX3_actItem (N := N) (RE := RE) (RN := RN) @hrE @hrN (bE.rf E.S) hq) hF (fun _ _ D135 E135 hF => ?_)
                                                                              exact BX3_actPrimitive_b307 (N := N) (RE := RE) (RN := RN) @hrE @hrN E135 hF
                                                                            ·
                                                                              refine b_tB E (fun _ hq => BX3_set (N := N) (RE := RE) (RN := RN) @hrE @hrN (bE.rf E.S) hq) hF (fun _ _ D137 E137 hF => ?_)
                                                                              exact BX3_actPrimitive_b307 (N := N) (RE := RE) (RN := RN) @hrE @hrN E137 hF
                                                                          ·
                                                                            refine b_if hF (fun hF => ?_) (fun hF => ?_)
                                                                            ·
                                                                              refine b_if hF (fun hF => ?_) (fun hF => ?_)
                                                                              ·
                                                                                refine b_tB E (fun _ hq => BX3_actItem (N := N) (RE := RE) (RN := RN) @hrE @hrN (bE.rf E.S) hq) hF (fun _ _ D139 E139 hF => ?_)
                                                                                exact BX3_actPrimitive_b307 (N := N) (RE := RE) (RN := RN) @hrE @hrN E139 hF
                                                                              ·
                                                                                refine b_tB E (fun _ hq => BX3_set (N := N) (RE := RE) (RN := RN) @hrE @hrN (bE.rf E.S) hq) hF (fun _ _ D141 E141 hF => ?_)
                                                                                exact BX3_actPrimitive_b307 (N := N) (RE := RE) (RN := RN) @hrE @hrN E141 hF
                                                                            ·
                                                                              refine b_if hF (fun hF => ?_) (fun hF => ?_)
                                                                              ·
                                                                                refine b_if hF (fun hF => ?_) (fun hF => ?_)
                                                                                ·
                                                                                  refine b_tB E (fun _ hq => BX3_actItem (N := N) (RE := RE) (RN := RN) @hrE @hrN (bE.rf E.S) hq) hF (fun _ _ D143 E143 hF => ?_)
                                                                                  exact BX3_actPrimitive_b307 (N := N) (RE := RE) (RN := RN) @hrE @hrN E143 hF
                                                                                ·
                                                                                  refine b_tB E (fun _ hq => BX3_set (N := N) (RE := RE) (RN := RN) @hrE @hrN (bE.rf E.S) hq) hF (fun _ _ D145 E145 hF => ?_)
                                                                                  exact BX3_actPrimitive_b307 (N := N) (RE := RE) (RN := RN) @hrE @hrN E145 hF
                                                                              ·
                                                                                refine b_if hF (fun hF => ?_) (fun hF => ?_)
                                                                                ·
                                                                                  refine b_if hF (fun hF => ?_) (fun hF => ?_)
                                                                                  ·
                                                                                    refine b_tB E (fun _ hq => BX3_actItem (N := N) (RE := RE) (RN := RN) @hrE @hrN (bE.rf E.S) hq) hF (fun _ _ D147 E147 hF => ?_)
                                                                                    exact BX3_actPrimitive_b307 (N := N) (RE := RE) (RN := RN) @hrE @hrN E147 hF
                                                                                  ·
                                                                                    refine b_tB E (fun _ hq => BX3_set (N := N) (RE := RE) (RN := RN) @hrE @hrN (bE.rf E.S) hq) hF (fun _ _ D149 E149 hF => ?_)
                                                                                    exact BX3_actPrimitive_b307 (N := N) (RE := RE) (RN := RN) @hrE @hrN E149 hF
                                                                                ·
                                                                                  refine b_if hF (fun hF => ?_) (fun hF => ?_)
                                                                                  ·
                                                                                    refine b_if hF (fun hF => ?_) (fun hF => ?_)
                                                                                    ·
                                                                                      refine b_tB E (fun _ hq => BX3_actItem (N := N) (RE := RE) (RN := RN) @hrE @hrN (bE.rf E.S) hq) hF (fun _ _ D151 E151 hF => ?_)
                                                                                      exact BX3_actPrimitive_b307 (N := N) (RE := RE) (RN := RN) @hrE @hrN E151 hF
                                                                                    ·
                                                                                      refine b_tB E (fun _ hq => BX3_set (N := N) (RE := RE) (RN := RN) @hrE @hrN (bE.rf E.S) hq) hF (fun _ _ D153 E153 hF => ?_)
                                                                                      exact BX3_actPrimitive_b307 (N := N) (RE := RE) (RN := RN) @hrE @hrN E153 hF
                                                                                  ·
                                                                                    refine b_if hF (fun hF => ?_) (fun hF => ?_)
                                                                                    ·
                                                                                      refine b_if hF (fun hF => ?_) (fun hF => ?_)
                                                                                      ·
                                                                                        refine b_tB E (fun _ hq => BX3_actItem (N := N) (RE := RE) (RN := RN) @hrE @hrN (bE.rf E.S) hq) hF (fun _ _ D155 E155 hF => ?_)
                                                                                        exact BX3_actPrimitive_b307 (N := N) (RE := RE) (RN := RN) @hrE @hrN E155 hF
                                                                                      ·
                                                                                        refine b_tB E (fun _ hq => BX3_set (N := N) (RE := RE) (RN := RN) @hrE @hrN (bE.rf E.S) hq) hF (fun _ _ D157 E157 hF => ?_)
                                                                                        exact BX3_actPrimitive_b307 (N := N) (RE := RE) (RN := RN) @hrE @hrN E157 hF
                                                                                    ·
                                                                                      refine b_if hF (fun hF => ?_) (fun hF => ?_)
                                                                                      ·
                                                                                        refine b_if hF (fun hF => ?_) (fun hF => ?_)
                                                                                        ·
                                                                                          refine b_tB E (fun _ hq => BX3_actItem (N := N) (RE := RE) (RN := RN) @hrE @hrN (bE.rf E.S) hq) hF (fun _ _ D159 E159 hF => ?_)
                                                                                          exact BX3_actPrimitive_b307 (N := N) (RE := RE) (RN := RN) @hrE @hrN E159 hF
                                                                                        ·
                                                                                          refine b_tB E (fun _ hq => BX3_set (N := N) (RE := RE) (RN := RN) @hrE @hrN (bE.rf E.S) hq) hF (fun _ _ D161 E161 hF => ?_)
                                                                                          exact BX3_actPrimitive_b307 (N := N) (RE := RE) (RN := RN) @hrE @hrN E161 hF
                                                                                      ·
                                                                                        refine b_if hF (fun hF => ?_) (fun hF => ?_)
                                                                                        ·
                                                                                          refine b_if hF (fun hF => ?_) (fun hF => ?_)
                                                                                          ·
                                                                                            refine b_tB E (fun _ hq => BX3_actItem (N := N) (RE := RE) (RN := RN) @hrE @hrN (bE.rf E.S) hq) hF (fun _ _ D163 E163 hF => ?_)
                                                                                            exact BX3_actPrimitive_b307 (N := N) (RE := RE) (RN := RN) @hrE @hrN E163 hF
                                                                                          ·
                                                                                            refine b_tB E (fun _ hq => BX3_set (N := N) (RE := RE) (RN := RN) @hrE @hrN (bE.rf E.S) hq) hF (fun _ _ D165 E165 hF => ?_)
                                                                                            exact BX3_actPrimitive_b307 (N := N) (RE := RE) (RN := RN) @hrE @hrN E165 hF
                                                                                        ·
                                                                                          refine b_if hF (fun hF => ?_) (fun hF => ?_)
                                                                                          ·
                                                                                            refine b_tB E (fun _ hq => BX3_actGlobal (N := N) (RE := RE) (RN := RN) @hrE @hrN (bE.rf E.S) hq) hF (fun _ _ D167 E167 hF => ?_)
                                                                                            exact BX3_actPrimitive_b307 (N := N) (RE := RE) (RN := RN) @hrE @hrN E167 hF
                                                                                          ·
                                                                                            refine b_if hF (fun hF => ?_) (fun hF => ?_)
                                                                                            ·
                                                                                              refine b_tB E (fun _ hq => BX3_actItem (N := N) (RE := RE) (RN := RN) @hrE @hrN (bE.rf E.S) hq) hF (fun _ _ D169 E169 hF => ?_)
                                                                                              exact BX3_actPrimitive_b307 (N := N) (RE := RE) (RN := RN) @hrE @hrN E169 hF
                                                                                            ·
                                                                                              refine b_tB E (fun _ hq => BX3_set (N := N) (RE := RE) (RN := RN) @hrE @hrN (bE.rf E.S) hq) hF (fun _ _ D171 E171 hF => ?_)
                                                                                              exact BX3_actPrimitive_b307 (N := N) (RE := RE) (RN := RN) @hrE @hrN E171 hF
