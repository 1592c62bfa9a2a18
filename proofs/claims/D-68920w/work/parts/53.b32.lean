set_option maxRecDepth 100000
set_option maxHeartbeats 4000000
theorem BX3_act_b180 {σo : fS} {q : (Unit ⊕ Nat) × fS} {N : Nat} {RE : Int → fS → Option ((Unit ⊕ Nat) × fS)} {RN : fS → Option ((Int ⊕ Nat) × fS)} (hrE : ∀ {s : fS} {x1 : Int} {q}, bS 0 s → RE x1 s = some q → bE 0 s q.2) (hrN : ∀ {s : fS} {q}, bS 0 s → RN s = some q → bE 0 s q.2) {s : fS} (E : bE 0 σo s) (hF : FX3_act_b180 N RE RN s = some q) : bE 0 σo q.2 := by
  unfold FX3_act_b180 at hF
  exact b_ret E hF
theorem BX3_act_b73 {σo : fS} {q : (Unit ⊕ Nat) × fS} {N : Nat} {RE : Int → fS → Option ((Unit ⊕ Nat) × fS)} {RN : fS → Option ((Int ⊕ Nat) × fS)} (hrE : ∀ {s : fS} {x1 : Int} {q}, bS 0 s → RE x1 s = some q → bE 0 s q.2) (hrN : ∀ {s : fS} {q}, bS 0 s → RN s = some q → bE 0 s q.2) {s : fS} {l2 : Int} {l3 : Int} {l4 : Int} (E : bE 0 σo s) (hF : FX3_act_b73 N RE RN l2 l3 l4 s = some q) : bE 0 σo q.2 := by
  unfold FX3_act_b73 at hF
  refine b_if hF (fun hF => ?_) (fun hF => ?_)
  ·
    refine b_tB E (fun _ hq => BX4_fail (bE.rf E.S) hq) hF (fun _ _ D3 E3 hF => ?_)
    exact BX3_act_b180 (N := N) (RE := RE) (RN := RN) @hrE @hrN E3 hF
  ·
    refine b_if hF (fun hF => ?_) (fun hF => ?_)
    ·
      refine b_tB E (fun _ hq => BX3_actPrimitive (N := N) (RE := RE) (RN := RN) @hrE @hrN (bE.rf E.S) hq) hF (fun _ _ D5 E5 hF => ?_)
      exact BX3_act_b180 (N := N) (RE := RE) (RN := RN) @hrE @hrN E5 hF
    ·
      refine b_if hF (fun hF => ?_) (fun hF => ?_)
      ·
        refine b_tB E (fun _ hq => BX3_actPrimitive (N := N) (RE := RE) (RN := RN) @hrE @hrN (bE.rf E.S) hq) hF (fun _ _ D7 E7 hF => ?_)
        exact BX3_act_b180 (N := N) (RE := RE) (RN := RN) @hrE @hrN E7 hF
      ·
        refine b_if hF (fun hF => ?_) (fun hF => ?_)
        ·
          refine b_if hF (fun hF => ?_) (fun hF => ?_)
          ·
            refine b_call E (fun _ hq => (BX1_category (bE.rf E.S) hq)) hF (fun _ hq8 D8 E8 hF => ?_)
            refine b_tB E8 (fun _ hq => BX3_actCharacter (N := N) (bE.rf E8.S) hq) hF (fun _ _ D10 E10 hF => ?_)
            exact BX3_act_b180 (N := N) (RE := RE) (RN := RN) @hrE @hrN E10 hF
          ·
            refine b_tB E (fun _ hq => BX3_character (N := N) (bE.rf E.S) hq) hF (fun _ _ D12 E12 hF => ?_)
            exact BX3_act_b180 (N := N) (RE := RE) (RN := RN) @hrE @hrN E12 hF
        ·
          refine b_if hF (fun hF => ?_) (fun hF => ?_)
          ·
            refine b_tB E (fun _ hq => BX3_character (N := N) (bE.rf E.S) hq) hF (fun _ _ D14 E14 hF => ?_)
            exact BX3_act_b180 (N := N) (RE := RE) (RN := RN) @hrE @hrN E14 hF
          ·
            refine b_if hF (fun hF => ?_) (fun hF => ?_)
            ·
              refine b_call E (fun _ hq => (BX9_set (N := N) (bE.rf E.S) hq)) hF (fun _ hq17 D17 E17 hF => ?_)
              exact BX3_act_b180 (N := N) (RE := RE) (RN := RN) @hrE @hrN E17 hF
            ·
              refine b_tB E (fun _ hq => BX3_actPrimitive (N := N) (RE := RE) (RN := RN) @hrE @hrN (bE.rf E.S) hq) hF (fun _ _ D19 E19 hF => ?_)
              exact BX3_act_b180 (N := N) (RE := RE) (RN := RN) @hrE @hrN E19 hF
theorem BX3_act_b62 {σo : fS} {q : (Unit ⊕ Nat) × fS} {N : Nat} {RE : Int → fS → Option ((Unit ⊕ Nat) × fS)} {RN : fS → Option ((Int ⊕ Nat) × fS)} (hrE : ∀ {s : fS} {x1 : Int} {q}, bS 0 s → RE x1 s = some q → bE 0 s q.2) (hrN : ∀ {s : fS} {q}, bS 0 s → RN s = some q → bE 0 s q.2) {s : fS} {l2 : Int} {l3 : Int} {s0 : Int} (E : bE 0 σo s) (hF : FX3_act_b62 N RE RN l2 l3 s0 s = some q) : bE 0 σo q.2 := by
  unfold FX3_act_b62 at hF
  refine b_if hF (fun hF => ?_) (fun hF => ?_)
  ·
    exact BX3_act_b73 (N := N) (RE := RE) (RN := RN) @hrE @hrN E hF
  ·
    refine b_tB E (fun _ hq => BX3_endWord (N := N) (bE.rf E.S) hq) hF (fun _ _ D2 E2 hF => ?_)
    exact BX3_act_b73 (N := N) (RE := RE) (RN := RN) @hrE @hrN E2 hF
theorem BX3_act_b57 {σo : fS} {q : (Unit ⊕ Nat) × fS} {N : Nat} {RE : Int → fS → Option ((Unit ⊕ Nat) × fS)} {RN : fS → Option ((Int ⊕ Nat) × fS)} (hrE : ∀ {s : fS} {x1 : Int} {q}, bS 0 s → RE x1 s = some q → bE 0 s q.2) (hrN : ∀ {s : fS} {q}, bS 0 s → RN s = some q → bE 0 s q.2) {s : fS} {l2 : Int} {l3 : Int} (E : bE 0 σo s) (hF : FX3_act_b57 N RE RN l2 l3 s = some q) : bE 0 σo q.2 := by
  unfold FX3_act_b57 at hF
  exact BX3_act_b62 (N := N) (RE := RE) (RN := RN) @hrE @hrN E hF
theorem BX3_act_b61 {σo : fS} {q : (Unit ⊕ Nat) × fS} {N : Nat} {RE : Int → fS → Option ((Unit ⊕ Nat) × fS)} {RN : fS → Option ((Int ⊕ Nat) × fS)} (hrE : ∀ {s : fS} {x1 : Int} {q}, bS 0 s → RE x1 s = some q → bE 0 s q.2) (hrN : ∀ {s : fS} {q}, bS 0 s → RN s = some q → bE 0 s q.2) {s : fS} {l2 : Int} {l3 : Int} (E : bE 0 σo s) (hF : FX3_act_b61 N RE RN l2 l3 s = some q) : bE 0 σo q.2 := by
  unfold FX3_act_b61 at hF
  exact BX3_act_b62 (N := N) (RE := RE) (RN := RN) @hrE @hrN E hF
theorem BX3_act_b46 {σo : fS} {q : (Unit ⊕ Nat) × fS} {N : Nat} {RE : Int → fS → Option ((Unit ⊕ Nat) × fS)} {RN : fS → Option ((Int ⊕ Nat) × fS)} (hrE : ∀ {s : fS} {x1 : Int} {q}, bS 0 s → RE x1 s = some q → bE 0 s q.2) (hrN : ∀ {s : fS} {q}, bS 0 s → RN s = some q → bE 0 s q.2) {s : fS} {l2 : Int} {l3 : Int} (E : bE 0 σo s) (hF : FX3_act_b46 N RE RN l2 l3 s = some q) : bE 0 σo q.2 := by
  unfold FX3_act_b46 at hF
  refine b_if hF (fun hF => ?_) (fun hF => ?_)
  ·
    exact BX3_act_b61 (N := N) (RE := RE) (RN := RN) @hrE @hrN E hF
  ·
    refine b_if hF (fun hF => ?_) (fun hF => ?_)
    ·
      exact BX3_act_b61 (N := N) (RE := RE) (RN := RN) @hrE @hrN E hF
    ·
      exact BX3_act_b57 (N := N) (RE := RE) (RN := RN) @hrE @hrN E hF
theorem BX3_act {σo : fS} {q : (Unit ⊕ Nat) × fS} {N : Nat} {RE : Int → fS → Option ((Unit ⊕ Nat) × fS)} {RN : fS → Option ((Int ⊕ Nat) × fS)} (hrE : ∀ {s : fS} {x1 : Int} {q}, bS 0 s → RE x1 s = some q → bE 0 s q.2) (hrN : ∀ {s : fS} {q}, bS 0 s → RN s = some q → bE 0 s q.2) {s : fS} {p0 : Int} (E : bE 0 σo s) (hF : FX3_act N RE RN p0 s = some q) : bE 0 σo q.2 := by
  unfold FX3_act at hF
  refine b_call E (fun _ hq => (BX8_kind (bE.rf E.S) hq)) hF (fun _ hq3 D3 E3 hF => ?_)
  refine b_call E3 (fun _ hq => (BX8_value (bE.rf E3.S) hq)) hF (fun _ hq6 D6 E6 hF => ?_)
  refine b_if hF (fun hF => ?_) (fun hF => ?_)
  ·
    exact BX3_act_b57 (N := N) (RE := RE) (RN := RN) @hrE @hrN E6 hF
  ·
    refine b_if hF (fun hF => ?_) (fun hF => ?_)
    ·
      exact BX3_act_b46 (N := N) (RE := RE) (RN := RN) @hrE @hrN E6 hF
    ·
      refine b_call E6 (fun _ hq => (BX1_category (bE.rf E6.S) hq)) hF (fun _ hq7 D7 E7 hF => ?_)
      refine b_if hF (fun hF => ?_) (fun hF => ?_)
      ·
        exact BX3_act_b57 (N := N) (RE := RE) (RN := RN) @hrE @hrN E7 hF
      ·
        refine b_call E7 (fun _ hq => (BX1_category (bE.rf E7.S) hq)) hF (fun _ hq8 D8 E8 hF => ?_)
        refine b_if hF (fun hF => ?_) (fun hF => ?_)
        ·
          exact BX3_act_b57 (N := N) (RE := RE) (RN := RN) @hrE @hrN E8 hF
        ·
          exact BX3_act_b46 (N := N) (RE := RE) (RN := RN) @hrE @hrN E8 hF
theorem BX3_finish_b50 {σo : fS} {q : (Unit ⊕ Nat) × fS} {N : Nat} {s : fS} {s1 : Int} (E : bE 0 σo s) (hF : FX3_finish_b50 N s1 s = some q) : bE 0 σo q.2 := by
  unfold FX3_finish_b50 at hF
  refine b_tB E (fun _ hq => BX4_want (bE.rf E.S) hq) hF (fun _ _ D2 E2 hF => ?_)
  refine b_tB E2 (fun _ hq => BX3_addVertical (N := N) (bE.rf E2.S) hq) hF (fun _ _ D4 E4 hF => ?_)
  refine b_tB E4 (fun _ hq => BX3_addVertical (N := N) (bE.rf E4.S) hq) hF (fun _ _ D6 E6 hF => ?_)
  exact b_ret E6 hF
theorem BX3_finish_b49 {σo : fS} {q : (Unit ⊕ Nat) × fS} {N : Nat} {s : fS} (E : bE 0 σo s) (hF : FX3_finish_b49 N s = some q) : bE 0 σo q.2 := by
  unfold FX3_finish_b49 at hF
  exact BX3_finish_b50 (N := N) E hF
theorem BX3_finish_b21 {σo : fS} {q : (Unit ⊕ Nat) × fS} {N : Nat} {s : fS} (E : bE 0 σo s) (hF : FX3_finish_b21 N s = some q) : bE 0 σo q.2 := by
  unfold FX3_finish_b21 at hF
  refine b_if hF (fun hF => ?_) (fun hF => ?_)
  ·
    exact BX3_finish_b49 (N := N) E hF
  ·
    refine b_if hF (fun hF => ?_) (fun hF => ?_)
    ·
      exact BX3_finish_b49 (N := N) E hF
    ·
      exact BX3_finish_b50 (N := N) E hF
theorem BX3_finish {σo : fS} {q : (Unit ⊕ Nat) × fS} {N : Nat} {s : fS} (E : bE 0 σo s) (hF : FX3_finish N s = some q) : bE 0 σo q.2 := by
  unfold FX3_finish at hF
  refine b_tB E (fun _ hq => BX3_endWord (N := N) (bE.rf E.S) hq) hF (fun _ _ D2 E2 hF => ?_)
  refine b_rv hF (fun _ hF => ?_)
  refine b_if hF (fun hF => ?_) (fun hF => ?_)
  ·
    exact BX3_finish_b21 (N := N) E2 hF
  ·
    refine b_tB E2 (fun _ hq => BX3_endParagraph (N := N) (bE.rf E2.S) hq) hF (fun _ _ D7 E7 hF => ?_)
    exact BX3_finish_b21 (N := N) E7 hF
theorem BX31_close_b207 {σo : fS} {q : Int × fS} {N : Nat} {K190 : Int → fS → Option (Int × fS)} (hk190 : ∀ {s : fS} {l2 : Int}, bE 0 σo s → K190 l2 s = some q → bE 0 σo q.2) {s : fS} {l2 : Int} (E : bE 0 σo s) (hF : FX31_close_b207 N K190 l2 s = some q) : bE 0 σo q.2 := by
  unfold FX31_close_b207 at hF
  refine b_call E (fun _ hq => (BX32_add (bE.rf E.S) hq)) hF (fun _ hq3 D3 E3 hF => ?_)
  exact hk190 E3 hF
theorem BX31_close_b190 {σo : fS} {q : Int × fS} {N : Nat} : ∀ {n : Nat} {s : fS} {l2 : Int}, bE 0 σo s → FX31_close_b190 N n l2 s = some q → bE 0 σo q.2 := by
  intro n
  induction n with
  | zero => intro s l2 E  hF; simp [FX31_close_b190] at hF
  | succ n ih =>
    intro s l2 E  hF
    rw [FX31_close_b190] at hF
    refine b_if hF (fun hF => ?_) (fun hF => ?_)
    ·
      exact BX31_close_b207 (N := N) (K190 := FX31_close_b190 N n) @ih E hF
    ·
      refine b_if hF (fun hF => ?_) (fun hF => ?_)
      ·
        refine b_pZ E (E.S.c0 (Nat.le_of_ble_eq_true rfl)) hF (fun _ D3 E3 hF => ?_)
        exact b_ret E3 hF
      ·
        exact BX31_close_b207 (N := N) (K190 := FX31_close_b190 N n) @ih E hF
theorem BX31_close_b131 {σo : fS} {q : Int × fS} {N : Nat} : ∀ {n : Nat} {s : fS} {l1 : Int} {l2 : Int}, bE 0 σo s → FX31_close_b131 N n l1 l2 s = some q → bE 0 σo q.2 := by
  intro n
  induction n with
  | zero => intro s l1 l2 E  hF; simp [FX31_close_b131] at hF
  | succ n ih =>
    intro s l1 l2 E  hF
    rw [FX31_close_b131] at hF
    refine b_if hF (fun hF => ?_) (fun hF => ?_)
    ·
      refine b_call E (fun _ hq => (BX32_add (bE.rf E.S) hq)) hF (fun _ hq3 D3 E3 hF => ?_)
      refine b_call E3 (fun _ hq => (BX32_number (N := N) (bE.rf E3.S) hq)) hF (fun _ hq6 D6 E6 hF => ?_)
      refine b_call E6 (fun _ hq => (BX32_add (bE.rf E6.S) hq)) hF (fun _ hq9 D9 E9 hF => ?_)
      exact BX31_close_b190 (N := N) E9 hF
    ·
      refine b_rv hF (fun _ hF => ?_)
      refine b_call E (fun _ hq => (BX5_define (N := N) (bE.rf E.S) hq)) hF (fun _ hq16 D16 E16 hF => ?_)
      exact ih E16 hF
theorem BX31_close_b105 {σo : fS} {q : Int × fS} {N : Nat} {s : fS} {l1 : Int} {s1 : Int} (E : bE 0 σo s) (hF : FX31_close_b105 N l1 s1 s = some q) : bE 0 σo q.2 := by
  unfold FX31_close_b105 at hF
  refine b_call E (fun _ hq => (BX32_number (N := N) (bE.rf E.S) hq)) hF (fun _ hq2 D2 E2 hF => ?_)
  refine b_call E2 (fun _ hq => (BX32_number (N := N) (bE.rf E2.S) hq)) hF (fun _ hq6 D6 E6 hF => ?_)
  exact BX31_close_b131 (N := N) E6 hF
theorem BX31_close {σo : fS} {q : Int × fS} {N : Nat} {s : fS} (E : bE 0 σo s) (hF : FX31_close N s = some q) : bE 0 σo q.2 := by
  unfold FX31_close at hF
  refine b_call E (fun _ hq => (BX31_open (N := N) (bE.rf E.S) hq)) hF (fun _ hq2 D2 E2 hF => ?_)
  refine b_call E2 (fun _ hq => (BX32_add (bE.rf E2.S) hq)) hF (fun _ hq7 D7 E7 hF => ?_)
  refine b_call E7 (fun _ hq => (BX32_number (N := N) (bE.rf E7.S) hq)) hF (fun _ hq11 D11 E11 hF => ?_)
  refine b_call E11 (fun _ hq => (BX32_number (N := N) (bE.rf E11.S) hq)) hF (fun _ hq14 D14 E14 hF => ?_)
  refine b_call E14 (fun _ hq => (BX32_number (N := N) (bE.rf E14.S) hq)) hF (fun _ hq17 D17 E17 hF => ?_)
  refine b_call E17 (fun _ hq => (BX32_number (N := N) (bE.rf E17.S) hq)) hF (fun _ hq20 D20 E20 hF => ?_)
  refine b_call E20 (fun _ hq => (BX32_number (N := N) (bE.rf E20.S) hq)) hF (fun _ hq24 D24 E24 hF => ?_)
  refine b_call E24 (fun _ hq => (BX32_number (N := N) (bE.rf E24.S) hq)) hF (fun _ hq28 D28 E28 hF => ?_)
  refine b_if hF (fun hF => ?_) (fun hF => ?_)
  ·
    exact BX31_close_b105 (N := N) E28 hF
  ·
    exact BX31_close_b105 (N := N) E28 hF
theorem BX3_run_b94 {σo : fS} {q : Int × fS} {N : Nat} {RE : Int → fS → Option ((Unit ⊕ Nat) × fS)} {RN : fS → Option ((Int ⊕ Nat) × fS)} (hrE : ∀ {s : fS} {x1 : Int} {q}, bS 0 s → RE x1 s = some q → bE 0 s q.2) (hrN : ∀ {s : fS} {q}, bS 0 s → RN s = some q → bE 0 s q.2) : ∀ {n : Nat} {s : fS} {l2 : Int}, bE 0 σo s → FX3_run_b94 N RE RN n l2 s = some q → bE 0 σo q.2 := by
  intro n
  induction n with
  | zero => intro s l2 E  hF; simp [FX3_run_b94] at hF
  | succ n ih =>
    intro s l2 E  hF
    rw [FX3_run_b94] at hF
    refine b_if hF (fun hF => ?_) (fun hF => ?_)
    ·
      refine b_call E (fun _ hq => (BX31_close (N := N) (bE.rf E.S) hq)) hF (fun _ hq5 D5 E5 hF => ?_)
      refine b_qI E5 (E5.S.c0 (Nat.le_of_ble_eq_true rfl)) hF (fun _ D9 E9 hF => ?_)
      refine b_qI E9 (E9.S.c0 (Nat.le_of_ble_eq_true rfl)) hF (fun _ D13 E13 hF => ?_)
      exact b_ret E13 hF
    ·
      refine b_call E (fun _ hq => (BX9_close (N := N) (bE.rf E.S) hq)) hF (fun _ hq16 D16 E16 hF => ?_)
      exact ih E16 hF
theorem BX3_run_b71 {σo : fS} {q : Int × fS} {N : Nat} {RE : Int → fS → Option ((Unit ⊕ Nat) × fS)} {RN : fS → Option ((Int ⊕ Nat) × fS)} (hrE : ∀ {s : fS} {x1 : Int} {q}, bS 0 s → RE x1 s = some q → bE 0 s q.2) (hrN : ∀ {s : fS} {q}, bS 0 s → RN s = some q → bE 0 s q.2) {s : fS} {s0 : Nat} (E : bE 0 σo s) (hF : FX3_run_b71 N RE RN s0 s = some q) : bE 0 σo q.2 := by
  unfold FX3_run_b71 at hF
  exact BX3_run_b94 (N := N) (RE := RE) (RN := RN) @hrE @hrN E hF
theorem BX3_run_b64 {σo : fS} {q : Int × fS} {N : Nat} {RE : Int → fS → Option ((Unit ⊕ Nat) × fS)} {RN : fS → Option ((Int ⊕ Nat) × fS)} (hrE : ∀ {s : fS} {x1 : Int} {q}, bS 0 s → RE x1 s = some q → bE 0 s q.2) (hrN : ∀ {s : fS} {q}, bS 0 s → RN s = some q → bE 0 s q.2) {s : fS} {l2 : Int} (E : bE 0 σo s) (hF : FX3_run_b64 N RE RN l2 s = some q) : bE 0 σo q.2 := by
  unfold FX3_run_b64 at hF
  refine b_tC E (fun _ hq => BX3_finish (N := N) (bE.rf E.S) hq) hF (fun _ _ D2 E2 hF => ?_) (fun _ _ D2 E2 hF => ?_)
  ·
    exact BX3_run_b71 (N := N) (RE := RE) (RN := RN) @hrE @hrN E2 hF
  ·
    exact BX3_run_b94 (N := N) (RE := RE) (RN := RN) @hrE @hrN E2 hF
theorem BX3_run_b22 {σo : fS} {q : Int × fS} {N : Nat} {RE : Int → fS → Option ((Unit ⊕ Nat) × fS)} {RN : fS → Option ((Int ⊕ Nat) × fS)} (hrE : ∀ {s : fS} {x1 : Int} {q}, bS 0 s → RE x1 s = some q → bE 0 s q.2) (hrN : ∀ {s : fS} {q}, bS 0 s → RN s = some q → bE 0 s q.2) : ∀ {n : Nat} {s : fS} {l2 : Int} {l3 : Int}, bE 0 σo s → FX3_run_b22 N RE RN n l2 l3 s = some q → bE 0 σo q.2 := by
  intro n
  induction n with
  | zero => intro s l2 l3 E  hF; simp [FX3_run_b22] at hF
  | succ n ih =>
    intro s l2 l3 E  hF
    rw [FX3_run_b22] at hF
    refine b_if hF (fun hF => ?_) (fun hF => ?_)
    ·
      exact BX3_run_b64 (N := N) (RE := RE) (RN := RN) @hrE @hrN E hF
    ·
      refine b_if hF (fun hF => ?_) (fun hF => ?_)
      ·
        exact BX3_run_b64 (N := N) (RE := RE) (RN := RN) @hrE @hrN E hF
      ·
        refine b_tC E (fun _ hq => BX8_tick (bE.rf E.S) hq) hF (fun _ _ D4 E4 hF => ?_) (fun _ _ D4 E4 hF => ?_)
        ·
          exact BX3_run_b71 (N := N) (RE := RE) (RN := RN) @hrE @hrN E4 hF
        ·
          refine b_tC E4 (fun _ hq => BX3_act (N := N) (RE := RE) (RN := RN) @hrE @hrN (bE.rf E4.S) hq) hF (fun _ _ D6 E6 hF => ?_) (fun _ _ D6 E6 hF => ?_)
          ·
            exact BX3_run_b71 (N := N) (RE := RE) (RN := RN) @hrE @hrN E6 hF
          ·
            refine b_if hF (fun hF => ?_) (fun hF => ?_)
            ·
              exact ih E6 hF
            ·
              refine b_tC E6 (fun _ hq => BX8_getExpanded (N := N) (RE := RE) @hrE (bE.rf E6.S) hq) hF (fun _ _ D10 E10 hF => ?_) (fun _ _ D10 E10 hF => ?_)
              ·
                exact BX3_run_b71 (N := N) (RE := RE) (RN := RN) @hrE @hrN E10 hF
              ·
                exact ih E10 hF
theorem BX3_run {σo : fS} {q : Int × fS} {N : Nat} {RE : Int → fS → Option ((Unit ⊕ Nat) × fS)} {RN : fS → Option ((Int ⊕ Nat) × fS)} (hrE : ∀ {s : fS} {x1 : Int} {q}, bS 0 s → RE x1 s = some q → bE 0 s q.2) (hrN : ∀ {s : fS} {q}, bS 0 s → RN s = some q → bE 0 s q.2) {s : fS} {p0 : Int} (E : bE 0 σo s) (hF : FX3_run N RE RN p0 s = some q) : bE 0 σo q.2 := by
  unfold FX3_run at hF
  refine b_call E (fun _ hq => (BX3_begin (N := N) (bE.rf E.S) hq)) hF (fun _ hq2 D2 E2 hF => ?_)
  refine b_pI E2 (E2.S.c0 (Nat.le_of_ble_eq_true rfl)) hF (fun _ D4 E4 hF => ?_)
  refine b_tC E4 (fun _ hq => BX8_getExpanded (N := N) (RE := RE) @hrE (bE.rf E4.S) hq) hF (fun _ _ D7 E7 hF => ?_) (fun _ _ D7 E7 hF => ?_)
  ·
    exact BX3_run_b71 (N := N) (RE := RE) (RN := RN) @hrE @hrN E7 hF
  ·
    exact BX3_run_b22 (N := N) (RE := RE) (RN := RN) @hrE @hrN E7 hF
theorem BX1_take_b32 {σo : fS} {q : Int × fS} {N : Nat} {RE : Int → fS → Option ((Unit ⊕ Nat) × fS)} {RN : fS → Option ((Int ⊕ Nat) × fS)} (hrE : ∀ {s : fS} {x1 : Int} {q}, bS 0 s → RE x1 s = some q → bE 0 s q.2) (hrN : ∀ {s : fS} {q}, bS 0 s → RN s = some q → bE 0 s q.2) {s : fS} {s0 : Int} (E : bE 0 σo s) (hF : FX1_take_b32 N RE RN s0 s = some q) : bE 0 σo q.2 := by
  unfold FX1_take_b32 at hF
  exact b_ret E hF
theorem BX1_take_b78 {σo : fS} {q : Int × fS} {N : Nat} {RE : Int → fS → Option ((Unit ⊕ Nat) × fS)} {RN : fS → Option ((Int ⊕ Nat) × fS)} (hrE : ∀ {s : fS} {x1 : Int} {q}, bS 0 s → RE x1 s = some q → bE 0 s q.2) (hrN : ∀ {s : fS} {q}, bS 0 s → RN s = some q → bE 0 s q.2) {s : fS} {s2 : Int} {s3 : Int} (E : bE 0 σo s) (hF : FX1_take_b78 N RE RN s2 s3 s = some q) : bE 0 σo q.2 := by
  unfold FX1_take_b78 at hF
  refine b_call E (fun _ hq => (BX14_read (N := N) (bE.rf E.S) hq)) hF (fun _ hq2 D2 E2 hF => ?_)
  exact b_ret E2 hF
theorem BX1_take {σo : fS} {q : Int × fS} {N : Nat} {RE : Int → fS → Option ((Unit ⊕ Nat) × fS)} {RN : fS → Option ((Int ⊕ Nat) × fS)} (hrE : ∀ {s : fS} {x1 : Int} {q}, bS 0 s → RE x1 s = some q → bE 0 s q.2) (hrN : ∀ {s : fS} {q}, bS 0 s → RN s = some q → bE 0 s q.2) {s : fS} {p0 : Int} {p1 : Int} (E : bE 0 σo s) (hF : FX1_take N RE RN p0 p1 s = some q) : bE 0 σo q.2 := by
  unfold FX1_take at hF
  refine b_if hF (fun hF => ?_) (fun hF => ?_)
  ·
    refine b_if hF (fun hF => ?_) (fun hF => ?_)
    ·
      refine b_cp E (E.S.c0 (Nat.le_of_ble_eq_true rfl)) hF (fun _ D6 E6 hF => ?_)
      refine b_pI E6 (E6.S.c0 (Nat.le_of_ble_eq_true rfl)) hF (fun _ D10 E10 hF => ?_)
      refine b_call E10 (fun _ hq => (BX3_run (N := N) (RE := RE) (RN := RN) @hrE @hrN (bE.rf E10.S) hq)) hF (fun _ hq14 D14 E14 hF => ?_)
      exact b_ret E14 hF
    ·
      refine b_if hF (fun hF => ?_) (fun hF => ?_)
      ·
        exact BX1_take_b78 (N := N) (RE := RE) (RN := RN) @hrE @hrN E hF
      ·
        exact BX1_take_b78 (N := N) (RE := RE) (RN := RN) @hrE @hrN E hF
  ·
    refine b_call E (fun _ hq => (BX2_take (bE.rf E.S) hq)) hF (fun _ hq21 D21 E21 hF => ?_)
    refine b_if hF (fun hF => ?_) (fun hF => ?_)
    ·
      refine b_call E21 (fun _ hq => (BX5_load (N := N) (bE.rf E21.S) hq)) hF (fun _ hq26 D26 E26 hF => ?_)
      exact b_ret E26 hF
    ·
      refine b_if hF (fun hF => ?_) (fun hF => ?_)
      ·
        exact BX1_take_b32 (N := N) (RE := RE) (RN := RN) @hrE @hrN E21 hF
      ·
        exact BX1_take_b32 (N := N) (RE := RE) (RN := RN) @hrE @hrN E21 hF
theorem BX1_end_b22 {σo : fS} {q : (Int ⊕ Nat) × fS} {N : Nat} {RE : Int → fS → Option ((Unit ⊕ Nat) × fS)} {RN : fS → Option ((Int ⊕ Nat) × fS)} (hrE : ∀ {s : fS} {x1 : Int} {q}, bS 0 s → RE x1 s = some q → bE 0 s q.2) (hrN : ∀ {s : fS} {q}, bS 0 s → RN s = some q → bE 0 s q.2) {s : fS} (E : bE 0 σo s) (hF : FX1_end_b22 N RE RN s = some q) : bE 0 σo q.2 := by
  unfold FX1_end_b22 at hF
  exact b_exc E hF
theorem BX1_end {σo : fS} {q : (Int ⊕ Nat) × fS} {N : Nat} {RE : Int → fS → Option ((Unit ⊕ Nat) × fS)} {RN : fS → Option ((Int ⊕ Nat) × fS)} (hrE : ∀ {s : fS} {x1 : Int} {q}, bS 0 s → RE x1 s = some q → bE 0 s q.2) (hrN : ∀ {s : fS} {q}, bS 0 s → RN s = some q → bE 0 s q.2) {s : fS} {p0 : Int} {p1 : Int} (E : bE 0 σo s) (hF : FX1_end N RE RN p0 p1 s = some q) : bE 0 σo q.2 := by
  unfold FX1_end at hF
  refine b_if hF (fun hF => ?_) (fun hF => ?_)
  ·
    exact BX1_end_b22 (N := N) (RE := RE) (RN := RN) @hrE @hrN E hF
  ·
    refine b_if hF (fun hF => ?_) (fun hF => ?_)
    ·
      exact BX1_end_b22 (N := N) (RE := RE) (RN := RN) @hrE @hrN E hF
    ·
      refine b_if hF (fun hF => ?_) (fun hF => ?_)
      ·
        exact BX1_end_b22 (N := N) (RE := RE) (RN := RN) @hrE @hrN E hF
      ·
        refine b_if hF (fun hF => ?_) (fun hF => ?_)
        ·
          refine b_call E (fun _ hq => (BX1_take (N := N) (RE := RE) (RN := RN) @hrE @hrN (bE.rf E.S) hq)) hF (fun _ hq3 D3 E3 hF => ?_)
          refine b_pI E3 (E3.S.c0 (Nat.le_of_ble_eq_true rfl)) hF (fun _ D4 E4 hF => ?_)
          exact b_ret E4 hF
        ·
          exact BX1_end_b22 (N := N) (RE := RE) (RN := RN) @hrE @hrN E hF
theorem BX1_lay_b3 {σo : fS} {q : Unit × fS} {N : Nat} : ∀ {n : Nat} {s : fS} {l1 : Int} {l2 : Int}, bE 0 σo s → FX1_lay_b3 N n l1 l2 s = some q → bE 0 σo q.2 := by
  intro n
  induction n with
  | zero => intro s l1 l2 E  hF; simp [FX1_lay_b3] at hF
  | succ n ih =>
    intro s l1 l2 E  hF
    rw [FX1_lay_b3] at hF
    refine b_if hF (fun hF => ?_) (fun hF => ?_)
    ·
      exact b_ret E hF
    ·
      refine b_pI E (E.S.c0 (Nat.le_of_ble_eq_true rfl)) hF (fun _ D3 E3 hF => ?_)
      refine b_qI E3 (E3.S.c0 (Nat.le_of_ble_eq_true rfl)) hF (fun _ D4 E4 hF => ?_)
      exact ih E4 hF
theorem BX1_lay {σo : fS} {q : Unit × fS} {N : Nat} {s : fS} {p0 : Int} (E : bE 0 σo s) (hF : FX1_lay N p0 s = some q) : bE 0 σo q.2 := by
  unfold FX1_lay at hF
  exact BX1_lay_b3 (N := N) E hF
theorem BX1_feed {σo : fS} {q : (Unit ⊕ Nat) × fS} {N : Nat} {s : fS} {p0 : Int} {p1 : Int} {p2 : Int} {p3 : Int} {p4 : Int} (E : bE 0 σo s) (hF : FX1_feed N p0 p1 p2 p3 p4 s = some q) : bE 0 σo q.2 := by
  unfold FX1_feed at hF
  refine b_if hF (fun hF => ?_) (fun hF => ?_)
  ·
    refine b_call E (fun _ hq => (BX1_lay (N := N) (bE.rf E.S) hq)) hF (fun _ hq3 D3 E3 hF => ?_)
    refine b_call E3 (fun _ hq => (BX1_lay (N := N) (bE.rf E3.S) hq)) hF (fun _ hq5 D5 E5 hF => ?_)
    refine b_call E5 (fun _ hq => (BX1_lay (N := N) (bE.rf E5.S) hq)) hF (fun _ hq7 D7 E7 hF => ?_)
    refine b_call E7 (fun _ hq => (BX1_lay (N := N) (bE.rf E7.S) hq)) hF (fun _ hq9 D9 E9 hF => ?_)
    refine b_call E9 (fun _ hq => (BX1_lay (N := N) (bE.rf E9.S) hq)) hF (fun _ hq11 D11 E11 hF => ?_)
    exact b_ret E11 hF
  ·
    exact b_exc E hF
theorem BX1_fuel_b10 {σo : fS} {q : (Unit ⊕ Nat) × fS} {s : fS} (E : bE 0 σo s) (hF : FX1_fuel_b10 s = some q) : bE 0 σo q.2 := by
  unfold FX1_fuel_b10 at hF
  exact b_exc E hF
theorem BX1_fuel {σo : fS} {q : (Unit ⊕ Nat) × fS} {s : fS} {p0 : Int} (E : bE 0 σo s) (hF : FX1_fuel p0 s = some q) : bE 0 σo q.2 := by
  unfold FX1_fuel at hF
  refine b_if hF (fun hF => ?_) (fun hF => ?_)
  ·
    exact BX1_fuel_b10 E hF
  ·
    refine b_if hF (fun hF => ?_) (fun hF => ?_)
    ·
      refine b_pI E (E.S.c0 (Nat.le_of_ble_eq_true rfl)) hF (fun _ D1 E1 hF => ?_)
      exact b_ret E1 hF
    ·
      exact BX1_fuel_b10 E hF
theorem BX32_at {σo : fS} {q : Int × fS} {s : fS} {p0 : Int} (E : bE 0 σo s) (hF : FX32_at p0 s = some q) : bE 0 σo q.2 := by
  unfold FX32_at at hF
  refine b_rv hF (fun _ hF => ?_)
  exact b_ret E hF
theorem BX1_out_b21 {σo : fS} {q : (Int ⊕ Nat) × fS} {s : fS} (E : bE 0 σo s) (hF : FX1_out_b21 s = some q) : bE 0 σo q.2 := by
  unfold FX1_out_b21 at hF
  exact b_exc E hF
theorem BX1_out {σo : fS} {q : (Int ⊕ Nat) × fS} {s : fS} {p0 : Int} (E : bE 0 σo s) (hF : FX1_out p0 s = some q) : bE 0 σo q.2 := by
  unfold FX1_out at hF
  refine b_if hF (fun hF => ?_) (fun hF => ?_)
  ·
    exact BX1_out_b21 E hF
  ·
    refine b_if hF (fun hF => ?_) (fun hF => ?_)
    ·
      refine b_call E (fun _ hq => (BX32_at (bE.rf E.S) hq)) hF (fun _ hq9 D9 E9 hF => ?_)
      exact b_ret E9 hF
    ·
      exact BX1_out_b21 E hF
theorem BX1_size {σo : fS} {q : Int × fS} {s : fS} (E : bE 0 σo s) (hF : FX1_size s = some q) : bE 0 σo q.2 := by
  unfold FX1_size at hF
  exact b_ret E hF
theorem BX12_areAlike_b117 {σo : fS} {q : Int × fS} {N : Nat} {K70 : Int → Int → Int → Int → Int → fS → Option (Int × fS)} (hk70 : ∀ {s : fS} {l1 : Int} {l2 : Int} {l3 : Int} {l4 : Int} {l5 : Int}, bE 0 σo s → K70 l1 l2 l3 l4 l5 s = some q → bE 0 σo q.2) {s : fS} {l1 : Int} {l2 : Int} {l3 : Int} {l5 : Int} {s0 : Int} (E : bE 0 σo s) (hF : FX12_areAlike_b117 N K70 l1 l2 l3 l5 s0 s = some q) : bE 0 σo q.2 := by
  unfold FX12_areAlike_b117 at hF
  exact hk70 E hF
theorem BX12_areAlike_b125 {σo : fS} {q : Int × fS} {N : Nat} {s : fS} {l4 : Int} (E : bE 0 σo s) (hF : FX12_areAlike_b125 N l4 s = some q) : bE 0 σo q.2 := by
  unfold FX12_areAlike_b125 at hF
  exact b_z E hF
theorem BX12_areAlike_b70 {σo : fS} {q : Int × fS} {N : Nat} : ∀ {n : Nat} {s : fS} {l1 : Int} {l2 : Int} {l3 : Int} {l4 : Int} {l5 : Int}, bE 0 σo s → FX12_areAlike_b70 N n l1 l2 l3 l4 l5 s = some q → bE 0 σo q.2 := by
  intro n
  induction n with
  | zero => intro s l1 l2 l3 l4 l5 E  hF; simp [FX12_areAlike_b70] at hF
  | succ n ih =>
    intro s l1 l2 l3 l4 l5 E  hF
    rw [FX12_areAlike_b70] at hF
    refine b_if hF (fun hF => ?_) (fun hF => ?_)
    ·
      exact BX12_areAlike_b125 (N := N) E hF
    ·
      refine b_if hF (fun hF => ?_) (fun hF => ?_)
      ·
        exact BX12_areAlike_b125 (N := N) E hF
      ·
        refine b_rv hF (fun _ hF => ?_)
        refine b_rv hF (fun _ hF => ?_)
        refine b_rv hF (fun _ hF => ?_)
        refine b_rv hF (fun _ hF => ?_)
        refine b_if hF (fun hF => ?_) (fun hF => ?_)
        ·
          exact BX12_areAlike_b117 (N := N) (K70 := FX12_areAlike_b70 N n) @ih E hF
        ·
          exact BX12_areAlike_b117 (N := N) (K70 := FX12_areAlike_b70 N n) @ih E hF
theorem BX12_areAlike_b65 {σo : fS} {q : Int × fS} {N : Nat} {s : fS} {l1 : Int} {l2 : Int} {l3 : Int} {s0 : Int} (E : bE 0 σo s) (hF : FX12_areAlike_b65 N l1 l2 l3 s0 s = some q) : bE 0 σo q.2 := by
  unfold FX12_areAlike_b65 at hF
  exact BX12_areAlike_b70 (N := N) E hF
theorem BX12_areAlike_b64 {σo : fS} {q : Int × fS} {N : Nat} {s : fS} {l1 : Int} {l2 : Int} {l3 : Int} (E : bE 0 σo s) (hF : FX12_areAlike_b64 N l1 l2 l3 s = some q) : bE 0 σo q.2 := by
  unfold FX12_areAlike_b64 at hF
  exact BX12_areAlike_b65 (N := N) E hF
theorem BX12_areAlike {σo : fS} {q : Int × fS} {N : Nat} {s : fS} {p0 : Int} {p1 : Int} (E : bE 0 σo s) (hF : FX12_areAlike N p0 p1 s = some q) : bE 0 σo q.2 := by
  unfold FX12_areAlike at hF
  refine b_rv hF (fun _ hF => ?_)
  refine b_rv hF (fun _ hF => ?_)
  refine b_rv hF (fun _ hF => ?_)
  refine b_rv hF (fun _ hF => ?_)
  refine b_if hF (fun hF => ?_) (fun hF => ?_)
  ·
    exact BX12_areAlike_b64 (N := N) E hF
  ·
    refine b_rv hF (fun _ hF => ?_)
    refine b_rv hF (fun _ hF => ?_)
    refine b_rv hF (fun _ hF => ?_)
    refine b_rv hF (fun _ hF => ?_)
    refine b_if hF (fun hF => ?_) (fun hF => ?_)
    ·
      exact BX12_areAlike_b64 (N := N) E hF
    ·
      exact BX12_areAlike_b65 (N := N) E hF
theorem BX8_areAlike_b68 {σo : fS} {q : Int × fS} {N : Nat} {s : fS} {s0 : Int} (E : bE 0 σo s) (hF : FX8_areAlike_b68 N s0 s = some q) : bE 0 σo q.2 := by
  unfold FX8_areAlike_b68 at hF
  exact b_z E hF
theorem BX8_areAlike_b63 {σo : fS} {q : Int × fS} {N : Nat} {s : fS} (E : bE 0 σo s) (hF : FX8_areAlike_b63 N s = some q) : bE 0 σo q.2 := by
  unfold FX8_areAlike_b63 at hF
  exact BX8_areAlike_b68 (N := N) E hF
theorem BX8_areAlike {σo : fS} {q : Int × fS} {N : Nat} {s : fS} {p0 : Int} {p1 : Int} (E : bE 0 σo s) (hF : FX8_areAlike N p0 p1 s = some q) : bE 0 σo q.2 := by
  unfold FX8_areAlike at hF
  refine b_call E (fun _ hq => (BX8_kind (bE.rf E.S) hq)) hF (fun _ hq2 D2 E2 hF => ?_)
  refine b_call E2 (fun _ hq => (BX8_kind (bE.rf E2.S) hq)) hF (fun _ hq4 D4 E4 hF => ?_)
  refine b_if hF (fun hF => ?_) (fun hF => ?_)
  ·
    refine b_call E4 (fun _ hq => (BX8_kind (bE.rf E4.S) hq)) hF (fun _ hq6 D6 E6 hF => ?_)
    refine b_if hF (fun hF => ?_) (fun hF => ?_)
    ·
      refine b_call E6 (fun _ hq => (BX8_kind (bE.rf E6.S) hq)) hF (fun _ hq8 D8 E8 hF => ?_)
      refine b_if hF (fun hF => ?_) (fun hF => ?_)
      ·
        exact BX8_areAlike_b63 (N := N) E8 hF
      ·
        refine b_call E8 (fun _ hq => (BX8_value (bE.rf E8.S) hq)) hF (fun _ hq10 D10 E10 hF => ?_)
        refine b_call E10 (fun _ hq => (BX8_value (bE.rf E10.S) hq)) hF (fun _ hq12 D12 E12 hF => ?_)
        refine b_if hF (fun hF => ?_) (fun hF => ?_)
        ·
          exact BX8_areAlike_b68 (N := N) E12 hF
        ·
          exact BX8_areAlike_b63 (N := N) E12 hF
    ·
      refine b_call E6 (fun _ hq => (BX8_value (bE.rf E6.S) hq)) hF (fun _ hq15 D15 E15 hF => ?_)
      refine b_call E15 (fun _ hq => (BX8_value (bE.rf E15.S) hq)) hF (fun _ hq17 D17 E17 hF => ?_)
      refine b_call E17 (fun _ hq => (BX12_areAlike (N := N) (bE.rf E17.S) hq)) hF (fun _ hq19 D19 E19 hF => ?_)
      exact b_z E19 hF
  ·
    exact b_ret E4 hF
theorem BX8_take {σo : fS} {q : Unit × fS} {s : fS} {p0 : Int} (E : bE 0 σo s) (hF : FX8_take p0 s = some q) : bE 0 σo q.2 := by
  unfold FX8_take at hF
  refine b_call E (fun _ hq => (BX1_grown (bE.rf E.S) (E.S.c0 (Nat.le_of_ble_eq_true rfl)) hq).1) hF (fun _ hq3 D3 E3 hF => ?_)
  refine b_mv E3 (E3.S.c0 (Nat.le_of_ble_eq_true rfl)) (BX1_grown (bE.rf E.S) (E.S.c0 (Nat.le_of_ble_eq_true rfl)) hq3).2 hF (fun _ D4 E4 hF => ?_)
  refine b_pI E4 (E4.S.c0 (Nat.le_of_ble_eq_true rfl)) hF (fun _ D7 E7 hF => ?_)
  refine b_qI E7 (E7.S.c0 (Nat.le_of_ble_eq_true rfl)) hF (fun _ D8 E8 hF => ?_)
  exact b_ret E8 hF
theorem BX8_single_b119 {σo : fS} {q : (Unit ⊕ Nat) × fS} {N : Nat} {K61 : Int → Int → fS → Option ((Unit ⊕ Nat) × fS)} (hk61 : ∀ {s : fS} {l2 : Int} {l3 : Int}, bE 0 σo s → K61 l2 l3 s = some q → bE 0 σo q.2) {s : fS} {l1 : Int} {l3 : Int} {s0 : Int} {s1 : Int} (E : bE 0 σo s) (hF : FX8_single_b119 N K61 l1 l3 s0 s1 s = some q) : bE 0 σo q.2 := by
  unfold FX8_single_b119 at hF
  refine b_if hF (fun hF => ?_) (fun hF => ?_)
  ·
    exact hk61 E hF
  ·
    refine b_call E (fun _ hq => (BX8_take (bE.rf E.S) hq)) hF (fun _ hq2 D2 E2 hF => ?_)
    exact hk61 E2 hF
theorem BX8_single_b89 {σo : fS} {q : (Unit ⊕ Nat) × fS} {N : Nat} {K61 : Int → Int → fS → Option ((Unit ⊕ Nat) × fS)} (hk61 : ∀ {s : fS} {l2 : Int} {l3 : Int}, bE 0 σo s → K61 l2 l3 s = some q → bE 0 σo q.2) {s : fS} {l1 : Int} {l2 : Int} {l3 : Int} {s1 : Int} (E : bE 0 σo s) (hF : FX8_single_b89 N K61 l1 l2 l3 s1 s = some q) : bE 0 σo q.2 := by
  unfold FX8_single_b89 at hF
  refine b_tB E (fun _ hq => BX4_want (bE.rf E.S) hq) hF (fun _ _ D2 E2 hF => ?_)
  refine b_call E2 (fun _ hq => (BX1_is (bE.rf E2.S) hq)) hF (fun _ hq3 D3 E3 hF => ?_)
  refine b_if hF (fun hF => ?_) (fun hF => ?_)
  ·
    refine b_call E3 (fun _ hq => (BX1_is (bE.rf E3.S) hq)) hF (fun _ hq4 D4 E4 hF => ?_)
    refine b_if hF (fun hF => ?_) (fun hF => ?_)
    ·
      exact BX8_single_b119 (N := N) (K61 := K61) @hk61 E4 hF
    ·
      exact BX8_single_b119 (N := N) (K61 := K61) @hk61 E4 hF
  ·
    exact BX8_single_b119 (N := N) (K61 := K61) @hk61 E3 hF
theorem BX8_single_b61 {σo : fS} {q : (Unit ⊕ Nat) × fS} {N : Nat} : ∀ {n : Nat} {s : fS} {l2 : Int} {l3 : Int}, bE 0 σo s → FX8_single_b61 N n l2 l3 s = some q → bE 0 σo q.2 := by
  intro n
  induction n with
  | zero => intro s l2 l3 E  hF; simp [FX8_single_b61] at hF
  | succ n ih =>
    intro s l2 l3 E  hF
    rw [FX8_single_b61] at hF
    refine b_if hF (fun hF => ?_) (fun hF => ?_)
    ·
      exact b_ret E hF
    ·
      refine b_tB E (fun _ hq => BX8_need (N := N) (bE.rf E.S) hq) hF (fun _ _ D2 E2 hF => ?_)
      refine b_if hF (fun hF => ?_) (fun hF => ?_)
      ·
        exact BX8_single_b89 (N := N) (K61 := FX8_single_b61 N n) @ih E2 hF
      ·
        exact BX8_single_b89 (N := N) (K61 := FX8_single_b61 N n) @ih E2 hF
theorem BX8_single_b39 {σo : fS} {q : (Unit ⊕ Nat) × fS} {N : Nat} {s : fS} {l1 : Int} {s1 : Int} (E : bE 0 σo s) (hF : FX8_single_b39 N l1 s1 s = some q) : bE 0 σo q.2 := by
  unfold FX8_single_b39 at hF
  refine b_tB E (fun _ hq => BX4_want (bE.rf E.S) hq) hF (fun _ _ D2 E2 hF => ?_)
  refine b_call E2 (fun _ hq => (BX1_is (bE.rf E2.S) hq)) hF (fun _ hq3 D3 E3 hF => ?_)
  refine b_if hF (fun hF => ?_) (fun hF => ?_)
  ·
    exact BX8_single_b61 (N := N) E3 hF
  ·
    refine b_call E3 (fun _ hq => (BX8_take (bE.rf E3.S) hq)) hF (fun _ hq5 D5 E5 hF => ?_)
    exact b_ret E5 hF
theorem BX8_single_b5 {σo : fS} {q : (Unit ⊕ Nat) × fS} {N : Nat} : ∀ {n : Nat} {s : fS} {l1 : Int}, bE 0 σo s → FX8_single_b5 N n l1 s = some q → bE 0 σo q.2 := by
  intro n
  induction n with
  | zero => intro s l1 E  hF; simp [FX8_single_b5] at hF
  | succ n ih =>
    intro s l1 E  hF
    rw [FX8_single_b5] at hF
    refine b_call E (fun _ hq => (BX1_is (bE.rf E.S) hq)) hF (fun _ hq1 D1 E1 hF => ?_)
    refine b_if hF (fun hF => ?_) (fun hF => ?_)
    ·
      refine b_call E1 (fun _ hq => (BX1_is (bE.rf E1.S) hq)) hF (fun _ hq3 D3 E3 hF => ?_)
      refine b_if hF (fun hF => ?_) (fun hF => ?_)
      ·
        exact BX8_single_b39 (N := N) E3 hF
      ·
        exact BX8_single_b39 (N := N) E3 hF
    ·
      refine b_tB E1 (fun _ hq => BX8_need (N := N) (bE.rf E1.S) hq) hF (fun _ _ D5 E5 hF => ?_)
      exact ih E5 hF
theorem BX8_single {σo : fS} {q : (Unit ⊕ Nat) × fS} {N : Nat} {s : fS} (E : bE 0 σo s) (hF : FX8_single N s = some q) : bE 0 σo q.2 := by
  unfold FX8_single at hF
  refine b_tB E (fun _ hq => BX8_need (N := N) (bE.rf E.S) hq) hF (fun _ _ D2 E2 hF => ?_)
  exact BX8_single_b5 (N := N) E2 hF
theorem BX8_strip_b25 {σo : fS} {q : Unit × fS} {N : Nat} {s : fS} (E : bE 0 σo s) (hF : FX8_strip_b25 N s = some q) : bE 0 σo q.2 := by
  unfold FX8_strip_b25 at hF
  exact b_ret E hF
theorem BX8_strip_b99 {σo : fS} {q : Unit × fS} {N : Nat} {K34 : Int → Int → Int → Int → Int → fS → Option (Unit × fS)} (hk34 : ∀ {s : fS} {l1 : Int} {l2 : Int} {l3 : Int} {l4 : Int} {l5 : Int}, bE 0 σo s → K34 l1 l2 l3 l4 l5 s = some q → bE 0 σo q.2) {s : fS} {l1 : Int} {l2 : Int} {l3 : Int} {l5 : Int} {s0 : Int} (E : bE 0 σo s) (hF : FX8_strip_b99 N K34 l1 l2 l3 l5 s0 s = some q) : bE 0 σo q.2 := by
  unfold FX8_strip_b99 at hF
  exact hk34 E hF
theorem BX8_strip_b87 {σo : fS} {q : Unit × fS} {N : Nat} {K34 : Int → Int → Int → Int → Int → fS → Option (Unit × fS)} (hk34 : ∀ {s : fS} {l1 : Int} {l2 : Int} {l3 : Int} {l4 : Int} {l5 : Int}, bE 0 σo s → K34 l1 l2 l3 l4 l5 s = some q → bE 0 σo q.2) {s : fS} {l1 : Int} {l2 : Int} {l5 : Int} {s0 : Int} {s1 : Int} (E : bE 0 σo s) (hF : FX8_strip_b87 N K34 l1 l2 l5 s0 s1 s = some q) : bE 0 σo q.2 := by
  unfold FX8_strip_b87 at hF
  refine b_if hF (fun hF => ?_) (fun hF => ?_)
  ·
    exact BX8_strip_b99 (N := N) (K34 := K34) @hk34 E hF
  ·
    exact BX8_strip_b99 (N := N) (K34 := K34) @hk34 E hF
theorem BX8_strip_b107 {σo : fS} {q : Unit × fS} {N : Nat} {s : fS} {l1 : Int} {l2 : Int} {l4 : Int} (E : bE 0 σo s) (hF : FX8_strip_b107 N l1 l2 l4 s = some q) : bE 0 σo q.2 := by
  unfold FX8_strip_b107 at hF
  refine b_if hF (fun hF => ?_) (fun hF => ?_)
  ·
    refine b_cp E (E.S.c0 (Nat.le_of_ble_eq_true rfl)) hF (fun _ D4 E4 hF => ?_)
    refine b_pI E4 (E4.S.c0 (Nat.le_of_ble_eq_true rfl)) hF (fun _ D6 E6 hF => ?_)
    exact b_ret E6 hF
  ·
    exact b_ret E hF
theorem BX8_strip_b34 {σo : fS} {q : Unit × fS} {N : Nat} : ∀ {n : Nat} {s : fS} {l1 : Int} {l2 : Int} {l3 : Int} {l4 : Int} {l5 : Int}, bE 0 σo s → FX8_strip_b34 N n l1 l2 l3 l4 l5 s = some q → bE 0 σo q.2 := by
  intro n
  induction n with
  | zero => intro s l1 l2 l3 l4 l5 E  hF; simp [FX8_strip_b34] at hF
  | succ n ih =>
    intro s l1 l2 l3 l4 l5 E  hF
    rw [FX8_strip_b34] at hF
    refine b_if hF (fun hF => ?_) (fun hF => ?_)
    ·
      exact BX8_strip_b107 (N := N) E hF
    ·
      refine b_if hF (fun hF => ?_) (fun hF => ?_)
      ·
        exact BX8_strip_b107 (N := N) E hF
      ·
        refine b_rv hF (fun _ hF => ?_)
        refine b_call E (fun _ hq => (BX1_is (bE.rf E.S) hq)) hF (fun _ hq4 D4 E4 hF => ?_)
        refine b_if hF (fun hF => ?_) (fun hF => ?_)
        ·
          refine b_rv hF (fun _ hF => ?_)
          refine b_call E4 (fun _ hq => (BX1_is (bE.rf E4.S) hq)) hF (fun _ hq7 D7 E7 hF => ?_)
          refine b_if hF (fun hF => ?_) (fun hF => ?_)
          ·
            exact BX8_strip_b87 (N := N) (K34 := FX8_strip_b34 N n) @ih E7 hF
          ·
            exact BX8_strip_b87 (N := N) (K34 := FX8_strip_b34 N n) @ih E7 hF
        ·
          exact BX8_strip_b87 (N := N) (K34 := FX8_strip_b34 N n) @ih E4 hF
theorem BX8_strip {σo : fS} {q : Unit × fS} {N : Nat} {s : fS} {p0 : Int} (E : bE 0 σo s) (hF : FX8_strip N p0 s = some q) : bE 0 σo q.2 := by
  unfold FX8_strip at hF
  refine b_if hF (fun hF => ?_) (fun hF => ?_)
  ·
    exact BX8_strip_b25 (N := N) E hF
  ·
    refine b_rv hF (fun _ hF => ?_)
    refine b_call E (fun _ hq => (BX1_is (bE.rf E.S) hq)) hF (fun _ hq4 D4 E4 hF => ?_)
    refine b_if hF (fun hF => ?_) (fun hF => ?_)
    ·
      exact BX8_strip_b34 (N := N) E4 hF
    ·
      exact BX8_strip_b25 (N := N) E4 hF
theorem BX8_delimited_b194 {σo : fS} {q : (Unit ⊕ Nat) × fS} {N : Nat} {K144 : Int → Int → Int → Int → Int → Int → Int → fS → Option ((Unit ⊕ Nat) × fS)} (hk144 : ∀ {s : fS} {l1 : Int} {l3 : Int} {l4 : Int} {l5 : Int} {l6 : Int} {l7 : Int} {l9 : Int}, bE 0 σo s → K144 l1 l3 l4 l5 l6 l7 l9 s = some q → bE 0 σo q.2) {s : fS} {l1 : Int} {l3 : Int} {l4 : Int} {l5 : Int} {l6 : Int} {l9 : Int} {s0 : Int} (E : bE 0 σo s) (hF : FX8_delimited_b194 N K144 l1 l3 l4 l5 l6 l9 s0 s = some q) : bE 0 σo q.2 := by
  unfold FX8_delimited_b194 at hF
  exact hk144 E hF
theorem BX8_delimited_b202 {σo : fS} {q : (Unit ⊕ Nat) × fS} {N : Nat} {K19 : Int → Int → Int → Int → Int → Int → fS → Option ((Unit ⊕ Nat) × fS)} (hk19 : ∀ {s : fS} {l1 : Int} {l3 : Int} {l4 : Int} {l5 : Int} {l6 : Int} {l7 : Int}, bE 0 σo s → K19 l1 l3 l4 l5 l6 l7 s = some q → bE 0 σo q.2) {s : fS} {l1 : Int} {l3 : Int} {l4 : Int} {l5 : Int} {l6 : Int} {l7 : Int} (E : bE 0 σo s) (hF : FX8_delimited_b202 N K19 l1 l3 l4 l5 l6 l7 s = some q) : bE 0 σo q.2 := by
  unfold FX8_delimited_b202 at hF
  exact hk19 E hF
theorem BX8_delimited_b144 {σo : fS} {q : (Unit ⊕ Nat) × fS} {N : Nat} {K19 : Int → Int → Int → Int → Int → Int → fS → Option ((Unit ⊕ Nat) × fS)} (hk19 : ∀ {s : fS} {l1 : Int} {l3 : Int} {l4 : Int} {l5 : Int} {l6 : Int} {l7 : Int}, bE 0 σo s → K19 l1 l3 l4 l5 l6 l7 s = some q → bE 0 σo q.2) : ∀ {n : Nat} {s : fS} {l1 : Int} {l3 : Int} {l4 : Int} {l5 : Int} {l6 : Int} {l7 : Int} {l9 : Int}, bE 0 σo s → FX8_delimited_b144 N K19 n l1 l3 l4 l5 l6 l7 l9 s = some q → bE 0 σo q.2 := by
  intro n
  induction n with
  | zero => intro s l1 l3 l4 l5 l6 l7 l9 E  hF; simp [FX8_delimited_b144] at hF
  | succ n ih =>
    intro s l1 l3 l4 l5 l6 l7 l9 E  hF
    rw [FX8_delimited_b144] at hF
    refine b_if hF (fun hF => ?_) (fun hF => ?_)
    ·
      exact BX8_delimited_b202 (N := N) (K19 := K19) @hk19 E hF
    ·
      refine b_if hF (fun hF => ?_) (fun hF => ?_)
      ·
        exact BX8_delimited_b202 (N := N) (K19 := K19) @hk19 E hF
      ·
        refine b_rv hF (fun _ hF => ?_)
        refine b_call E (fun _ hq => (BX8_bare (bE.rf E.S) hq)) hF (fun _ hq4 D4 E4 hF => ?_)
        refine b_rv hF (fun _ hF => ?_)
        refine b_if hF (fun hF => ?_) (fun hF => ?_)
        ·
          exact BX8_delimited_b194 (N := N) (K144 := FX8_delimited_b144 N K19 n) @ih E4 hF
        ·
          exact BX8_delimited_b194 (N := N) (K144 := FX8_delimited_b144 N K19 n) @ih E4 hF
theorem BX8_delimited_b139 {σo : fS} {q : (Unit ⊕ Nat) × fS} {N : Nat} {K19 : Int → Int → Int → Int → Int → Int → fS → Option ((Unit ⊕ Nat) × fS)} (hk19 : ∀ {s : fS} {l1 : Int} {l3 : Int} {l4 : Int} {l5 : Int} {l6 : Int} {l7 : Int}, bE 0 σo s → K19 l1 l3 l4 l5 l6 l7 s = some q → bE 0 σo q.2) {s : fS} {l1 : Int} {l3 : Int} {l4 : Int} {l5 : Int} {l6 : Int} {s0 : Int} (E : bE 0 σo s) (hF : FX8_delimited_b139 N K19 l1 l3 l4 l5 l6 s0 s = some q) : bE 0 σo q.2 := by
  unfold FX8_delimited_b139 at hF
  exact BX8_delimited_b144 (N := N) (K19 := K19) @hk19 E hF
theorem BX8_delimited_b125 {σo : fS} {q : (Unit ⊕ Nat) × fS} {N : Nat} {K19 : Int → Int → Int → Int → Int → Int → fS → Option ((Unit ⊕ Nat) × fS)} (hk19 : ∀ {s : fS} {l1 : Int} {l3 : Int} {l4 : Int} {l5 : Int} {l6 : Int} {l7 : Int}, bE 0 σo s → K19 l1 l3 l4 l5 l6 l7 s = some q → bE 0 σo q.2) {s : fS} {l1 : Int} {l3 : Int} {l4 : Int} {l5 : Int} {s0 : Int} (E : bE 0 σo s) (hF : FX8_delimited_b125 N K19 l1 l3 l4 l5 s0 s = some q) : bE 0 σo q.2 := by
  unfold FX8_delimited_b125 at hF
  refine b_if hF (fun hF => ?_) (fun hF => ?_)
  ·
    exact BX8_delimited_b139 (N := N) (K19 := K19) @hk19 E hF
  ·
    exact BX8_delimited_b139 (N := N) (K19 := K19) @hk19 E hF
theorem BX8_delimited_b117 {σo : fS} {q : (Unit ⊕ Nat) × fS} {N : Nat} {K19 : Int → Int → Int → Int → Int → Int → fS → Option ((Unit ⊕ Nat) × fS)} (hk19 : ∀ {s : fS} {l1 : Int} {l3 : Int} {l4 : Int} {l5 : Int} {l6 : Int} {l7 : Int}, bE 0 σo s → K19 l1 l3 l4 l5 l6 l7 s = some q → bE 0 σo q.2) {s : fS} {l1 : Int} {l3 : Int} {l4 : Int} {l5 : Int} (E : bE 0 σo s) (hF : FX8_delimited_b117 N K19 l1 l3 l4 l5 s = some q) : bE 0 σo q.2 := by
  unfold FX8_delimited_b117 at hF
  exact BX8_delimited_b125 (N := N) (K19 := K19) @hk19 E hF
theorem BX8_delimited_b99 {σo : fS} {q : (Unit ⊕ Nat) × fS} {N : Nat} {K19 : Int → Int → Int → Int → Int → Int → fS → Option ((Unit ⊕ Nat) × fS)} (hk19 : ∀ {s : fS} {l1 : Int} {l3 : Int} {l4 : Int} {l5 : Int} {l6 : Int} {l7 : Int}, bE 0 σo s → K19 l1 l3 l4 l5 l6 l7 s = some q → bE 0 σo q.2) {s : fS} {l1 : Int} {l3 : Int} {l4 : Int} {l5 : Int} {l6 : Int} {l8 : Int} {s1 : Int} (E : bE 0 σo s) (hF : FX8_delimited_b99 N K19 l1 l3 l4 l5 l6 l8 s1 s = some q) : bE 0 σo q.2 := by
  unfold FX8_delimited_b99 at hF
  refine b_tB E (fun _ hq => BX4_want (bE.rf E.S) hq) hF (fun _ _ D2 E2 hF => ?_)
  refine b_if hF (fun hF => ?_) (fun hF => ?_)
  ·
    exact BX8_delimited_b117 (N := N) (K19 := K19) @hk19 E2 hF
  ·
    refine b_call E2 (fun _ hq => (BX1_is (bE.rf E2.S) hq)) hF (fun _ hq3 D3 E3 hF => ?_)
    refine b_if hF (fun hF => ?_) (fun hF => ?_)
    ·
      exact BX8_delimited_b125 (N := N) (K19 := K19) @hk19 E3 hF
    ·
      exact BX8_delimited_b117 (N := N) (K19 := K19) @hk19 E3 hF
theorem BX8_delimited_b85 {σo : fS} {q : (Unit ⊕ Nat) × fS} {N : Nat} {K19 : Int → Int → Int → Int → Int → Int → fS → Option ((Unit ⊕ Nat) × fS)} (hk19 : ∀ {s : fS} {l1 : Int} {l3 : Int} {l4 : Int} {l5 : Int} {l6 : Int} {l7 : Int}, bE 0 σo s → K19 l1 l3 l4 l5 l6 l7 s = some q → bE 0 σo q.2) {s : fS} {l1 : Int} {l3 : Int} {l4 : Int} {l5 : Int} {l6 : Int} {l8 : Int} (E : bE 0 σo s) (hF : FX8_delimited_b85 N K19 l1 l3 l4 l5 l6 l8 s = some q) : bE 0 σo q.2 := by
  unfold FX8_delimited_b85 at hF
  refine b_if hF (fun hF => ?_) (fun hF => ?_)
  ·
    exact BX8_delimited_b99 (N := N) (K19 := K19) @hk19 E hF
  ·
    exact BX8_delimited_b99 (N := N) (K19 := K19) @hk19 E hF
theorem BX8_delimited_b73 {σo : fS} {q : (Unit ⊕ Nat) × fS} {N : Nat} {K19 : Int → Int → Int → Int → Int → Int → fS → Option ((Unit ⊕ Nat) × fS)} (hk19 : ∀ {s : fS} {l1 : Int} {l3 : Int} {l4 : Int} {l5 : Int} {l6 : Int} {l7 : Int}, bE 0 σo s → K19 l1 l3 l4 l5 l6 l7 s = some q → bE 0 σo q.2) {s : fS} {l1 : Int} {l3 : Int} {l4 : Int} {l5 : Int} {l6 : Int} {l8 : Int} (E : bE 0 σo s) (hF : FX8_delimited_b73 N K19 l1 l3 l4 l5 l6 l8 s = some q) : bE 0 σo q.2 := by
  unfold FX8_delimited_b73 at hF
  refine b_call E (fun _ hq => (BX1_is (bE.rf E.S) hq)) hF (fun _ hq1 D1 E1 hF => ?_)
  refine b_if hF (fun hF => ?_) (fun hF => ?_)
  ·
    exact BX8_delimited_b85 (N := N) (K19 := K19) @hk19 E1 hF
  ·
    exact BX8_delimited_b85 (N := N) (K19 := K19) @hk19 E1 hF
theorem BX8_delimited_b57 {σo : fS} {q : (Unit ⊕ Nat) × fS} {N : Nat} {K19 : Int → Int → Int → Int → Int → Int → fS → Option ((Unit ⊕ Nat) × fS)} (hk19 : ∀ {s : fS} {l1 : Int} {l3 : Int} {l4 : Int} {l5 : Int} {l6 : Int} {l7 : Int}, bE 0 σo s → K19 l1 l3 l4 l5 l6 l7 s = some q → bE 0 σo q.2) {s : fS} {l1 : Int} {l3 : Int} {l4 : Int} {l5 : Int} {l6 : Int} {l8 : Int} {s1 : Int} (E : bE 0 σo s) (hF : FX8_delimited_b57 N K19 l1 l3 l4 l5 l6 l8 s1 s = some q) : bE 0 σo q.2 := by
  unfold FX8_delimited_b57 at hF
  refine b_tB E (fun _ hq => BX4_want (bE.rf E.S) hq) hF (fun _ _ D2 E2 hF => ?_)
  refine b_call E2 (fun _ hq => (BX1_is (bE.rf E2.S) hq)) hF (fun _ hq3 D3 E3 hF => ?_)
  refine b_if hF (fun hF => ?_) (fun hF => ?_)
  ·
    exact BX8_delimited_b73 (N := N) (K19 := K19) @hk19 E3 hF
  ·
    exact BX8_delimited_b73 (N := N) (K19 := K19) @hk19 E3 hF
theorem BX8_delimited_b19 {σo : fS} {q : (Unit ⊕ Nat) × fS} {N : Nat} : ∀ {n : Nat} {s : fS} {l1 : Int} {l3 : Int} {l4 : Int} {l5 : Int} {l6 : Int} {l7 : Int}, bE 0 σo s → FX8_delimited_b19 N n l1 l3 l4 l5 l6 l7 s = some q → bE 0 σo q.2 := by
  intro n
  induction n with
  | zero => intro s l1 l3 l4 l5 l6 l7 E  hF; simp [FX8_delimited_b19] at hF
  | succ n ih =>
    intro s l1 l3 l4 l5 l6 l7 E  hF
    rw [FX8_delimited_b19] at hF
    refine b_if hF (fun hF => ?_) (fun hF => ?_)
    ·
      refine b_pI E (E.S.c0 (Nat.le_of_ble_eq_true rfl)) hF (fun _ D2 E2 hF => ?_)
      refine b_call E2 (fun _ hq => (BX8_strip (N := N) (bE.rf E2.S) hq)) hF (fun _ hq4 D4 E4 hF => ?_)
      exact b_ret E4 hF
    ·
      refine b_tB E (fun _ hq => BX8_need (N := N) (bE.rf E.S) hq) hF (fun _ _ D6 E6 hF => ?_)
      refine b_call E6 (fun _ hq => (BX8_take (bE.rf E6.S) hq)) hF (fun _ hq8 D8 E8 hF => ?_)
      refine b_if hF (fun hF => ?_) (fun hF => ?_)
      ·
        exact BX8_delimited_b57 (N := N) (K19 := FX8_delimited_b19 N n) @ih E8 hF
      ·
        exact BX8_delimited_b57 (N := N) (K19 := FX8_delimited_b19 N n) @ih E8 hF
theorem BX8_delimited {σo : fS} {q : (Unit ⊕ Nat) × fS} {N : Nat} {s : fS} {p0 : Int} {p1 : Int} (E : bE 0 σo s) (hF : FX8_delimited N p0 p1 s = some q) : bE 0 σo q.2 := by
  unfold FX8_delimited at hF
  exact BX8_delimited_b19 (N := N) E hF
theorem BX13_length_b73 {σo : fS} {q : Int × fS} {N : Nat} {K13 : Int → Int → Int → fS → Option (Int × fS)} (hk13 : ∀ {s : fS} {l1 : Int} {l3 : Int} {l5 : Int}, bE 0 σo s → K13 l1 l3 l5 s = some q → bE 0 σo q.2) {s : fS} {l1 : Int} {l5 : Int} {s0 : Int} {s1 : Int} (E : bE 0 σo s) (hF : FX13_length_b73 N K13 l1 l5 s0 s1 s = some q) : bE 0 σo q.2 := by
  unfold FX13_length_b73 at hF
  exact hk13 E hF
theorem BX13_length_b71 {σo : fS} {q : Int × fS} {N : Nat} {K13 : Int → Int → Int → fS → Option (Int × fS)} (hk13 : ∀ {s : fS} {l1 : Int} {l3 : Int} {l5 : Int}, bE 0 σo s → K13 l1 l3 l5 s = some q → bE 0 σo q.2) {s : fS} {l1 : Int} {l5 : Int} {s0 : Int} {s1 : Int} {s2 : Int} (E : bE 0 σo s) (hF : FX13_length_b71 N K13 l1 l5 s0 s1 s2 s = some q) : bE 0 σo q.2 := by
  unfold FX13_length_b71 at hF
  exact BX13_length_b73 (N := N) (K13 := K13) @hk13 E hF
theorem BX13_length_b13 {σo : fS} {q : Int × fS} {N : Nat} : ∀ {n : Nat} {s : fS} {l1 : Int} {l3 : Int} {l5 : Int}, bE 0 σo s → FX13_length_b13 N n l1 l3 l5 s = some q → bE 0 σo q.2 := by
  intro n
  induction n with
  | zero => intro s l1 l3 l5 E  hF; simp [FX13_length_b13] at hF
  | succ n ih =>
    intro s l1 l3 l5 E  hF
    rw [FX13_length_b13] at hF
    refine b_rv hF (fun _ hF => ?_)
    refine b_if hF (fun hF => ?_) (fun hF => ?_)
    ·
      exact b_ret E hF
    ·
      refine b_rv hF (fun _ hF => ?_)
      refine b_if hF (fun hF => ?_) (fun hF => ?_)
      ·
        refine b_rv hF (fun _ hF => ?_)
        refine b_if hF (fun hF => ?_) (fun hF => ?_)
        ·
          refine b_rv hF (fun _ hF => ?_)
          exact BX13_length_b71 (N := N) (K13 := FX13_length_b13 N n) @ih E hF
        ·
          exact BX13_length_b71 (N := N) (K13 := FX13_length_b13 N n) @ih E hF
      ·
        exact BX13_length_b73 (N := N) (K13 := FX13_length_b13 N n) @ih E hF
theorem BX13_length {σo : fS} {q : Int × fS} {N : Nat} {s : fS} {p0 : Int} (E : bE 0 σo s) (hF : FX13_length N p0 s = some q) : bE 0 σo q.2 := by
  unfold FX13_length at hF
  refine b_rv hF (fun _ hF => ?_)
  exact BX13_length_b13 (N := N) E hF
theorem BX13_call_b110 {σo : fS} {q : Unit × fS} {N : Nat} {K13 : Int → Int → fS → Option (Unit × fS)} (hk13 : ∀ {s : fS} {l1 : Int} {l4 : Int}, bE 0 σo s → K13 l1 l4 s = some q → bE 0 σo q.2) {s : fS} {l1 : Int} {l4 : Int} (E : bE 0 σo s) (hF : FX13_call_b110 N K13 l1 l4 s = some q) : bE 0 σo q.2 := by
  unfold FX13_call_b110 at hF
  exact hk13 E hF
theorem BX13_call_b89 {σo : fS} {q : Unit × fS} {N : Nat} {K13 : Int → Int → fS → Option (Unit × fS)} (hk13 : ∀ {s : fS} {l1 : Int} {l4 : Int}, bE 0 σo s → K13 l1 l4 s = some q → bE 0 σo q.2) : ∀ {n : Nat} {s : fS} {l1 : Int} {l4 : Int} {l6 : Int} {l7 : Int}, bE 0 σo s → FX13_call_b89 N K13 n l1 l4 l6 l7 s = some q → bE 0 σo q.2 := by
  intro n
  induction n with
  | zero => intro s l1 l4 l6 l7 E  hF; simp [FX13_call_b89] at hF
  | succ n ih =>
    intro s l1 l4 l6 l7 E  hF
    rw [FX13_call_b89] at hF
    refine b_if hF (fun hF => ?_) (fun hF => ?_)
    ·
      exact BX13_call_b110 (N := N) (K13 := K13) @hk13 E hF
    ·
      refine b_rv hF (fun _ hF => ?_)
      refine b_call E (fun _ hq => (BX13_put (bE.rf E.S) hq)) hF (fun _ hq3 D3 E3 hF => ?_)
      exact ih E3 hF
theorem BX13_call_b79 {σo : fS} {q : Unit × fS} {N : Nat} {K13 : Int → Int → fS → Option (Unit × fS)} (hk13 : ∀ {s : fS} {l1 : Int} {l4 : Int}, bE 0 σo s → K13 l1 l4 s = some q → bE 0 σo q.2) {s : fS} {l1 : Int} {l4 : Int} {l5 : Int} {s0 : Int} (E : bE 0 σo s) (hF : FX13_call_b79 N K13 l1 l4 l5 s0 s = some q) : bE 0 σo q.2 := by
  unfold FX13_call_b79 at hF
  refine b_rv hF (fun _ hF => ?_)
  exact BX13_call_b89 (N := N) (K13 := K13) @hk13 E hF
theorem BX13_call_b13 {σo : fS} {q : Unit × fS} {N : Nat} : ∀ {n : Nat} {s : fS} {l1 : Int} {l4 : Int}, bE 0 σo s → FX13_call_b13 N n l1 l4 s = some q → bE 0 σo q.2 := by
  intro n
  induction n with
  | zero => intro s l1 l4 E  hF; simp [FX13_call_b13] at hF
  | succ n ih =>
    intro s l1 l4 E  hF
    rw [FX13_call_b13] at hF
    refine b_rv hF (fun _ hF => ?_)
    refine b_if hF (fun hF => ?_) (fun hF => ?_)
    ·
      exact b_ret E hF
    ·
      refine b_rv hF (fun _ hF => ?_)
      refine b_if hF (fun hF => ?_) (fun hF => ?_)
      ·
        refine b_if hF (fun hF => ?_) (fun hF => ?_)
        ·
          refine b_rv hF (fun _ hF => ?_)
          exact BX13_call_b79 (N := N) (K13 := FX13_call_b13 N n) @ih E hF
        ·
          exact BX13_call_b79 (N := N) (K13 := FX13_call_b13 N n) @ih E hF
      ·
        refine b_rv hF (fun _ hF => ?_)
        refine b_call E (fun _ hq => (BX13_put (bE.rf E.S) hq)) hF (fun _ hq12 D12 E12 hF => ?_)
        exact BX13_call_b110 (N := N) (K13 := FX13_call_b13 N n) @ih E12 hF
theorem BX13_call {σo : fS} {q : Unit × fS} {N : Nat} {s : fS} {p0 : Int} (E : bE 0 σo s) (hF : FX13_call N p0 s = some q) : bE 0 σo q.2 := by
  unfold FX13_call at hF
  refine b_rv hF (fun _ hF => ?_)
  exact BX13_call_b13 (N := N) E hF
theorem BX8_call_b85 {σo : fS} {q : (Unit ⊕ Nat) × fS} {N : Nat} {K36 : Int → Int → Int → Int → fS → Option ((Unit ⊕ Nat) × fS)} (hk36 : ∀ {s : fS} {l1 : Int} {l2 : Int} {l3 : Int} {l4 : Int}, bE 0 σo s → K36 l1 l2 l3 l4 s = some q → bE 0 σo q.2) {s : fS} {l1 : Int} {l2 : Int} {l3 : Int} {l4 : Int} {s1 : Int} (E : bE 0 σo s) (hF : FX8_call_b85 N K36 l1 l2 l3 l4 s1 s = some q) : bE 0 σo q.2 := by
  unfold FX8_call_b85 at hF
  refine b_tB E (fun _ hq => BX4_want (bE.rf E.S) hq) hF (fun _ _ D2 E2 hF => ?_)
  exact hk36 E2 hF
theorem BX8_call_b157 {σo : fS} {q : (Unit ⊕ Nat) × fS} {N : Nat} {K98 : Int → Int → Int → Int → Int → fS → Option ((Unit ⊕ Nat) × fS)} (hk98 : ∀ {s : fS} {l1 : Int} {l2 : Int} {l3 : Int} {l4 : Int} {l5 : Int}, bE 0 σo s → K98 l1 l2 l3 l4 l5 s = some q → bE 0 σo q.2) {s : fS} {l1 : Int} {l2 : Int} {l3 : Int} {l4 : Int} {l5 : Int} (E : bE 0 σo s) (hF : FX8_call_b157 N K98 l1 l2 l3 l4 l5 s = some q) : bE 0 σo q.2 := by
  unfold FX8_call_b157 at hF
  refine b_qI E (E.S.c0 (Nat.le_of_ble_eq_true rfl)) hF (fun _ D3 E3 hF => ?_)
  exact hk98 E3 hF
theorem BX8_call_b137 {σo : fS} {q : (Unit ⊕ Nat) × fS} {N : Nat} {K98 : Int → Int → Int → Int → Int → fS → Option ((Unit ⊕ Nat) × fS)} (hk98 : ∀ {s : fS} {l1 : Int} {l2 : Int} {l3 : Int} {l4 : Int} {l5 : Int}, bE 0 σo s → K98 l1 l2 l3 l4 l5 s = some q → bE 0 σo q.2) {s : fS} {l1 : Int} {l2 : Int} {l3 : Int} {l4 : Int} {l5 : Int} {l6 : Int} (E : bE 0 σo s) (hF : FX8_call_b137 N K98 l1 l2 l3 l4 l5 l6 s = some q) : bE 0 σo q.2 := by
  unfold FX8_call_b137 at hF
  refine b_if hF (fun hF => ?_) (fun hF => ?_)
  ·
    refine b_tB E (fun _ hq => BX8_delimited (N := N) (bE.rf E.S) hq) hF (fun _ _ D2 E2 hF => ?_)
    exact BX8_call_b157 (N := N) (K98 := K98) @hk98 E2 hF
  ·
    refine b_tB E (fun _ hq => BX8_single (N := N) (bE.rf E.S) hq) hF (fun _ _ D4 E4 hF => ?_)
    exact BX8_call_b157 (N := N) (K98 := K98) @hk98 E4 hF
theorem BX8_call_b110 {σo : fS} {q : (Unit ⊕ Nat) × fS} {N : Nat} {K98 : Int → Int → Int → Int → Int → fS → Option ((Unit ⊕ Nat) × fS)} (hk98 : ∀ {s : fS} {l1 : Int} {l2 : Int} {l3 : Int} {l4 : Int} {l5 : Int}, bE 0 σo s → K98 l1 l2 l3 l4 l5 s = some q → bE 0 σo q.2) : ∀ {n : Nat} {s : fS} {l1 : Int} {l2 : Int} {l3 : Int} {l4 : Int} {l5 : Int} {l6 : Int}, bE 0 σo s → FX8_call_b110 N K98 n l1 l2 l3 l4 l5 l6 s = some q → bE 0 σo q.2 := by
  intro n
  induction n with
  | zero => intro s l1 l2 l3 l4 l5 l6 E  hF; simp [FX8_call_b110] at hF
  | succ n ih =>
    intro s l1 l2 l3 l4 l5 l6 E  hF
    rw [FX8_call_b110] at hF
    refine b_if hF (fun hF => ?_) (fun hF => ?_)
    ·
      exact BX8_call_b137 (N := N) (K98 := K98) @hk98 E hF
    ·
      refine b_rv hF (fun _ hF => ?_)
      refine b_if hF (fun hF => ?_) (fun hF => ?_)
      ·
        exact BX8_call_b137 (N := N) (K98 := K98) @hk98 E hF
      ·
        exact ih E hF
theorem BX8_call_b215 {σo : fS} {q : (Unit ⊕ Nat) × fS} {N : Nat} {s : fS} {l1 : Int} {s1 : Int} (E : bE 0 σo s) (hF : FX8_call_b215 N l1 s1 s = some q) : bE 0 σo q.2 := by
  unfold FX8_call_b215 at hF
  refine b_tB E (fun _ hq => BX4_want (bE.rf E.S) hq) hF (fun _ _ D2 E2 hF => ?_)
  refine b_call E2 (fun _ hq => (BX13_call (N := N) (bE.rf E2.S) hq)) hF (fun _ hq7 D7 E7 hF => ?_)
  exact b_ret E7 hF
theorem BX8_call_b98 {σo : fS} {q : (Unit ⊕ Nat) × fS} {N : Nat} : ∀ {n : Nat} {s : fS} {l1 : Int} {l2 : Int} {l3 : Int} {l4 : Int} {l5 : Int}, bE 0 σo s → FX8_call_b98 N n l1 l2 l3 l4 l5 s = some q → bE 0 σo q.2 := by
  intro n
  induction n with
  | zero => intro s l1 l2 l3 l4 l5 E  hF; simp [FX8_call_b98] at hF
  | succ n ih =>
    intro s l1 l2 l3 l4 l5 E  hF
    rw [FX8_call_b98] at hF
    refine b_if hF (fun hF => ?_) (fun hF => ?_)
    ·
      refine b_call E (fun _ hq => (BX13_length (N := N) (bE.rf E.S) hq)) hF (fun _ hq4 D4 E4 hF => ?_)
      refine b_if hF (fun hF => ?_) (fun hF => ?_)
      ·
        exact BX8_call_b215 (N := N) E4 hF
      ·
        exact BX8_call_b215 (N := N) E4 hF
    ·
      exact BX8_call_b110 (N := N) (K98 := FX8_call_b98 N n) @ih E hF
theorem BX8_call_b95 {σo : fS} {q : (Unit ⊕ Nat) × fS} {N : Nat} {s : fS} {l1 : Int} {l2 : Int} {l3 : Int} {l4 : Int} (E : bE 0 σo s) (hF : FX8_call_b95 N l1 l2 l3 l4 s = some q) : bE 0 σo q.2 := by
  unfold FX8_call_b95 at hF
  exact BX8_call_b98 (N := N) E hF
theorem BX8_call_b36 {σo : fS} {q : (Unit ⊕ Nat) × fS} {N : Nat} : ∀ {n : Nat} {s : fS} {l1 : Int} {l2 : Int} {l3 : Int} {l4 : Int}, bE 0 σo s → FX8_call_b36 N n l1 l2 l3 l4 s = some q → bE 0 σo q.2 := by
  intro n
  induction n with
  | zero => intro s l1 l2 l3 l4 E  hF; simp [FX8_call_b36] at hF
  | succ n ih =>
    intro s l1 l2 l3 l4 E  hF
    rw [FX8_call_b36] at hF
    refine b_if hF (fun hF => ?_) (fun hF => ?_)
    ·
      exact BX8_call_b95 (N := N) E hF
    ·
      refine b_rv hF (fun _ hF => ?_)
      refine b_if hF (fun hF => ?_) (fun hF => ?_)
      ·
        exact BX8_call_b95 (N := N) E hF
      ·
        refine b_tB E (fun _ hq => BX8_need (N := N) (bE.rf E.S) hq) hF (fun _ _ D6 E6 hF => ?_)
        refine b_call E6 (fun _ hq => (BX8_bare (bE.rf E6.S) hq)) hF (fun _ hq7 D7 E7 hF => ?_)
        refine b_rv hF (fun _ hF => ?_)
        refine b_if hF (fun hF => ?_) (fun hF => ?_)
        ·
          exact BX8_call_b85 (N := N) (K36 := FX8_call_b36 N n) @ih E7 hF
        ·
          exact BX8_call_b85 (N := N) (K36 := FX8_call_b36 N n) @ih E7 hF
theorem BX8_call {σo : fS} {q : (Unit ⊕ Nat) × fS} {N : Nat} {s : fS} {p0 : Int} (E : bE 0 σo s) (hF : FX8_call N p0 s = some q) : bE 0 σo q.2 := by
  unfold FX8_call at hF
  refine b_rv hF (fun _ hF => ?_)
  refine b_rv hF (fun _ hF => ?_)
  refine b_rv hF (fun _ hF => ?_)
  refine b_pI E (E.S.c0 (Nat.le_of_ble_eq_true rfl)) hF (fun _ D10 E10 hF => ?_)
  exact BX8_call_b36 (N := N) E10 hF
theorem BX8_categoryOf_b22 {σo : fS} {q : Int × fS} {s : fS} {s0 : Int} (E : bE 0 σo s) (hF : FX8_categoryOf_b22 s0 s = some q) : bE 0 σo q.2 := by
  unfold FX8_categoryOf_b22 at hF
  exact b_ret E hF
theorem BX8_categoryOf {σo : fS} {q : Int × fS} {s : fS} {p0 : Int} (E : bE 0 σo s) (hF : FX8_categoryOf p0 s = some q) : bE 0 σo q.2 := by
  unfold FX8_categoryOf at hF
  refine b_call E (fun _ hq => (BX8_kind (bE.rf E.S) hq)) hF (fun _ hq2 D2 E2 hF => ?_)
  refine b_if hF (fun hF => ?_) (fun hF => ?_)
  ·
    exact BX8_categoryOf_b22 E2 hF
  ·
    refine b_call E2 (fun _ hq => (BX8_value (bE.rf E2.S) hq)) hF (fun _ hq4 D4 E4 hF => ?_)
    refine b_call E4 (fun _ hq => (BX1_category (bE.rf E4.S) hq)) hF (fun _ hq5 D5 E5 hF => ?_)
    exact BX8_categoryOf_b22 E5 hF
theorem BX8_pass_b33 {σo : fS} {q : (Int ⊕ Nat) × fS} {N : Nat} {s : fS} {l2 : Int} (E : bE 0 σo s) (hF : FX8_pass_b33 N l2 s = some q) : bE 0 σo q.2 := by
  unfold FX8_pass_b33 at hF
  exact b_ret E hF
theorem BX8_pass_b63 {σo : fS} {q : (Int ⊕ Nat) × fS} {N : Nat} {K2 : Int → fS → Option ((Int ⊕ Nat) × fS)} (hk2 : ∀ {s : fS} {l1 : Int}, bE 0 σo s → K2 l1 s = some q → bE 0 σo q.2) {s : fS} {s0 : Int} {s1 : Int} (E : bE 0 σo s) (hF : FX8_pass_b63 N K2 s0 s1 s = some q) : bE 0 σo q.2 := by
  unfold FX8_pass_b63 at hF
  exact hk2 E hF
theorem BX8_pass_b52 {σo : fS} {q : (Int ⊕ Nat) × fS} {N : Nat} {K2 : Int → fS → Option ((Int ⊕ Nat) × fS)} (hk2 : ∀ {s : fS} {l1 : Int}, bE 0 σo s → K2 l1 s = some q → bE 0 σo q.2) {s : fS} {l2 : Int} {s0 : Int} (E : bE 0 σo s) (hF : FX8_pass_b52 N K2 l2 s0 s = some q) : bE 0 σo q.2 := by
  unfold FX8_pass_b52 at hF
  refine b_if hF (fun hF => ?_) (fun hF => ?_)
  ·
    exact BX8_pass_b63 (N := N) (K2 := K2) @hk2 E hF
  ·
    exact BX8_pass_b63 (N := N) (K2 := K2) @hk2 E hF
theorem BX8_pass_b35 {σo : fS} {q : (Int ⊕ Nat) × fS} {N : Nat} {K2 : Int → fS → Option ((Int ⊕ Nat) × fS)} (hk2 : ∀ {s : fS} {l1 : Int}, bE 0 σo s → K2 l1 s = some q → bE 0 σo q.2) {s : fS} {l1 : Int} {l2 : Int} (E : bE 0 σo s) (hF : FX8_pass_b35 N K2 l1 l2 s = some q) : bE 0 σo q.2 := by
  unfold FX8_pass_b35 at hF
  refine b_if hF (fun hF => ?_) (fun hF => ?_)
  ·
    exact BX8_pass_b52 (N := N) (K2 := K2) @hk2 E hF
  ·
    refine b_if hF (fun hF => ?_) (fun hF => ?_)
    ·
      exact BX8_pass_b52 (N := N) (K2 := K2) @hk2 E hF
    ·
      exact BX8_pass_b63 (N := N) (K2 := K2) @hk2 E hF
theorem BX8_pass_b2 {σo : fS} {q : (Int ⊕ Nat) × fS} {N : Nat} : ∀ {n : Nat} {s : fS} {l1 : Int}, bE 0 σo s → FX8_pass_b2 N n l1 s = some q → bE 0 σo q.2 := by
  intro n
  induction n with
  | zero => intro s l1 E  hF; simp [FX8_pass_b2] at hF
  | succ n ih =>
    intro s l1 E  hF
    rw [FX8_pass_b2] at hF
    refine b_tB E (fun _ hq => BX8_need (N := N) (bE.rf E.S) hq) hF (fun _ _ D2 E2 hF => ?_)
    refine b_call E2 (fun _ hq => (BX8_primitive (bE.rf E2.S) hq)) hF (fun _ hq4 D4 E4 hF => ?_)
    refine b_if hF (fun hF => ?_) (fun hF => ?_)
    ·
      exact BX8_pass_b35 (N := N) (K2 := FX8_pass_b2 N n) @ih E4 hF
    ·
      refine b_if hF (fun hF => ?_) (fun hF => ?_)
      ·
        exact BX8_pass_b33 (N := N) E4 hF
      ·
        refine b_if hF (fun hF => ?_) (fun hF => ?_)
        ·
          exact BX8_pass_b33 (N := N) E4 hF
        ·
          refine b_if hF (fun hF => ?_) (fun hF => ?_)
          ·
            exact BX8_pass_b35 (N := N) (K2 := FX8_pass_b2 N n) @ih E4 hF
          ·
            exact BX8_pass_b33 (N := N) E4 hF
theorem BX8_pass {σo : fS} {q : (Int ⊕ Nat) × fS} {N : Nat} {s : fS} (E : bE 0 σo s) (hF : FX8_pass N s = some q) : bE 0 σo q.2 := by
  unfold FX8_pass at hF
  exact BX8_pass_b2 (N := N) E hF
theorem BX8_passOwn_b31 {σo : fS} {q : (Int ⊕ Nat) × fS} {N : Nat} {K5 : Int → Int → fS → Option ((Int ⊕ Nat) × fS)} (hk5 : ∀ {s : fS} {l1 : Int} {l2 : Int}, bE 0 σo s → K5 l1 l2 s = some q → bE 0 σo q.2) {s : fS} {l1 : Int} {s1 : Int} {s2 : Int} (E : bE 0 σo s) (hF : FX8_passOwn_b31 N K5 l1 s1 s2 s = some q) : bE 0 σo q.2 := by
  unfold FX8_passOwn_b31 at hF
  refine b_pI E (E.S.c0 (Nat.le_of_ble_eq_true rfl)) hF (fun _ D1 E1 hF => ?_)
  refine b_tB E1 (fun _ hq => BX8_pass (N := N) (bE.rf E1.S) hq) hF (fun _ _ D3 E3 hF => ?_)
  exact hk5 E3 hF
theorem BX8_passOwn_b5 {σo : fS} {q : (Int ⊕ Nat) × fS} {N : Nat} : ∀ {n : Nat} {s : fS} {l1 : Int} {l2 : Int}, bE 0 σo s → FX8_passOwn_b5 N n l1 l2 s = some q → bE 0 σo q.2 := by
  intro n
  induction n with
  | zero => intro s l1 l2 E  hF; simp [FX8_passOwn_b5] at hF
  | succ n ih =>
    intro s l1 l2 E  hF
    rw [FX8_passOwn_b5] at hF
    refine b_if hF (fun hF => ?_) (fun hF => ?_)
    ·
      exact b_ret E hF
    ·
      refine b_if hF (fun hF => ?_) (fun hF => ?_)
      ·
        exact BX8_passOwn_b31 (N := N) (K5 := FX8_passOwn_b5 N n) @ih E hF
      ·
        exact BX8_passOwn_b31 (N := N) (K5 := FX8_passOwn_b5 N n) @ih E hF
theorem BX8_passOwn {σo : fS} {q : (Int ⊕ Nat) × fS} {N : Nat} {s : fS} {p0 : Int} (E : bE 0 σo s) (hF : FX8_passOwn N p0 s = some q) : bE 0 σo q.2 := by
  unfold FX8_passOwn at hF
  refine b_tB E (fun _ hq => BX8_pass (N := N) (bE.rf E.S) hq) hF (fun _ _ D2 E2 hF => ?_)
  exact BX8_passOwn_b5 (N := N) E2 hF
theorem BX8_chooseCase_b48 {σo : fS} {q : (Unit ⊕ Nat) × fS} {N : Nat} {K13 : Int → Int → Int → fS → Option ((Unit ⊕ Nat) × fS)} (hk13 : ∀ {s : fS} {l1 : Int} {l3 : Int} {l4 : Int}, bE 0 σo s → K13 l1 l3 l4 s = some q → bE 0 σo q.2) {s : fS} {l1 : Int} {l4 : Int} {s0 : Int} {s1 : Int} (E : bE 0 σo s) (hF : FX8_chooseCase_b48 N K13 l1 l4 s0 s1 s = some q) : bE 0 σo q.2 := by
  unfold FX8_chooseCase_b48 at hF
  exact hk13 E hF
theorem BX8_chooseCase_b47 {σo : fS} {q : (Unit ⊕ Nat) × fS} {N : Nat} {K13 : Int → Int → Int → fS → Option ((Unit ⊕ Nat) × fS)} (hk13 : ∀ {s : fS} {l1 : Int} {l3 : Int} {l4 : Int}, bE 0 σo s → K13 l1 l3 l4 s = some q → bE 0 σo q.2) {s : fS} {l1 : Int} {l4 : Int} {s0 : Int} (E : bE 0 σo s) (hF : FX8_chooseCase_b47 N K13 l1 l4 s0 s = some q) : bE 0 σo q.2 := by
  unfold FX8_chooseCase_b47 at hF
  exact BX8_chooseCase_b48 (N := N) (K13 := K13) @hk13 E hF
theorem BX8_chooseCase_b88 {σo : fS} {q : (Unit ⊕ Nat) × fS} {N : Nat} {s : fS} (E : bE 0 σo s) (hF : FX8_chooseCase_b88 N s = some q) : bE 0 σo q.2 := by
  unfold FX8_chooseCase_b88 at hF
  exact b_ret E hF
theorem BX8_chooseCase_b70 {σo : fS} {q : (Unit ⊕ Nat) × fS} {N : Nat} {s : fS} {l4 : Int} {s1 : Int} {s2 : Int} (E : bE 0 σo s) (hF : FX8_chooseCase_b70 N l4 s1 s2 s = some q) : bE 0 σo q.2 := by
  unfold FX8_chooseCase_b70 at hF
  refine b_qI E (E.S.c0 (Nat.le_of_ble_eq_true rfl)) hF (fun _ D1 E1 hF => ?_)
  refine b_if hF (fun hF => ?_) (fun hF => ?_)
  ·
    exact BX8_chooseCase_b88 (N := N) E1 hF
  ·
    refine b_pI E1 (E1.S.c0 (Nat.le_of_ble_eq_true rfl)) hF (fun _ D3 E3 hF => ?_)
    exact BX8_chooseCase_b88 (N := N) E3 hF
theorem BX8_chooseCase_b53 {σo : fS} {q : (Unit ⊕ Nat) × fS} {N : Nat} {s : fS} {l1 : Int} {l4 : Int} (E : bE 0 σo s) (hF : FX8_chooseCase_b53 N l1 l4 s = some q) : bE 0 σo q.2 := by
  unfold FX8_chooseCase_b53 at hF
  refine b_if hF (fun hF => ?_) (fun hF => ?_)
  ·
    exact BX8_chooseCase_b70 (N := N) E hF
  ·
    exact BX8_chooseCase_b70 (N := N) E hF
theorem BX8_chooseCase_b13 {σo : fS} {q : (Unit ⊕ Nat) × fS} {N : Nat} : ∀ {n : Nat} {s : fS} {l1 : Int} {l3 : Int} {l4 : Int}, bE 0 σo s → FX8_chooseCase_b13 N n l1 l3 l4 s = some q → bE 0 σo q.2 := by
  intro n
  induction n with
  | zero => intro s l1 l3 l4 E  hF; simp [FX8_chooseCase_b13] at hF
  | succ n ih =>
    intro s l1 l3 l4 E  hF
    rw [FX8_chooseCase_b13] at hF
    refine b_if hF (fun hF => ?_) (fun hF => ?_)
    ·
      exact BX8_chooseCase_b53 (N := N) E hF
    ·
      refine b_if hF (fun hF => ?_) (fun hF => ?_)
      ·
        exact BX8_chooseCase_b53 (N := N) E hF
      ·
        refine b_tB E (fun _ hq => BX8_passOwn (N := N) (bE.rf E.S) hq) hF (fun _ _ D2 E2 hF => ?_)
        refine b_if hF (fun hF => ?_) (fun hF => ?_)
        ·
          exact BX8_chooseCase_b47 (N := N) (K13 := FX8_chooseCase_b13 N n) @ih E2 hF
        ·
          refine b_if hF (fun hF => ?_) (fun hF => ?_)
          ·
            exact BX8_chooseCase_b47 (N := N) (K13 := FX8_chooseCase_b13 N n) @ih E2 hF
          ·
            exact BX8_chooseCase_b48 (N := N) (K13 := FX8_chooseCase_b13 N n) @ih E2 hF
theorem BX8_chooseCase {σo : fS} {q : (Unit ⊕ Nat) × fS} {N : Nat} {s : fS} {p0 : Int} {p1 : Int} (E : bE 0 σo s) (hF : FX8_chooseCase N p0 p1 s = some q) : bE 0 σo q.2 := by
  unfold FX8_chooseCase at hF
  refine b_qI E (E.S.c0 (Nat.le_of_ble_eq_true rfl)) hF (fun _ D2 E2 hF => ?_)
  exact BX8_chooseCase_b13 (N := N) E2 hF
theorem BX8_codeOf_b24 {σo : fS} {q : Int × fS} {s : fS} {s0 : Int} (E : bE 0 σo s) (hF : FX8_codeOf_b24 s0 s = some q) : bE 0 σo q.2 := by
  unfold FX8_codeOf_b24 at hF
  exact b_ret E hF
theorem BX8_codeOf {σo : fS} {q : Int × fS} {s : fS} {p0 : Int} (E : bE 0 σo s) (hF : FX8_codeOf p0 s = some q) : bE 0 σo q.2 := by
  unfold FX8_codeOf at hF
  refine b_call E (fun _ hq => (BX8_kind (bE.rf E.S) hq)) hF (fun _ hq2 D2 E2 hF => ?_)
  refine b_if hF (fun hF => ?_) (fun hF => ?_)
  ·
    exact BX8_codeOf_b24 E2 hF
  ·
    refine b_call E2 (fun _ hq => (BX8_value (bE.rf E2.S) hq)) hF (fun _ hq4 D4 E4 hF => ?_)
    exact BX8_codeOf_b24 E4 hF
theorem BX8_compare_b136 {σo : fS} {q : (Int ⊕ Nat) × fS} {N : Nat} {RE : Int → fS → Option ((Unit ⊕ Nat) × fS)} {RN : fS → Option ((Int ⊕ Nat) × fS)} (hrE : ∀ {s : fS} {x1 : Int} {q}, bS 0 s → RE x1 s = some q → bE 0 s q.2) (hrN : ∀ {s : fS} {q}, bS 0 s → RN s = some q → bE 0 s q.2) {s : fS} {s0 : Int} (E : bE 0 σo s) (hF : FX8_compare_b136 N RE RN s0 s = some q) : bE 0 σo q.2 := by
  unfold FX8_compare_b136 at hF
  exact b_z E hF
theorem BX8_compare_b77 {σo : fS} {q : (Int ⊕ Nat) × fS} {N : Nat} {RE : Int → fS → Option ((Unit ⊕ Nat) × fS)} {RN : fS → Option ((Int ⊕ Nat) × fS)} (hrE : ∀ {s : fS} {x1 : Int} {q}, bS 0 s → RE x1 s = some q → bE 0 s q.2) (hrN : ∀ {s : fS} {q}, bS 0 s → RN s = some q → bE 0 s q.2) {s : fS} {l2 : Int} {l3 : Int} {s0 : Int} (E : bE 0 σo s) (hF : FX8_compare_b77 N RE RN l2 l3 s0 s = some q) : bE 0 σo q.2 := by
  unfold FX8_compare_b77 at hF
  refine b_call E (fun _ hq => (BX1_other (bE.rf E.S) hq)) hF (fun _ hq1 D1 E1 hF => ?_)
  refine b_if hF (fun hF => ?_) (fun hF => ?_)
  ·
    refine b_call E1 (fun _ hq => (BX1_other (bE.rf E1.S) hq)) hF (fun _ hq2 D2 E2 hF => ?_)
    refine b_if hF (fun hF => ?_) (fun hF => ?_)
    ·
      refine b_if hF (fun hF => ?_) (fun hF => ?_)
      ·
        exact BX8_compare_b136 (N := N) (RE := RE) (RN := RN) @hrE @hrN E2 hF
      ·
        exact BX8_compare_b136 (N := N) (RE := RE) (RN := RN) @hrE @hrN E2 hF
    ·
      refine b_if hF (fun hF => ?_) (fun hF => ?_)
      ·
        exact BX8_compare_b136 (N := N) (RE := RE) (RN := RN) @hrE @hrN E2 hF
      ·
        exact BX8_compare_b136 (N := N) (RE := RE) (RN := RN) @hrE @hrN E2 hF
  ·
    refine b_if hF (fun hF => ?_) (fun hF => ?_)
    ·
      exact BX8_compare_b136 (N := N) (RE := RE) (RN := RN) @hrE @hrN E1 hF
    ·
      exact BX8_compare_b136 (N := N) (RE := RE) (RN := RN) @hrE @hrN E1 hF
theorem BX8_compare_b57 {σo : fS} {q : (Int ⊕ Nat) × fS} {N : Nat} {RE : Int → fS → Option ((Unit ⊕ Nat) × fS)} {RN : fS → Option ((Int ⊕ Nat) × fS)} (hrE : ∀ {s : fS} {x1 : Int} {q}, bS 0 s → RE x1 s = some q → bE 0 s q.2) (hrN : ∀ {s : fS} {q}, bS 0 s → RN s = some q → bE 0 s q.2) {s : fS} {l1 : Int} {l2 : Int} {l3 : Int} {s1 : Int} (E : bE 0 σo s) (hF : FX8_compare_b57 N RE RN l1 l2 l3 s1 s = some q) : bE 0 σo q.2 := by
  unfold FX8_compare_b57 at hF
  refine b_tB E (fun _ hq => BX4_want (bE.rf E.S) hq) hF (fun _ _ D2 E2 hF => ?_)
  refine b_if hF (fun hF => ?_) (fun hF => ?_)
  ·
    refine b_tB E2 (fun _ hq => hrN E2.S hq) hF (fun _ _ D4 E4 hF => ?_)
    exact BX8_compare_b77 (N := N) (RE := RE) (RN := RN) @hrE @hrN E4 hF
  ·
    refine b_tB E2 (fun _ hq => BX8_dimension (N := N) (RE := RE) (RN := RN) @hrE @hrN (bE.rf E2.S) hq) hF (fun _ _ D6 E6 hF => ?_)
    exact BX8_compare_b77 (N := N) (RE := RE) (RN := RN) @hrE @hrN E6 hF
theorem BX8_compare_b52 {σo : fS} {q : (Int ⊕ Nat) × fS} {N : Nat} {RE : Int → fS → Option ((Unit ⊕ Nat) × fS)} {RN : fS → Option ((Int ⊕ Nat) × fS)} (hrE : ∀ {s : fS} {x1 : Int} {q}, bS 0 s → RE x1 s = some q → bE 0 s q.2) (hrN : ∀ {s : fS} {q}, bS 0 s → RN s = some q → bE 0 s q.2) {s : fS} {l1 : Int} {l2 : Int} {l3 : Int} (E : bE 0 σo s) (hF : FX8_compare_b52 N RE RN l1 l2 l3 s = some q) : bE 0 σo q.2 := by
  unfold FX8_compare_b52 at hF
  exact BX8_compare_b57 (N := N) (RE := RE) (RN := RN) @hrE @hrN E hF
theorem BX8_compare_b15 {σo : fS} {q : (Int ⊕ Nat) × fS} {N : Nat} {RE : Int → fS → Option ((Unit ⊕ Nat) × fS)} {RN : fS → Option ((Int ⊕ Nat) × fS)} (hrE : ∀ {s : fS} {x1 : Int} {q}, bS 0 s → RE x1 s = some q → bE 0 s q.2) (hrN : ∀ {s : fS} {q}, bS 0 s → RN s = some q → bE 0 s q.2) {s : fS} {l1 : Int} {s0 : Int} (E : bE 0 σo s) (hF : FX8_compare_b15 N RE RN l1 s0 s = some q) : bE 0 σo q.2 := by
  unfold FX8_compare_b15 at hF
  refine b_tB E (fun _ hq => BX8_needSolid (N := N) (RE := RE) @hrE (bE.rf E.S) hq) hF (fun _ _ D2 E2 hF => ?_)
  refine b_call E2 (fun _ hq => (BX1_other (bE.rf E2.S) hq)) hF (fun _ hq4 D4 E4 hF => ?_)
  refine b_if hF (fun hF => ?_) (fun hF => ?_)
  ·
    exact BX8_compare_b52 (N := N) (RE := RE) (RN := RN) @hrE @hrN E4 hF
  ·
    refine b_call E4 (fun _ hq => (BX1_other (bE.rf E4.S) hq)) hF (fun _ hq5 D5 E5 hF => ?_)
    refine b_if hF (fun hF => ?_) (fun hF => ?_)
    ·
      exact BX8_compare_b52 (N := N) (RE := RE) (RN := RN) @hrE @hrN E5 hF
    ·
      refine b_call E5 (fun _ hq => (BX1_other (bE.rf E5.S) hq)) hF (fun _ hq6 D6 E6 hF => ?_)
      refine b_if hF (fun hF => ?_) (fun hF => ?_)
      ·
        exact BX8_compare_b57 (N := N) (RE := RE) (RN := RN) @hrE @hrN E6 hF
      ·
        exact BX8_compare_b52 (N := N) (RE := RE) (RN := RN) @hrE @hrN E6 hF
theorem BX8_compare {σo : fS} {q : (Int ⊕ Nat) × fS} {N : Nat} {RE : Int → fS → Option ((Unit ⊕ Nat) × fS)} {RN : fS → Option ((Int ⊕ Nat) × fS)} (hrE : ∀ {s : fS} {x1 : Int} {q}, bS 0 s → RE x1 s = some q → bE 0 s q.2) (hrN : ∀ {s : fS} {q}, bS 0 s → RN s = some q → bE 0 s q.2) {s : fS} {p0 : Int} (E : bE 0 σo s) (hF : FX8_compare N RE RN p0 s = some q) : bE 0 σo q.2 := by
  unfold FX8_compare at hF
  refine b_if hF (fun hF => ?_) (fun hF => ?_)
  ·
    refine b_tB E (fun _ hq => hrN E.S hq) hF (fun _ _ D2 E2 hF => ?_)
    exact BX8_compare_b15 (N := N) (RE := RE) (RN := RN) @hrE @hrN E2 hF
  ·
    refine b_tB E (fun _ hq => BX8_dimension (N := N) (RE := RE) (RN := RN) @hrE @hrN (bE.rf E.S) hq) hF (fun _ _ D4 E4 hF => ?_)
    exact BX8_compare_b15 (N := N) (RE := RE) (RN := RN) @hrE @hrN E4 hF
theorem BX8_test_b78 {σo : fS} {q : (Int ⊕ Nat) × fS} {N : Nat} {RE : Int → fS → Option ((Unit ⊕ Nat) × fS)} {RN : fS → Option ((Int ⊕ Nat) × fS)} (hrE : ∀ {s : fS} {x1 : Int} {q}, bS 0 s → RE x1 s = some q → bE 0 s q.2) (hrN : ∀ {s : fS} {q}, bS 0 s → RN s = some q → bE 0 s q.2) {s : fS} {s0 : Int} (E : bE 0 σo s) (hF : FX8_test_b78 N RE RN s0 s = some q) : bE 0 σo q.2 := by
  unfold FX8_test_b78 at hF
  exact b_z E hF
theorem BX8_test_b105 {σo : fS} {q : (Int ⊕ Nat) × fS} {N : Nat} {RE : Int → fS → Option ((Unit ⊕ Nat) × fS)} {RN : fS → Option ((Int ⊕ Nat) × fS)} (hrE : ∀ {s : fS} {x1 : Int} {q}, bS 0 s → RE x1 s = some q → bE 0 s q.2) (hrN : ∀ {s : fS} {q}, bS 0 s → RN s = some q → bE 0 s q.2) {s : fS} {s0 : Int} (E : bE 0 σo s) (hF : FX8_test_b105 N RE RN s0 s = some q) : bE 0 σo q.2 := by
  unfold FX8_test_b105 at hF
  exact b_z E hF
theorem BX8_test_b152 {σo : fS} {q : (Int ⊕ Nat) × fS} {N : Nat} {RE : Int → fS → Option ((Unit ⊕ Nat) × fS)} {RN : fS → Option ((Int ⊕ Nat) × fS)} (hrE : ∀ {s : fS} {x1 : Int} {q}, bS 0 s → RE x1 s = some q → bE 0 s q.2) (hrN : ∀ {s : fS} {q}, bS 0 s → RN s = some q → bE 0 s q.2) {s : fS} {s0 : Int} (E : bE 0 σo s) (hF : FX8_test_b152 N RE RN s0 s = some q) : bE 0 σo q.2 := by
  unfold FX8_test_b152 at hF
  exact b_z E hF
theorem BX8_test_b181 {σo : fS} {q : (Int ⊕ Nat) × fS} {N : Nat} {RE : Int → fS → Option ((Unit ⊕ Nat) × fS)} {RN : fS → Option ((Int ⊕ Nat) × fS)} (hrE : ∀ {s : fS} {x1 : Int} {q}, bS 0 s → RE x1 s = some q → bE 0 s q.2) (hrN : ∀ {s : fS} {q}, bS 0 s → RN s = some q → bE 0 s q.2) {s : fS} {s0 : Int} (E : bE 0 σo s) (hF : FX8_test_b181 N RE RN s0 s = some q) : bE 0 σo q.2 := by
  unfold FX8_test_b181 at hF
  exact b_z E hF
theorem BX8_test_b196 {σo : fS} {q : (Int ⊕ Nat) × fS} {N : Nat} {RE : Int → fS → Option ((Unit ⊕ Nat) × fS)} {RN : fS → Option ((Int ⊕ Nat) × fS)} (hrE : ∀ {s : fS} {x1 : Int} {q}, bS 0 s → RE x1 s = some q → bE 0 s q.2) (hrN : ∀ {s : fS} {q}, bS 0 s → RN s = some q → bE 0 s q.2) {s : fS} {s0 : Int} (E : bE 0 σo s) (hF : FX8_test_b196 N RE RN s0 s = some q) : bE 0 σo q.2 := by
  unfold FX8_test_b196 at hF
  exact b_z E hF
theorem BX8_test_b208 {σo : fS} {q : (Int ⊕ Nat) × fS} {N : Nat} {RE : Int → fS → Option ((Unit ⊕ Nat) × fS)} {RN : fS → Option ((Int ⊕ Nat) × fS)} (hrE : ∀ {s : fS} {x1 : Int} {q}, bS 0 s → RE x1 s = some q → bE 0 s q.2) (hrN : ∀ {s : fS} {q}, bS 0 s → RN s = some q → bE 0 s q.2) {s : fS} {s0 : Int} (E : bE 0 σo s) (hF : FX8_test_b208 N RE RN s0 s = some q) : bE 0 σo q.2 := by
  unfold FX8_test_b208 at hF
  exact b_z E hF
theorem BX8_test {σo : fS} {q : (Int ⊕ Nat) × fS} {N : Nat} {RE : Int → fS → Option ((Unit ⊕ Nat) × fS)} {RN : fS → Option ((Int ⊕ Nat) × fS)} (hrE : ∀ {s : fS} {x1 : Int} {q}, bS 0 s → RE x1 s = some q → bE 0 s q.2) (hrN : ∀ {s : fS} {q}, bS 0 s → RN s = some q → bE 0 s q.2) {s : fS} {p0 : Int} (E : bE 0 σo s) (hF : FX8_test N RE RN p0 s = some q) : bE 0 σo q.2 := by
  unfold FX8_test at hF
  refine b_if hF (fun hF => ?_) (fun hF => ?_)
  ·
    refine b_tB E (fun _ hq => BX8_needExpanded (N := N) (RE := RE) @hrE (bE.rf E.S) hq) hF (fun _ _ D2 E2 hF => ?_)
    refine b_call E2 (fun _ hq => (BX8_codeOf (bE.rf E2.S) hq)) hF (fun _ hq4 D4 E4 hF => ?_)
    refine b_tB E4 (fun _ hq => BX8_needExpanded (N := N) (RE := RE) @hrE (bE.rf E4.S) hq) hF (fun _ _ D6 E6 hF => ?_)
    refine b_call E6 (fun _ hq => (BX8_codeOf (bE.rf E6.S) hq)) hF (fun _ hq8 D8 E8 hF => ?_)
    refine b_if hF (fun hF => ?_) (fun hF => ?_)
    ·
      exact BX8_test_b78 (N := N) (RE := RE) (RN := RN) @hrE @hrN E8 hF
    ·
      exact BX8_test_b78 (N := N) (RE := RE) (RN := RN) @hrE @hrN E8 hF
  ·
    refine b_if hF (fun hF => ?_) (fun hF => ?_)
    ·
      refine b_tB E (fun _ hq => BX8_needExpanded (N := N) (RE := RE) @hrE (bE.rf E.S) hq) hF (fun _ _ D10 E10 hF => ?_)
      refine b_call E10 (fun _ hq => (BX8_categoryOf (bE.rf E10.S) hq)) hF (fun _ hq12 D12 E12 hF => ?_)
      refine b_tB E12 (fun _ hq => BX8_needExpanded (N := N) (RE := RE) @hrE (bE.rf E12.S) hq) hF (fun _ _ D14 E14 hF => ?_)
      refine b_call E14 (fun _ hq => (BX8_categoryOf (bE.rf E14.S) hq)) hF (fun _ hq16 D16 E16 hF => ?_)
      refine b_if hF (fun hF => ?_) (fun hF => ?_)
      ·
        exact BX8_test_b105 (N := N) (RE := RE) (RN := RN) @hrE @hrN E16 hF
      ·
        exact BX8_test_b105 (N := N) (RE := RE) (RN := RN) @hrE @hrN E16 hF
    ·
      refine b_if hF (fun hF => ?_) (fun hF => ?_)
      ·
        refine b_tB E (fun _ hq => BX8_need (N := N) (bE.rf E.S) hq) hF (fun _ _ D18 E18 hF => ?_)
        refine b_tB E18 (fun _ hq => BX8_need (N := N) (bE.rf E18.S) hq) hF (fun _ _ D20 E20 hF => ?_)
        refine b_call E20 (fun _ hq => (BX8_areAlike (N := N) (bE.rf E20.S) hq)) hF (fun _ hq22 D22 E22 hF => ?_)
        exact b_z E22 hF
      ·
        refine b_if hF (fun hF => ?_) (fun hF => ?_)
        ·
          refine b_tB E (fun _ hq => BX8_compare (N := N) (RE := RE) (RN := RN) @hrE @hrN (bE.rf E.S) hq) hF (fun _ _ D24 E24 hF => ?_)
          exact b_z E24 hF
        ·
          refine b_if hF (fun hF => ?_) (fun hF => ?_)
          ·
            refine b_tB E (fun _ hq => BX8_compare (N := N) (RE := RE) (RN := RN) @hrE @hrN (bE.rf E.S) hq) hF (fun _ _ D26 E26 hF => ?_)
            exact b_z E26 hF
          ·
            refine b_if hF (fun hF => ?_) (fun hF => ?_)
            ·
              refine b_tB E (fun _ hq => hrN E.S hq) hF (fun _ _ D28 E28 hF => ?_)
              refine b_if hF (fun hF => ?_) (fun hF => ?_)
              ·
                exact BX8_test_b196 (N := N) (RE := RE) (RN := RN) @hrE @hrN E28 hF
              ·
                exact BX8_test_b196 (N := N) (RE := RE) (RN := RN) @hrE @hrN E28 hF
            ·
              refine b_if hF (fun hF => ?_) (fun hF => ?_)
              ·
                exact b_z E hF
              ·
                refine b_if hF (fun hF => ?_) (fun hF => ?_)
                ·
                  refine b_if hF (fun hF => ?_) (fun hF => ?_)
                  ·
                    exact BX8_test_b152 (N := N) (RE := RE) (RN := RN) @hrE @hrN E hF
                  ·
                    exact BX8_test_b152 (N := N) (RE := RE) (RN := RN) @hrE @hrN E hF
                ·
                  refine b_if hF (fun hF => ?_) (fun hF => ?_)
                  ·
                    refine b_tB E (fun _ hq => BX8_within (RN := RN) @hrN (bE.rf E.S) hq) hF (fun _ _ D34 E34 hF => ?_)
                    refine b_rv hF (fun _ hF => ?_)
                    refine b_if hF (fun hF => ?_) (fun hF => ?_)
                    ·
                      exact BX8_test_b181 (N := N) (RE := RE) (RN := RN) @hrE @hrN E34 hF
                    ·
                      exact BX8_test_b181 (N := N) (RE := RE) (RN := RN) @hrE @hrN E34 hF
                  ·
                    refine b_if hF (fun hF => ?_) (fun hF => ?_)
                    ·
                      exact BX8_test_b208 (N := N) (RE := RE) (RN := RN) @hrE @hrN E hF
                    ·
                      exact BX8_test_b208 (N := N) (RE := RE) (RN := RN) @hrE @hrN E hF
