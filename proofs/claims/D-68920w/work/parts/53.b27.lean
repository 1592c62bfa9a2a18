set_option maxRecDepth 100000
set_option maxHeartbeats 4000000
theorem BX7_add_b16 {σo : fS} {q : Unit × fS} {s : fS} {l1 : Int} {l2 : Int} {l3 : Int} {l4 : Int} {l5 : Int} {l6 : Int} (E : bE 0 σo s) (hF : FX7_add_b16 l1 l2 l3 l4 l5 l6 s = some q) : bE 0 σo q.2 := by
  unfold FX7_add_b16 at hF
  refine b_qI E (E.S.c0 (Nat.le_of_ble_eq_true rfl)) hF (fun _ D3 E3 hF => ?_)
  refine b_qI E3 (E3.S.c0 (Nat.le_of_ble_eq_true rfl)) hF (fun _ D6 E6 hF => ?_)
  refine b_qI E6 (E6.S.c0 (Nat.le_of_ble_eq_true rfl)) hF (fun _ D8 E8 hF => ?_)
  refine b_qI E8 (E8.S.c0 (Nat.le_of_ble_eq_true rfl)) hF (fun _ D10 E10 hF => ?_)
  refine b_qI E10 (E10.S.c0 (Nat.le_of_ble_eq_true rfl)) hF (fun _ D12 E12 hF => ?_)
  refine b_qI E12 (E12.S.c0 (Nat.le_of_ble_eq_true rfl)) hF (fun _ D14 E14 hF => ?_)
  refine b_pI E14 (E14.S.c0 (Nat.le_of_ble_eq_true rfl)) hF (fun _ D16 E16 hF => ?_)
  exact b_ret E16 hF
theorem BX7_add {σo : fS} {q : Unit × fS} {s : fS} {p0 : Int} {p1 : Int} {p2 : Int} {p3 : Int} {p4 : Int} {p5 : Int} (E : bE 0 σo s) (hF : FX7_add p0 p1 p2 p3 p4 p5 s = some q) : bE 0 σo q.2 := by
  unfold FX7_add at hF
  refine b_if hF (fun hF => ?_) (fun hF => ?_)
  ·
    exact BX7_add_b16 E hF
  ·
    refine b_call E (fun _ hq => (BX7_grow (bE.rf E.S) hq)) hF (fun _ hq5 D5 E5 hF => ?_)
    exact BX7_add_b16 E5 hF
theorem BX39_init {σo : fS} {q : Unit × fS} {s : fS} {this : Nat} (E : bE 0 σo s) (hF : FX39_init this s = some q) : bE 0 σo q.2 := by
  unfold FX39_init at hF
  exact b_ret E hF
theorem BX19_clear_b2 {σo : fS} {q : Unit × fS} {N : Nat} : ∀ {n : Nat} {s : fS} {l1 : Int} {l2 : Int}, bE 0 σo s → FX19_clear_b2 N n l1 l2 s = some q → bE 0 σo q.2 := by
  intro n
  induction n with
  | zero => intro s l1 l2 E  hF; simp [FX19_clear_b2] at hF
  | succ n ih =>
    intro s l1 l2 E  hF
    rw [FX19_clear_b2] at hF
    refine b_if hF (fun hF => ?_) (fun hF => ?_)
    ·
      refine b_pZ E (E.S.c0 (Nat.le_of_ble_eq_true rfl)) hF (fun _ D1 E1 hF => ?_)
      refine b_pZ E1 (E1.S.c0 (Nat.le_of_ble_eq_true rfl)) hF (fun _ D2 E2 hF => ?_)
      refine b_pJ E2 (E2.S.c0 (Nat.le_of_ble_eq_true rfl)) hF (fun _ D3 E3 hF => ?_)
      refine b_pJ E3 (E3.S.c0 (Nat.le_of_ble_eq_true rfl)) hF (fun _ D4 E4 hF => ?_)
      refine b_pJ E4 (E4.S.c0 (Nat.le_of_ble_eq_true rfl)) hF (fun _ D5 E5 hF => ?_)
      refine b_pJ E5 (E5.S.c0 (Nat.le_of_ble_eq_true rfl)) hF (fun _ D6 E6 hF => ?_)
      exact b_ret E6 hF
    ·
      refine b_qJ E (E.S.c0 (Nat.le_of_ble_eq_true rfl)) hF (fun _ D8 E8 hF => ?_)
      refine b_qJ E8 (E8.S.c0 (Nat.le_of_ble_eq_true rfl)) hF (fun _ D10 E10 hF => ?_)
      exact ih E10 hF
theorem BX19_clear {σo : fS} {q : Unit × fS} {N : Nat} {s : fS} {p0 : Int} (E : bE 0 σo s) (hF : FX19_clear N p0 s = some q) : bE 0 σo q.2 := by
  unfold FX19_clear at hF
  exact BX19_clear_b2 (N := N) E hF
theorem BX1_isSize_b21 {σo : fS} {q : Int × fS} {s : fS} {s0 : Int} (E : bE 0 σo s) (hF : FX1_isSize_b21 s0 s = some q) : bE 0 σo q.2 := by
  unfold FX1_isSize_b21 at hF
  exact b_z E hF
theorem BX1_isSize_b20 {σo : fS} {q : Int × fS} {s : fS} (E : bE 0 σo s) (hF : FX1_isSize_b20 s = some q) : bE 0 σo q.2 := by
  unfold FX1_isSize_b20 at hF
  exact BX1_isSize_b21 E hF
theorem BX1_isSize {σo : fS} {q : Int × fS} {s : fS} {p0 : Int} (E : bE 0 σo s) (hF : FX1_isSize p0 s = some q) : bE 0 σo q.2 := by
  unfold FX1_isSize at hF
  refine b_if hF (fun hF => ?_) (fun hF => ?_)
  ·
    exact BX1_isSize_b20 E hF
  ·
    refine b_if hF (fun hF => ?_) (fun hF => ?_)
    ·
      exact BX1_isSize_b20 E hF
    ·
      exact BX1_isSize_b21 E hF
theorem BX19_sum {σo : fS} {q : Int × fS} {s : fS} {p0 : Int} {p1 : Int} (E : bE 0 σo s) (hF : FX19_sum p0 p1 s = some q) : bE 0 σo q.2 := by
  unfold FX19_sum at hF
  refine b_call E (fun _ hq => (BX1_isSize (bE.rf E.S) hq)) hF (fun _ hq2 D2 E2 hF => ?_)
  refine b_pZ E2 (E2.S.c0 (Nat.le_of_ble_eq_true rfl)) hF (fun _ D3 E3 hF => ?_)
  exact b_ret E3 hF
theorem BX19_addSolid {σo : fS} {q : Unit × fS} {s : fS} {p0 : Int} {p1 : Int} {p2 : Int} (E : bE 0 σo s) (hF : FX19_addSolid p0 p1 p2 s = some q) : bE 0 σo q.2 := by
  unfold FX19_addSolid at hF
  refine b_if hF (fun hF => ?_) (fun hF => ?_)
  ·
    refine b_call E (fun _ hq => (BX19_sum (bE.rf E.S) hq)) hF (fun _ hq5 D5 E5 hF => ?_)
    refine b_pJ E5 (E5.S.c0 (Nat.le_of_ble_eq_true rfl)) hF (fun _ D6 E6 hF => ?_)
    refine b_call E6 (fun _ hq => (BX19_sum (bE.rf E6.S) hq)) hF (fun _ hq9 D9 E9 hF => ?_)
    refine b_pJ E9 (E9.S.c0 (Nat.le_of_ble_eq_true rfl)) hF (fun _ D10 E10 hF => ?_)
    refine b_pJ E10 (E10.S.c0 (Nat.le_of_ble_eq_true rfl)) hF (fun _ D11 E11 hF => ?_)
    exact b_ret E11 hF
  ·
    refine b_call E (fun _ hq => (BX19_sum (bE.rf E.S) hq)) hF (fun _ hq14 D14 E14 hF => ?_)
    refine b_pJ E14 (E14.S.c0 (Nat.le_of_ble_eq_true rfl)) hF (fun _ D15 E15 hF => ?_)
    refine b_pJ E15 (E15.S.c0 (Nat.le_of_ble_eq_true rfl)) hF (fun _ D17 E17 hF => ?_)
    refine b_pJ E17 (E17.S.c0 (Nat.le_of_ble_eq_true rfl)) hF (fun _ D19 E19 hF => ?_)
    exact b_ret E19 hF
theorem BX19_addRule_b73 {σo : fS} {q : Unit × fS} {s : fS} (E : bE 0 σo s) (hF : FX19_addRule_b73 s = some q) : bE 0 σo q.2 := by
  unfold FX19_addRule_b73 at hF
  exact b_ret E hF
theorem BX19_addRule {σo : fS} {q : Unit × fS} {s : fS} {p0 : Int} (E : bE 0 σo s) (hF : FX19_addRule p0 s = some q) : bE 0 σo q.2 := by
  unfold FX19_addRule at hF
  refine b_call E (fun _ hq => (BX7_solid (bE.rf E.S) hq)) hF (fun _ hq3 D3 E3 hF => ?_)
  refine b_call E3 (fun _ hq => (BX7_solid (bE.rf E3.S) hq)) hF (fun _ hq6 D6 E6 hF => ?_)
  refine b_call E6 (fun _ hq => (BX7_solid (bE.rf E6.S) hq)) hF (fun _ hq9 D9 E9 hF => ?_)
  refine b_call E9 (fun _ hq => (BX19_addSolid (bE.rf E9.S) hq)) hF (fun _ hq11 D11 E11 hF => ?_)
  refine b_if hF (fun hF => ?_) (fun hF => ?_)
  ·
    exact BX19_addRule_b73 E11 hF
  ·
    refine b_call E11 (fun _ hq => (BX7_isRunning (bE.rf E11.S) hq)) hF (fun _ hq15 D15 E15 hF => ?_)
    refine b_if hF (fun hF => ?_) (fun hF => ?_)
    ·
      exact BX19_addRule_b73 E15 hF
    ·
      refine b_call E15 (fun _ hq => (BX7_of (bE.rf E15.S) hq)) hF (fun _ hq19 D19 E19 hF => ?_)
      refine b_pJ E19 (E19.S.c0 (Nat.le_of_ble_eq_true rfl)) hF (fun _ D20 E20 hF => ?_)
      exact BX19_addRule_b73 E20 hF
theorem BX19_addSpace {σo : fS} {q : Unit × fS} {s : fS} {p0 : Int} (E : bE 0 σo s) (hF : FX19_addSpace p0 s = some q) : bE 0 σo q.2 := by
  unfold FX19_addSpace at hF
  refine b_call E (fun _ hq => (BX19_sum (bE.rf E.S) hq)) hF (fun _ hq4 D4 E4 hF => ?_)
  refine b_pJ E4 (E4.S.c0 (Nat.le_of_ble_eq_true rfl)) hF (fun _ D5 E5 hF => ?_)
  refine b_call E5 (fun _ hq => (BX19_sum (bE.rf E5.S) hq)) hF (fun _ hq8 D8 E8 hF => ?_)
  refine b_pJ E8 (E8.S.c0 (Nat.le_of_ble_eq_true rfl)) hF (fun _ D9 E9 hF => ?_)
  refine b_pJ E9 (E9.S.c0 (Nat.le_of_ble_eq_true rfl)) hF (fun _ D10 E10 hF => ?_)
  exact b_ret E10 hF
theorem BX19_addBox_b81 {σo : fS} {q : Unit × fS} {s : fS} (E : bE 0 σo s) (hF : FX19_addBox_b81 s = some q) : bE 0 σo q.2 := by
  unfold FX19_addBox_b81 at hF
  exact b_ret E hF
theorem BX19_addBox {σo : fS} {q : Unit × fS} {s : fS} {p0 : Nat} {p1 : Int} (E : bE 0 σo s) (op0 : bO 0 s p0) (hF : FX19_addBox p0 p1 s = some q) : bE 0 σo q.2 := by
  unfold FX19_addBox at hF
  refine b_if hF (fun hF => ?_) (fun hF => ?_)
  ·
    refine b_K hF (fun hF => ?_)
    refine b_K hF (fun hF => ?_)
    refine b_call E (fun _ hq => (BX19_sum (bE.rf E.S) hq)) hF (fun _ hq5 D5 E5 hF => ?_)
    refine b_K hF (fun hF => ?_)
    refine b_call E5 (fun _ hq => (BX19_sum (bE.rf E5.S) hq)) hF (fun _ hq8 D8 E8 hF => ?_)
    refine b_call E8 (fun _ hq => (BX19_addSolid (bE.rf E8.S) hq)) hF (fun _ hq10 D10 E10 hF => ?_)
    exact BX19_addBox_b81 E10 hF
  ·
    refine b_K hF (fun hF => ?_)
    refine b_K hF (fun hF => ?_)
    refine b_K hF (fun hF => ?_)
    refine b_call E (fun _ hq => (BX19_addSolid (bE.rf E.S) hq)) hF (fun _ hq15 D15 E15 hF => ?_)
    refine b_K hF (fun hF => ?_)
    refine b_call E15 (fun _ hq => (BX19_sum (bE.rf E15.S) hq)) hF (fun _ hq19 D19 E19 hF => ?_)
    refine b_pJ E19 (E19.S.c0 (Nat.le_of_ble_eq_true rfl)) hF (fun _ D20 E20 hF => ?_)
    exact BX19_addBox_b81 E20 hF
theorem BX19_add_b255 {σo : fS} {q : Unit × fS} {s : fS} (E : bE 0 σo s) (hF : FX19_add_b255 s = some q) : bE 0 σo q.2 := by
  unfold FX19_add_b255 at hF
  exact b_ret E hF
theorem BX19_add {σo : fS} {q : Unit × fS} {s : fS} {p0 : Int} (E : bE 0 σo s) (hF : FX19_add p0 s = some q) : bE 0 σo q.2 := by
  unfold FX19_add at hF
  refine b_call E (fun _ hq => (BX7_kind (bE.rf E.S) hq)) hF (fun _ hq3 D3 E3 hF => ?_)
  refine b_if hF (fun hF => ?_) (fun hF => ?_)
  ·
    refine b_call E3 (fun _ hq => (BX7_of (bE.rf E3.S) hq)) hF (fun _ hq6 D6 E6 hF => ?_)
    refine b_call E6 (fun _ hq => (BX7_of (bE.rf E6.S) hq)) hF (fun _ hq9 D9 E9 hF => ?_)
    refine b_call E9 (fun _ hq => (BX7_of (bE.rf E9.S) hq)) hF (fun _ hq12 D12 E12 hF => ?_)
    refine b_call E12 (fun _ hq => (BX19_addSolid (bE.rf E12.S) hq)) hF (fun _ hq14 D14 E14 hF => ?_)
    refine b_if hF (fun hF => ?_) (fun hF => ?_)
    ·
      exact BX19_add_b255 E14 hF
    ·
      refine b_call E14 (fun _ hq => (BX7_of (bE.rf E14.S) hq)) hF (fun _ hq19 D19 E19 hF => ?_)
      refine b_pJ E19 (E19.S.c0 (Nat.le_of_ble_eq_true rfl)) hF (fun _ D20 E20 hF => ?_)
      exact BX19_add_b255 E20 hF
  ·
    refine b_if hF (fun hF => ?_) (fun hF => ?_)
    ·
      refine b_call E3 (fun _ hq => (BX19_addRule (bE.rf E3.S) hq)) hF (fun _ hq22 D22 E22 hF => ?_)
      exact BX19_add_b255 E22 hF
    ·
      refine b_if hF (fun hF => ?_) (fun hF => ?_)
      ·
        refine b_call E3 (fun _ hq => (BX7_of (bE.rf E3.S) hq)) hF (fun _ hq25 D25 E25 hF => ?_)
        refine b_call E25 (fun _ hq => (BX19_addSpace (bE.rf E25.S) hq)) hF (fun _ hq27 D27 E27 hF => ?_)
        refine b_call E27 (fun _ hq => (BX7_of (bE.rf E27.S) hq)) hF (fun _ hq31 D31 E31 hF => ?_)
        refine b_call E31 (fun _ hq => (BX7_of (bE.rf E31.S) hq)) hF (fun _ hq35 D35 E35 hF => ?_)
        refine b_rv hF (fun _ hF => ?_)
        refine b_call E35 (fun _ hq => (BX7_of (bE.rf E35.S) hq)) hF (fun _ hq39 D39 E39 hF => ?_)
        refine b_call E39 (fun _ hq => (BX19_sum (bE.rf E39.S) hq)) hF (fun _ hq41 D41 E41 hF => ?_)
        refine b_qJ E41 (E41.S.c0 (Nat.le_of_ble_eq_true rfl)) hF (fun _ D42 E42 hF => ?_)
        refine b_call E42 (fun _ hq => (BX7_of (bE.rf E42.S) hq)) hF (fun _ hq46 D46 E46 hF => ?_)
        refine b_call E46 (fun _ hq => (BX7_of (bE.rf E46.S) hq)) hF (fun _ hq50 D50 E50 hF => ?_)
        refine b_rv hF (fun _ hF => ?_)
        refine b_call E50 (fun _ hq => (BX7_of (bE.rf E50.S) hq)) hF (fun _ hq54 D54 E54 hF => ?_)
        refine b_call E54 (fun _ hq => (BX19_sum (bE.rf E54.S) hq)) hF (fun _ hq56 D56 E56 hF => ?_)
        refine b_qJ E56 (E56.S.c0 (Nat.le_of_ble_eq_true rfl)) hF (fun _ D57 E57 hF => ?_)
        exact BX19_add_b255 E57 hF
      ·
        refine b_if hF (fun hF => ?_) (fun hF => ?_)
        ·
          refine b_call E3 (fun _ hq => (BX7_of (bE.rf E3.S) hq)) hF (fun _ hq60 D60 E60 hF => ?_)
          refine b_call E60 (fun _ hq => (BX19_addSpace (bE.rf E60.S) hq)) hF (fun _ hq62 D62 E62 hF => ?_)
          exact BX19_add_b255 E62 hF
        ·
          refine b_call E3 (fun _ hq => (BX7_of (bE.rf E3.S) hq)) hF (fun _ hq66 D66 E66 hF => ?_)
          refine b_rO E66 (E66.S.c0 (Nat.le_of_ble_eq_true rfl)) hF (fun _ o67 hF => ?_)
          refine b_call E66 (fun _ hq => (BX7_of (bE.rf E66.S) hq)) hF (fun _ hq70 D70 E70 hF => ?_)
          refine b_call E70 (fun _ hq => (BX19_addBox (bE.rf E70.S) (o67.up D70) hq)) hF (fun _ hq72 D72 E72 hF => ?_)
          exact BX19_add_b255 E72 hF
theorem BX19_highest_b20 {σo : fS} {q : Int × fS} {N : Nat} {s : fS} {l1 : Int} (E : bE 0 σo s) (hF : FX19_highest_b20 N l1 s = some q) : bE 0 σo q.2 := by
  unfold FX19_highest_b20 at hF
  exact b_ret E hF
theorem BX19_highest_b2 {σo : fS} {q : Int × fS} {N : Nat} : ∀ {n : Nat} {s : fS} {l0 : Nat} {l1 : Int}, bE 0 σo s → bO 0 s l0 → FX19_highest_b2 N n l0 l1 s = some q → bE 0 σo q.2 := by
  intro n
  induction n with
  | zero => intro s l0 l1 E ol0 hF; simp [FX19_highest_b2] at hF
  | succ n ih =>
    intro s l0 l1 E ol0 hF
    rw [FX19_highest_b2] at hF
    refine b_if hF (fun hF => ?_) (fun hF => ?_)
    ·
      exact BX19_highest_b20 (N := N) E hF
    ·
      refine b_KA hF (fun hF => ?_)
      refine b_rv hF (fun _ hF => ?_)
      refine b_if hF (fun hF => ?_) (fun hF => ?_)
      ·
        exact BX19_highest_b20 (N := N) E hF
      ·
        exact ih E ol0 hF
theorem BX19_highest {σo : fS} {q : Int × fS} {N : Nat} {s : fS} {p0 : Nat} (E : bE 0 σo s) (op0 : bO 0 s p0) (hF : FX19_highest N p0 s = some q) : bE 0 σo q.2 := by
  unfold FX19_highest at hF
  exact BX19_highest_b2 (N := N) E op0 hF
theorem BX19_badness_b89 {σo : fS} {q : Int × fS} {s : fS} {s0 : Int} (E : bE 0 σo s) (hF : FX19_badness_b89 s0 s = some q) : bE 0 σo q.2 := by
  unfold FX19_badness_b89 at hF
  exact b_ret E hF
theorem BX19_badness_b55 {σo : fS} {q : Int × fS} {s : fS} {s0 : Int} (E : bE 0 σo s) (hF : FX19_badness_b55 s0 s = some q) : bE 0 σo q.2 := by
  unfold FX19_badness_b55 at hF
  refine b_if hF (fun hF => ?_) (fun hF => ?_)
  ·
    exact BX19_badness_b89 E hF
  ·
    exact BX19_badness_b89 E hF
theorem BX19_badness {σo : fS} {q : Int × fS} {s : fS} {p0 : Int} {p1 : Int} (E : bE 0 σo s) (hF : FX19_badness p0 p1 s = some q) : bE 0 σo q.2 := by
  unfold FX19_badness at hF
  refine b_if hF (fun hF => ?_) (fun hF => ?_)
  ·
    refine b_if hF (fun hF => ?_) (fun hF => ?_)
    ·
      refine b_if hF (fun hF => ?_) (fun hF => ?_)
      ·
        refine b_if hF (fun hF => ?_) (fun hF => ?_)
        ·
          exact BX19_badness_b55 E hF
        ·
          refine b_dv hF (fun hF => ?_)
          exact BX19_badness_b55 E hF
      ·
        refine b_dv hF (fun hF => ?_)
        exact BX19_badness_b55 E hF
    ·
      exact b_ret E hF
  ·
    exact b_ret E hF
theorem BX19_setGlue_b165 {σo : fS} {q : Unit × fS} {N : Nat} {s : fS} {s0 : Nat} {s1 : Int} (E : bE 0 σo s) (os0 : bO 0 s s0) (hF : FX19_setGlue_b165 N s0 s1 s = some q) : bE 0 σo q.2 := by
  unfold FX19_setGlue_b165 at hF
  refine b_K hF (fun hF => ?_)
  refine b_pI E os0 hF (fun _ D1 E1 hF => ?_)
  exact b_ret E1 hF
theorem BX19_setGlue_b130 {σo : fS} {q : Unit × fS} {N : Nat} {s : fS} {l1 : Nat} {l5 : Int} {l7 : Int} {s0 : Nat} {s1 : Int} (E : bE 0 σo s) (ol1 : bO 0 s l1) (os0 : bO 0 s s0) (hF : FX19_setGlue_b130 N l1 l5 l7 s0 s1 s = some q) : bE 0 σo q.2 := by
  unfold FX19_setGlue_b130 at hF
  refine b_K hF (fun hF => ?_)
  refine b_pI E os0 hF (fun _ D1 E1 hF => ?_)
  refine b_if hF (fun hF => ?_) (fun hF => ?_)
  ·
    refine b_K hF (fun hF => ?_)
    refine b_if hF (fun hF => ?_) (fun hF => ?_)
    ·
      refine b_K hF (fun hF => ?_)
      refine b_call E1 (fun _ hq => (BX19_badness (bE.rf E1.S) hq)) hF (fun _ hq4 D4 E4 hF => ?_)
      exact BX19_setGlue_b165 (N := N) E4 ((ol1.up D1).up D4) hF
    ·
      exact BX19_setGlue_b165 (N := N) E1 (ol1.up D1) hF
  ·
    exact BX19_setGlue_b165 (N := N) E1 (ol1.up D1) hF
theorem BX19_setGlue_b109 {σo : fS} {q : Unit × fS} {N : Nat} {s : fS} {l1 : Nat} {l5 : Int} {s0 : Int} (E : bE 0 σo s) (ol1 : bO 0 s l1) (hF : FX19_setGlue_b109 N l1 l5 s0 s = some q) : bE 0 σo q.2 := by
  unfold FX19_setGlue_b109 at hF
  refine b_if hF (fun hF => ?_) (fun hF => ?_)
  ·
    exact BX19_setGlue_b130 (N := N) E ol1 ol1 hF
  ·
    refine b_K hF (fun hF => ?_)
    exact BX19_setGlue_b130 (N := N) E ol1 ol1 hF
theorem BX19_setGlue_b108 {σo : fS} {q : Unit × fS} {N : Nat} {s : fS} {l1 : Nat} {l5 : Int} (E : bE 0 σo s) (ol1 : bO 0 s l1) (hF : FX19_setGlue_b108 N l1 l5 s = some q) : bE 0 σo q.2 := by
  unfold FX19_setGlue_b108 at hF
  exact BX19_setGlue_b109 (N := N) E ol1 hF
theorem BX19_setGlue_b78 {σo : fS} {q : Unit × fS} {N : Nat} {s : fS} {l1 : Nat} {l2 : Int} {s0 : Int} (E : bE 0 σo s) (ol1 : bO 0 s l1) (hF : FX19_setGlue_b78 N l1 l2 s0 s = some q) : bE 0 σo q.2 := by
  unfold FX19_setGlue_b78 at hF
  refine b_if hF (fun hF => ?_) (fun hF => ?_)
  ·
    exact BX19_setGlue_b108 (N := N) E ol1 hF
  ·
    refine b_K hF (fun hF => ?_)
    refine b_if hF (fun hF => ?_) (fun hF => ?_)
    ·
      exact BX19_setGlue_b108 (N := N) E ol1 hF
    ·
      refine b_K hF (fun hF => ?_)
      refine b_if hF (fun hF => ?_) (fun hF => ?_)
      ·
        exact BX19_setGlue_b108 (N := N) E ol1 hF
      ·
        exact BX19_setGlue_b109 (N := N) E ol1 hF
theorem BX19_setGlue_b63 {σo : fS} {q : Unit × fS} {N : Nat} {s : fS} {l1 : Nat} {l2 : Int} {s0 : Nat} {s1 : Int} (E : bE 0 σo s) (ol1 : bO 0 s l1) (os0 : bO 0 s s0) (hF : FX19_setGlue_b63 N l1 l2 s0 s1 s = some q) : bE 0 σo q.2 := by
  unfold FX19_setGlue_b63 at hF
  refine b_K hF (fun hF => ?_)
  refine b_pI E os0 hF (fun _ D1 E1 hF => ?_)
  refine b_if hF (fun hF => ?_) (fun hF => ?_)
  ·
    exact BX19_setGlue_b78 (N := N) E1 (ol1.up D1) hF
  ·
    exact BX19_setGlue_b78 (N := N) E1 (ol1.up D1) hF
theorem BX19_setGlue_b41 {σo : fS} {q : Unit × fS} {N : Nat} {s : fS} {l1 : Nat} {l2 : Int} {l4 : Nat} {s0 : Nat} {s1 : Int} (E : bE 0 σo s) (ol1 : bO 0 s l1) (ol4 : bO 0 s l4) (os0 : bO 0 s s0) (hF : FX19_setGlue_b41 N l1 l2 l4 s0 s1 s = some q) : bE 0 σo q.2 := by
  unfold FX19_setGlue_b41 at hF
  refine b_K hF (fun hF => ?_)
  refine b_pI E os0 hF (fun _ D1 E1 hF => ?_)
  refine b_if hF (fun hF => ?_) (fun hF => ?_)
  ·
    refine b_K hF (fun hF => ?_)
    refine b_KA hF (fun hF => ?_)
    refine b_rv hF (fun _ hF => ?_)
    exact BX19_setGlue_b63 (N := N) E1 (ol1.up D1) (ol1.up D1) hF
  ·
    exact BX19_setGlue_b63 (N := N) E1 (ol1.up D1) (ol1.up D1) hF
theorem BX19_setGlue_b23 {σo : fS} {q : Unit × fS} {N : Nat} {s : fS} {l1 : Nat} {l2 : Int} {s0 : Nat} (E : bE 0 σo s) (ol1 : bO 0 s l1) (os0 : bO 0 s s0) (hF : FX19_setGlue_b23 N l1 l2 s0 s = some q) : bE 0 σo q.2 := by
  unfold FX19_setGlue_b23 at hF
  refine b_if hF (fun hF => ?_) (fun hF => ?_)
  ·
    refine b_call E (fun _ hq => (BX19_highest (N := N) (bE.rf E.S) os0 hq)) hF (fun _ hq1 D1 E1 hF => ?_)
    exact BX19_setGlue_b41 (N := N) E1 (ol1.up D1) (os0.up D1) (ol1.up D1) hF
  ·
    exact BX19_setGlue_b41 (N := N) E ol1 os0 ol1 hF
theorem BX19_setGlue {σo : fS} {q : Unit × fS} {N : Nat} {s : fS} {p0 : Nat} {p1 : Int} (E : bE 0 σo s) (op0 : bO 0 s p0) (hF : FX19_setGlue N p0 p1 s = some q) : bE 0 σo q.2 := by
  unfold FX19_setGlue at hF
  refine b_K hF (fun hF => ?_)
  refine b_pI E op0 hF (fun _ D1 E1 hF => ?_)
  refine b_if hF (fun hF => ?_) (fun hF => ?_)
  ·
    exact BX19_setGlue_b23 (N := N) E1 (op0.up D1) (E1.S.c0 (Nat.le_of_ble_eq_true rfl)) hF
  ·
    exact BX19_setGlue_b23 (N := N) E1 (op0.up D1) (E1.S.c0 (Nat.le_of_ble_eq_true rfl)) hF
theorem BX19_pack_b108 {σo : fS} {q : Int × fS} {N : Nat} {K31 : Nat → Int → Int → Int → Int → Int → fS → Option (Int × fS)} (hk31 : ∀ {s : fS} {l1 : Nat} {l2 : Int} {l3 : Int} {l4 : Int} {l5 : Int} {l7 : Int}, bE 0 σo s → bO 0 s l1 → K31 l1 l2 l3 l4 l5 l7 s = some q → bE 0 σo q.2) {s : fS} {l1 : Nat} {l2 : Int} {l3 : Int} {l4 : Int} {l5 : Int} {l7 : Int} (E : bE 0 σo s) (ol1 : bO 0 s l1) (hF : FX19_pack_b108 N K31 l1 l2 l3 l4 l5 l7 s = some q) : bE 0 σo q.2 := by
  unfold FX19_pack_b108 at hF
  exact hk31 E ol1 hF
theorem BX19_pack_b241 {σo : fS} {q : Int × fS} {N : Nat} {s : fS} (E : bE 0 σo s) (hF : FX19_pack_b241 N s = some q) : bE 0 σo q.2 := by
  unfold FX19_pack_b241 at hF
  exact b_ret E hF
theorem BX19_pack_b292 {σo : fS} {q : Int × fS} {N : Nat} {s : fS} {l1 : Nat} {s0 : Nat} {s1 : Int} (E : bE 0 σo s) (ol1 : bO 0 s l1) (os0 : bO 0 s s0) (hF : FX19_pack_b292 N l1 s0 s1 s = some q) : bE 0 σo q.2 := by
  unfold FX19_pack_b292 at hF
  refine b_K hF (fun hF => ?_)
  refine b_pI E os0 hF (fun _ D1 E1 hF => ?_)
  refine b_K hF (fun hF => ?_)
  refine b_pI E1 (ol1.up D1) hF (fun _ D3 E3 hF => ?_)
  exact b_ret E3 hF
theorem BX19_pack_b269 {σo : fS} {q : Int × fS} {N : Nat} {s : fS} {l1 : Nat} {s0 : Nat} {s1 : Int} (E : bE 0 σo s) (ol1 : bO 0 s l1) (os0 : bO 0 s s0) (hF : FX19_pack_b269 N l1 s0 s1 s = some q) : bE 0 σo q.2 := by
  unfold FX19_pack_b269 at hF
  refine b_K hF (fun hF => ?_)
  refine b_pI E os0 hF (fun _ D1 E1 hF => ?_)
  refine b_if hF (fun hF => ?_) (fun hF => ?_)
  ·
    exact BX19_pack_b292 (N := N) E1 (ol1.up D1) (ol1.up D1) hF
  ·
    exact BX19_pack_b292 (N := N) E1 (ol1.up D1) (ol1.up D1) hF
theorem BX19_pack_b198 {σo : fS} {q : Int × fS} {N : Nat} {s : fS} {l1 : Nat} {s0 : Int} (E : bE 0 σo s) (ol1 : bO 0 s l1) (hF : FX19_pack_b198 N l1 s0 s = some q) : bE 0 σo q.2 := by
  unfold FX19_pack_b198 at hF
  refine b_call E (fun _ hq => (BX19_sum (bE.rf E.S) hq)) hF (fun _ hq3 D3 E3 hF => ?_)
  refine b_pJ E3 (E3.S.c0 (Nat.le_of_ble_eq_true rfl)) hF (fun _ D4 E4 hF => ?_)
  refine b_if hF (fun hF => ?_) (fun hF => ?_)
  ·
    exact BX19_pack_b241 (N := N) E4 hF
  ·
    refine b_call E4 (fun _ hq => (BX1_isSize (bE.rf E4.S) hq)) hF (fun _ hq7 D7 E7 hF => ?_)
    refine b_if hF (fun hF => ?_) (fun hF => ?_)
    ·
      exact BX19_pack_b241 (N := N) E7 hF
    ·
      refine b_call E7 (fun _ hq => (BX1_isSize (bE.rf E7.S) hq)) hF (fun _ hq9 D9 E9 hF => ?_)
      refine b_if hF (fun hF => ?_) (fun hF => ?_)
      ·
        refine b_call E9 (fun _ hq => (BX19_setGlue (N := N) (bE.rf E9.S) ((((ol1.up D3).up D4).up D7).up D9) hq)) hF (fun _ hq11 D11 E11 hF => ?_)
        refine b_if hF (fun hF => ?_) (fun hF => ?_)
        ·
          exact BX19_pack_b269 (N := N) E11 (((((ol1.up D3).up D4).up D7).up D9).up D11) (((((ol1.up D3).up D4).up D7).up D9).up D11) hF
        ·
          exact BX19_pack_b269 (N := N) E11 (((((ol1.up D3).up D4).up D7).up D9).up D11) (((((ol1.up D3).up D4).up D7).up D9).up D11) hF
      ·
        exact BX19_pack_b241 (N := N) E9 hF
theorem BX19_pack_b169 {σo : fS} {q : Int × fS} {N : Nat} {s : fS} {l1 : Nat} {l2 : Int} {l3 : Int} (E : bE 0 σo s) (ol1 : bO 0 s l1) (hF : FX19_pack_b169 N l1 l2 l3 s = some q) : bE 0 σo q.2 := by
  unfold FX19_pack_b169 at hF
  refine b_if hF (fun hF => ?_) (fun hF => ?_)
  ·
    refine b_if hF (fun hF => ?_) (fun hF => ?_)
    ·
      exact BX19_pack_b198 (N := N) E ol1 hF
    ·
      refine b_call E (fun _ hq => (BX19_sum (bE.rf E.S) hq)) hF (fun _ hq3 D3 E3 hF => ?_)
      exact BX19_pack_b198 (N := N) E3 (ol1.up D3) hF
  ·
    exact BX19_pack_b198 (N := N) E ol1 hF
theorem BX19_pack_b31 {σo : fS} {q : Int × fS} {N : Nat} : ∀ {n : Nat} {s : fS} {l1 : Nat} {l2 : Int} {l3 : Int} {l4 : Int} {l5 : Int} {l7 : Int}, bE 0 σo s → bO 0 s l1 → FX19_pack_b31 N n l1 l2 l3 l4 l5 l7 s = some q → bE 0 σo q.2 := by
  intro n
  induction n with
  | zero => intro s l1 l2 l3 l4 l5 l7 E ol1 hF; simp [FX19_pack_b31] at hF
  | succ n ih =>
    intro s l1 l2 l3 l4 l5 l7 E ol1 hF
    rw [FX19_pack_b31] at hF
    refine b_K hF (fun hF => ?_)
    refine b_if hF (fun hF => ?_) (fun hF => ?_)
    ·
      refine b_K hF (fun hF => ?_)
      refine b_pI E ol1 hF (fun _ D2 E2 hF => ?_)
      refine b_if hF (fun hF => ?_) (fun hF => ?_)
      ·
        exact BX19_pack_b169 (N := N) E2 (ol1.up D2) hF
      ·
        refine b_pJ E2 (E2.S.c0 (Nat.le_of_ble_eq_true rfl)) hF (fun _ D5 E5 hF => ?_)
        refine b_call E5 (fun _ hq => (BX19_sum (bE.rf E5.S) hq)) hF (fun _ hq10 D10 E10 hF => ?_)
        refine b_pJ E10 (E10.S.c0 (Nat.le_of_ble_eq_true rfl)) hF (fun _ D11 E11 hF => ?_)
        exact BX19_pack_b169 (N := N) E11 ((((ol1.up D2).up D5).up D10).up D11) hF
    ·
      refine b_call E (fun _ hq => (BX19_add (bE.rf E.S) hq)) hF (fun _ hq13 D13 E13 hF => ?_)
      refine b_call E13 (fun _ hq => (BX7_kind (bE.rf E13.S) hq)) hF (fun _ hq16 D16 E16 hF => ?_)
      refine b_if hF (fun hF => ?_) (fun hF => ?_)
      ·
        refine b_call E16 (fun _ hq => (BX7_of (bE.rf E16.S) hq)) hF (fun _ hq20 D20 E20 hF => ?_)
        refine b_rO E20 (E20.S.c0 (Nat.le_of_ble_eq_true rfl)) hF (fun _ o21 hF => ?_)
        refine b_K hF (fun hF => ?_)
        refine b_K hF (fun hF => ?_)
        refine b_K hF (fun hF => ?_)
        refine b_pI E20 (((ol1.up D13).up D16).up D20) hF (fun _ D24 E24 hF => ?_)
        refine b_K hF (fun hF => ?_)
        exact BX19_pack_b108 (N := N) (K31 := FX19_pack_b31 N n) @ih E24 ((((ol1.up D13).up D16).up D20).up D24) hF
      ·
        exact BX19_pack_b108 (N := N) (K31 := FX19_pack_b31 N n) @ih E16 ((ol1.up D13).up D16) hF
theorem BX19_pack {σo : fS} {q : Int × fS} {N : Nat} {s : fS} {p0 : Nat} {p1 : Int} {p2 : Int} {p3 : Int} (E : bE 0 σo s) (op0 : bO 0 s p0) (hF : FX19_pack N p0 p1 p2 p3 s = some q) : bE 0 σo q.2 := by
  unfold FX19_pack at hF
  refine b_K hF (fun hF => ?_)
  refine b_call E (fun _ hq => (BX19_clear (N := N) (bE.rf E.S) hq)) hF (fun _ hq3 D3 E3 hF => ?_)
  refine b_K hF (fun hF => ?_)
  refine b_pI E3 (op0.up D3) hF (fun _ D4 E4 hF => ?_)
  refine b_K hF (fun hF => ?_)
  refine b_K hF (fun hF => ?_)
  refine b_K hF (fun hF => ?_)
  exact BX19_pack_b31 (N := N) E4 ((op0.up D3).up D4) hF
theorem BX19_nearest_b20 {σo : fS} {q : Int × fS} {s : fS} {l0 : Int} {l2 : Int} {s0 : Int} (E : bE 0 σo s) (hF : FX19_nearest_b20 l0 l2 s0 s = some q) : bE 0 σo q.2 := by
  unfold FX19_nearest_b20 at hF
  refine b_dv hF (fun hF => ?_)
  exact b_ret E hF
theorem BX19_nearest {σo : fS} {q : Int × fS} {s : fS} {p0 : Int} {p1 : Int} (E : bE 0 σo s) (hF : FX19_nearest p0 p1 s = some q) : bE 0 σo q.2 := by
  unfold FX19_nearest at hF
  refine b_if hF (fun hF => ?_) (fun hF => ?_)
  ·
    exact BX19_nearest_b20 E hF
  ·
    exact BX19_nearest_b20 E hF
theorem BX19_shareOf_b41 {σo : fS} {q : Int × fS} {s : fS} {s0 : Int} (E : bE 0 σo s) (hF : FX19_shareOf_b41 s0 s = some q) : bE 0 σo q.2 := by
  unfold FX19_shareOf_b41 at hF
  exact b_ret E hF
theorem BX19_shareOf_b9 {σo : fS} {q : Int × fS} {s : fS} {l1 : Int} {l3 : Int} {s0 : Int} (E : bE 0 σo s) (hF : FX19_shareOf_b9 l1 l3 s0 s = some q) : bE 0 σo q.2 := by
  unfold FX19_shareOf_b9 at hF
  refine b_call E (fun _ hq => (BX7_of (bE.rf E.S) hq)) hF (fun _ hq3 D3 E3 hF => ?_)
  refine b_if hF (fun hF => ?_) (fun hF => ?_)
  ·
    exact BX19_shareOf_b41 E3 hF
  ·
    refine b_call E3 (fun _ hq => (BX7_of (bE.rf E3.S) hq)) hF (fun _ hq6 D6 E6 hF => ?_)
    exact BX19_shareOf_b41 E6 hF
theorem BX19_shareOf {σo : fS} {q : Int × fS} {s : fS} {p0 : Int} {p1 : Int} {p2 : Int} (E : bE 0 σo s) (hF : FX19_shareOf p0 p1 p2 s = some q) : bE 0 σo q.2 := by
  unfold FX19_shareOf at hF
  refine b_if hF (fun hF => ?_) (fun hF => ?_)
  ·
    exact BX19_shareOf_b9 E hF
  ·
    exact BX19_shareOf_b9 E hF
theorem BX19_settle_b186 {σo : fS} {q : Unit × fS} {N : Nat} {K39 : Nat → Int → Int → Int → fS → Option (Unit × fS)} (hk39 : ∀ {s : fS} {l1 : Nat} {l2 : Int} {l4 : Int} {l6 : Int}, bE 0 σo s → bO 0 s l1 → K39 l1 l2 l4 l6 s = some q → bE 0 σo q.2) {s : fS} {l1 : Nat} {l2 : Int} {l4 : Int} {l6 : Int} (E : bE 0 σo s) (ol1 : bO 0 s l1) (hF : FX19_settle_b186 N K39 l1 l2 l4 l6 s = some q) : bE 0 σo q.2 := by
  unfold FX19_settle_b186 at hF
  refine b_call E (fun _ hq => (BX19_add (bE.rf E.S) hq)) hF (fun _ hq2 D2 E2 hF => ?_)
  exact hk39 E2 (ol1.up D2) hF
theorem BX19_settle_b175 {σo : fS} {q : Unit × fS} {N : Nat} {K39 : Nat → Int → Int → Int → fS → Option (Unit × fS)} (hk39 : ∀ {s : fS} {l1 : Nat} {l2 : Int} {l4 : Int} {l6 : Int}, bE 0 σo s → bO 0 s l1 → K39 l1 l2 l4 l6 s = some q → bE 0 σo q.2) {s : fS} {l1 : Nat} {l2 : Int} {l6 : Int} {s0 : Int} {s2 : Int} {s3 : Int} (E : bE 0 σo s) (ol1 : bO 0 s l1) (hF : FX19_settle_b175 N K39 l1 l2 l6 s0 s2 s3 s = some q) : bE 0 σo q.2 := by
  unfold FX19_settle_b175 at hF
  refine b_K hF (fun hF => ?_)
  refine b_call E (fun _ hq => (BX19_shareOf (bE.rf E.S) hq)) hF (fun _ hq3 D3 E3 hF => ?_)
  exact BX19_settle_b186 (N := N) (K39 := K39) @hk39 E3 (ol1.up D3) hF
theorem BX19_settle_b139 {σo : fS} {q : Unit × fS} {N : Nat} {K39 : Nat → Int → Int → Int → fS → Option (Unit × fS)} (hk39 : ∀ {s : fS} {l1 : Nat} {l2 : Int} {l4 : Int} {l6 : Int}, bE 0 σo s → bO 0 s l1 → K39 l1 l2 l4 l6 s = some q → bE 0 σo q.2) {s : fS} {l1 : Nat} {l2 : Int} {l4 : Int} {l6 : Int} {l8 : Int} {s1 : Int} {s2 : Int} {s3 : Int} (E : bE 0 σo s) (ol1 : bO 0 s l1) (hF : FX19_settle_b139 N K39 l1 l2 l4 l6 l8 s1 s2 s3 s = some q) : bE 0 σo q.2 := by
  unfold FX19_settle_b139 at hF
  refine b_qI E (E.S.c0 (Nat.le_of_ble_eq_true rfl)) hF (fun _ D1 E1 hF => ?_)
  refine b_call E1 (fun _ hq => (BX7_kind (bE.rf E1.S) hq)) hF (fun _ hq4 D4 E4 hF => ?_)
  refine b_if hF (fun hF => ?_) (fun hF => ?_)
  ·
    exact BX19_settle_b186 (N := N) (K39 := K39) @hk39 E4 ((ol1.up D1).up D4) hF
  ·
    refine b_K hF (fun hF => ?_)
    refine b_if hF (fun hF => ?_) (fun hF => ?_)
    ·
      exact BX19_settle_b175 (N := N) (K39 := K39) @hk39 E4 ((ol1.up D1).up D4) hF
    ·
      exact BX19_settle_b175 (N := N) (K39 := K39) @hk39 E4 ((ol1.up D1).up D4) hF
theorem BX19_settle_b138 {σo : fS} {q : Unit × fS} {N : Nat} {K39 : Nat → Int → Int → Int → fS → Option (Unit × fS)} (hk39 : ∀ {s : fS} {l1 : Nat} {l2 : Int} {l4 : Int} {l6 : Int}, bE 0 σo s → bO 0 s l1 → K39 l1 l2 l4 l6 s = some q → bE 0 σo q.2) {s : fS} {l1 : Nat} {l2 : Int} {l4 : Int} {l6 : Int} {l8 : Int} {s1 : Int} {s2 : Int} (E : bE 0 σo s) (ol1 : bO 0 s l1) (hF : FX19_settle_b138 N K39 l1 l2 l4 l6 l8 s1 s2 s = some q) : bE 0 σo q.2 := by
  unfold FX19_settle_b138 at hF
  exact BX19_settle_b139 (N := N) (K39 := K39) @hk39 E ol1 hF
theorem BX19_settle_b104 {σo : fS} {q : Unit × fS} {N : Nat} {K39 : Nat → Int → Int → Int → fS → Option (Unit × fS)} (hk39 : ∀ {s : fS} {l1 : Nat} {l2 : Int} {l4 : Int} {l6 : Int}, bE 0 σo s → bO 0 s l1 → K39 l1 l2 l4 l6 s = some q → bE 0 σo q.2) {s : fS} {l1 : Nat} {l2 : Int} {l4 : Int} {l6 : Int} {l7 : Int} {s0 : Int} (E : bE 0 σo s) (ol1 : bO 0 s l1) (hF : FX19_settle_b104 N K39 l1 l2 l4 l6 l7 s0 s = some q) : bE 0 σo q.2 := by
  unfold FX19_settle_b104 at hF
  refine b_if hF (fun hF => ?_) (fun hF => ?_)
  ·
    exact BX19_settle_b138 (N := N) (K39 := K39) @hk39 E ol1 hF
  ·
    refine b_if hF (fun hF => ?_) (fun hF => ?_)
    ·
      exact BX19_settle_b138 (N := N) (K39 := K39) @hk39 E ol1 hF
    ·
      exact BX19_settle_b139 (N := N) (K39 := K39) @hk39 E ol1 hF
theorem BX19_settle_b79 {σo : fS} {q : Unit × fS} {N : Nat} {K39 : Nat → Int → Int → Int → fS → Option (Unit × fS)} (hk39 : ∀ {s : fS} {l1 : Nat} {l2 : Int} {l4 : Int} {l6 : Int}, bE 0 σo s → bO 0 s l1 → K39 l1 l2 l4 l6 s = some q → bE 0 σo q.2) {s : fS} {l1 : Nat} {l2 : Int} {l4 : Int} {l6 : Int} {s0 : Int} (E : bE 0 σo s) (ol1 : bO 0 s l1) (hF : FX19_settle_b79 N K39 l1 l2 l4 l6 s0 s = some q) : bE 0 σo q.2 := by
  unfold FX19_settle_b79 at hF
  refine b_K hF (fun hF => ?_)
  refine b_if hF (fun hF => ?_) (fun hF => ?_)
  ·
    refine b_K hF (fun hF => ?_)
    refine b_call E (fun _ hq => (BX19_nearest (bE.rf E.S) hq)) hF (fun _ hq3 D3 E3 hF => ?_)
    exact BX19_settle_b104 (N := N) (K39 := K39) @hk39 E3 (ol1.up D3) hF
  ·
    exact BX19_settle_b104 (N := N) (K39 := K39) @hk39 E ol1 hF
theorem BX19_settle_b78 {σo : fS} {q : Unit × fS} {N : Nat} {K39 : Nat → Int → Int → Int → fS → Option (Unit × fS)} (hk39 : ∀ {s : fS} {l1 : Nat} {l2 : Int} {l4 : Int} {l6 : Int}, bE 0 σo s → bO 0 s l1 → K39 l1 l2 l4 l6 s = some q → bE 0 σo q.2) {s : fS} {l1 : Nat} {l2 : Int} {l4 : Int} {l6 : Int} (E : bE 0 σo s) (ol1 : bO 0 s l1) (hF : FX19_settle_b78 N K39 l1 l2 l4 l6 s = some q) : bE 0 σo q.2 := by
  unfold FX19_settle_b78 at hF
  exact BX19_settle_b79 (N := N) (K39 := K39) @hk39 E ol1 hF
theorem BX19_settle_b39 {σo : fS} {q : Unit × fS} {N : Nat} : ∀ {n : Nat} {s : fS} {l1 : Nat} {l2 : Int} {l4 : Int} {l6 : Int}, bE 0 σo s → bO 0 s l1 → FX19_settle_b39 N n l1 l2 l4 l6 s = some q → bE 0 σo q.2 := by
  intro n
  induction n with
  | zero => intro s l1 l2 l4 l6 E ol1 hF; simp [FX19_settle_b39] at hF
  | succ n ih =>
    intro s l1 l2 l4 l6 E ol1 hF
    rw [FX19_settle_b39] at hF
    refine b_K hF (fun hF => ?_)
    refine b_if hF (fun hF => ?_) (fun hF => ?_)
    ·
      exact b_ret E hF
    ·
      refine b_call E (fun _ hq => (BX7_kind (bE.rf E.S) hq)) hF (fun _ hq4 D4 E4 hF => ?_)
      refine b_if hF (fun hF => ?_) (fun hF => ?_)
      ·
        exact BX19_settle_b78 (N := N) (K39 := FX19_settle_b39 N n) @ih E4 (ol1.up D4) hF
      ·
        refine b_call E4 (fun _ hq => (BX7_kind (bE.rf E4.S) hq)) hF (fun _ hq7 D7 E7 hF => ?_)
        refine b_if hF (fun hF => ?_) (fun hF => ?_)
        ·
          exact BX19_settle_b78 (N := N) (K39 := FX19_settle_b39 N n) @ih E7 ((ol1.up D4).up D7) hF
        ·
          exact BX19_settle_b79 (N := N) (K39 := FX19_settle_b39 N n) @ih E7 ((ol1.up D4).up D7) hF
theorem BX19_settle_b29 {σo : fS} {q : Unit × fS} {N : Nat} {s : fS} {l1 : Nat} {s0 : Int} (E : bE 0 σo s) (ol1 : bO 0 s l1) (hF : FX19_settle_b29 N l1 s0 s = some q) : bE 0 σo q.2 := by
  unfold FX19_settle_b29 at hF
  refine b_K hF (fun hF => ?_)
  exact BX19_settle_b39 (N := N) E ol1 hF
theorem BX19_settle {σo : fS} {q : Unit × fS} {N : Nat} {s : fS} {p0 : Nat} (E : bE 0 σo s) (op0 : bO 0 s p0) (hF : FX19_settle N p0 s = some q) : bE 0 σo q.2 := by
  unfold FX19_settle at hF
  refine b_K hF (fun hF => ?_)
  refine b_call E (fun _ hq => (BX19_clear (N := N) (bE.rf E.S) hq)) hF (fun _ hq3 D3 E3 hF => ?_)
  refine b_K hF (fun hF => ?_)
  refine b_if hF (fun hF => ?_) (fun hF => ?_)
  ·
    refine b_K hF (fun hF => ?_)
    exact BX19_settle_b29 (N := N) E3 (op0.up D3) hF
  ·
    refine b_K hF (fun hF => ?_)
    exact BX19_settle_b29 (N := N) E3 (op0.up D3) hF
theorem BX3_pack_b79 {σo : fS} {q : (Int ⊕ Nat) × fS} {N : Nat} {K18 : Nat → Int → Int → Int → Int → Int → Int → Int → Int → fS → Option ((Int ⊕ Nat) × fS)} (hk18 : ∀ {s : fS} {l1 : Nat} {l2 : Int} {l3 : Int} {l4 : Int} {l5 : Int} {l6 : Int} {l7 : Int} {l8 : Int} {l9 : Int}, bE 0 σo s → bO 0 s l1 → K18 l1 l2 l3 l4 l5 l6 l7 l8 l9 s = some q → bE 0 σo q.2) {s : fS} {l1 : Nat} {l2 : Int} {l3 : Int} {l4 : Int} {l5 : Int} {l6 : Int} {l7 : Int} {l8 : Int} {l9 : Int} (E : bE 0 σo s) (ol1 : bO 0 s l1) (hF : FX3_pack_b79 N K18 l1 l2 l3 l4 l5 l6 l7 l8 l9 s = some q) : bE 0 σo q.2 := by
  unfold FX3_pack_b79 at hF
  exact hk18 E ol1 hF
theorem BX3_pack_b44 {σo : fS} {q : (Int ⊕ Nat) × fS} {N : Nat} {K18 : Nat → Int → Int → Int → Int → Int → Int → Int → Int → fS → Option ((Int ⊕ Nat) × fS)} (hk18 : ∀ {s : fS} {l1 : Nat} {l2 : Int} {l3 : Int} {l4 : Int} {l5 : Int} {l6 : Int} {l7 : Int} {l8 : Int} {l9 : Int}, bE 0 σo s → bO 0 s l1 → K18 l1 l2 l3 l4 l5 l6 l7 l8 l9 s = some q → bE 0 σo q.2) {s : fS} {l1 : Nat} {l2 : Int} {l3 : Int} {l4 : Int} {l5 : Int} {l6 : Int} {l7 : Int} {l9 : Int} {s0 : Int} {s1 : Int} (E : bE 0 σo s) (ol1 : bO 0 s l1) (hF : FX3_pack_b44 N K18 l1 l2 l3 l4 l5 l6 l7 l9 s0 s1 s = some q) : bE 0 σo q.2 := by
  unfold FX3_pack_b44 at hF
  refine b_K hF (fun hF => ?_)
  refine b_call E (fun _ hq => (BX34_kind (bE.rf E.S) ol1 hq)) hF (fun _ hq2 D2 E2 hF => ?_)
  refine b_if hF (fun hF => ?_) (fun hF => ?_)
  ·
    exact BX3_pack_b79 (N := N) (K18 := K18) @hk18 E2 (ol1.up D2) hF
  ·
    refine b_K hF (fun hF => ?_)
    refine b_call E2 (fun _ hq => (BX34_of (bE.rf E2.S) (ol1.up D2) hq)) hF (fun _ hq5 D5 E5 hF => ?_)
    refine b_rO E5 (E5.S.c0 (Nat.le_of_ble_eq_true rfl)) hF (fun _ o6 hF => ?_)
    refine b_K hF (fun hF => ?_)
    exact BX3_pack_b79 (N := N) (K18 := K18) @hk18 E5 ((ol1.up D2).up D5) hF
theorem BX3_pack_b201 {σo : fS} {q : (Int ⊕ Nat) × fS} {N : Nat} {K134 : Nat → Int → Int → Int → Int → Int → Int → fS → Option ((Int ⊕ Nat) × fS)} (hk134 : ∀ {s : fS} {l1 : Nat} {l3 : Int} {l4 : Int} {l5 : Int} {l6 : Int} {l8 : Int} {l9 : Int}, bE 0 σo s → bO 0 s l1 → K134 l1 l3 l4 l5 l6 l8 l9 s = some q → bE 0 σo q.2) {s : fS} {l1 : Nat} {l3 : Int} {l4 : Int} {l5 : Int} {l6 : Int} {l8 : Int} {l9 : Int} (E : bE 0 σo s) (ol1 : bO 0 s l1) (hF : FX3_pack_b201 N K134 l1 l3 l4 l5 l6 l8 l9 s = some q) : bE 0 σo q.2 := by
  unfold FX3_pack_b201 at hF
  exact hk134 E ol1 hF
theorem BX3_pack_b346 {σo : fS} {q : (Int ⊕ Nat) × fS} {N : Nat} {s : fS} {s1 : Int} {s2 : Int} {s3 : Int} (E : bE 0 σo s) (hF : FX3_pack_b346 N s1 s2 s3 s = some q) : bE 0 σo q.2 := by
  unfold FX3_pack_b346 at hF
  refine b_qI E (E.S.c0 (Nat.le_of_ble_eq_true rfl)) hF (fun _ D1 E1 hF => ?_)
  refine b_pI E1 (E1.S.c0 (Nat.le_of_ble_eq_true rfl)) hF (fun _ D3 E3 hF => ?_)
  exact b_ret E3 hF
theorem BX3_pack_b235 {σo : fS} {q : (Int ⊕ Nat) × fS} {N : Nat} {s : fS} {l3 : Int} {l4 : Int} {l5 : Int} {l6 : Int} {l8 : Int} (E : bE 0 σo s) (hF : FX3_pack_b235 N l3 l4 l5 l6 l8 s = some q) : bE 0 σo q.2 := by
  unfold FX3_pack_b235 at hF
  refine b_rO E (E.S.c0 (Nat.le_of_ble_eq_true rfl)) hF (fun _ o3 hF => ?_)
  refine b_K hF (fun hF => ?_)
  refine b_pI E o3 hF (fun _ D4 E4 hF => ?_)
  refine b_K hF (fun hF => ?_)
  refine b_pI E4 (o3.up D4) hF (fun _ D7 E7 hF => ?_)
  refine b_K hF (fun hF => ?_)
  refine b_pZ E7 ((o3.up D4).up D7) hF (fun _ D8 E8 hF => ?_)
  refine b_call E8 (fun _ hq => (BX19_pack (N := N) (bE.rf E8.S) (((o3.up D4).up D7).up D8) hq)) hF (fun _ hq12 D12 E12 hF => ?_)
  refine b_tB E12 (fun _ hq => BX4_want (bE.rf E12.S) hq) hF (fun _ _ D14 E14 hF => ?_)
  refine b_call E14 (fun _ hq => (BX19_settle (N := N) (bE.rf E14.S) (((((o3.up D4).up D7).up D8).up D12).up D14) hq)) hF (fun _ hq17 D17 E17 hF => ?_)
  refine b_rv hF (fun _ hF => ?_)
  refine b_qI E17 (E17.S.c0 (Nat.le_of_ble_eq_true rfl)) hF (fun _ D20 E20 hF => ?_)
  refine b_rv hF (fun _ hF => ?_)
  refine b_qI E20 (E20.S.c0 (Nat.le_of_ble_eq_true rfl)) hF (fun _ D23 E23 hF => ?_)
  refine b_rv hF (fun _ hF => ?_)
  refine b_K hF (fun hF => ?_)
  refine b_if hF (fun hF => ?_) (fun hF => ?_)
  ·
    exact BX3_pack_b346 (N := N) E23 hF
  ·
    exact BX3_pack_b346 (N := N) E23 hF
theorem BX3_pack_b134 {σo : fS} {q : (Int ⊕ Nat) × fS} {N : Nat} : ∀ {n : Nat} {s : fS} {l1 : Nat} {l3 : Int} {l4 : Int} {l5 : Int} {l6 : Int} {l8 : Int} {l9 : Int}, bE 0 σo s → bO 0 s l1 → FX3_pack_b134 N n l1 l3 l4 l5 l6 l8 l9 s = some q → bE 0 σo q.2 := by
  intro n
  induction n with
  | zero => intro s l1 l3 l4 l5 l6 l8 l9 E ol1 hF; simp [FX3_pack_b134] at hF
  | succ n ih =>
    intro s l1 l3 l4 l5 l6 l8 l9 E ol1 hF
    rw [FX3_pack_b134] at hF
    refine b_K hF (fun hF => ?_)
    refine b_if hF (fun hF => ?_) (fun hF => ?_)
    ·
      refine b_rQ E (E.S.c0 (Nat.le_of_ble_eq_true rfl)) hF (fun a8 o4 hF => ?_)
      cases a8 with
      | none =>
        dsimp only at hF
        refine b_nO E hF (fun _ D7 E7 o7 hF => ?_)
        refine b_call E7 (fun _ hq => (BX39_init (bE.rf E7.S) hq)) hF (fun _ hq8 D8 E8 hF => ?_)
        refine b_K hF (fun hF => ?_)
        refine b_qO E8 (E8.S.c0 (Nat.le_of_ble_eq_true rfl)) (o7.up D8) hF (fun _ D9 E9 hF => ?_)
        exact BX3_pack_b235 (N := N) E9 hF
      | some a10 =>
        dsimp only at hF
        exact BX3_pack_b235 (N := N) E hF
    ·
      refine b_K hF (fun hF => ?_)
      refine b_call E (fun _ hq => (BX34_kind (bE.rf E.S) ol1 hq)) hF (fun _ hq11 D11 E11 hF => ?_)
      refine b_if hF (fun hF => ?_) (fun hF => ?_)
      ·
        exact BX3_pack_b201 (N := N) (K134 := FX3_pack_b134 N n) @ih E11 (ol1.up D11) hF
      ·
        refine b_K hF (fun hF => ?_)
        refine b_call E11 (fun _ hq => (BX34_kind (bE.rf E11.S) (ol1.up D11) hq)) hF (fun _ hq14 D14 E14 hF => ?_)
        refine b_K hF (fun hF => ?_)
        refine b_call E14 (fun _ hq => (BX34_of (bE.rf E14.S) ((ol1.up D11).up D14) hq)) hF (fun _ hq16 D16 E16 hF => ?_)
        refine b_K hF (fun hF => ?_)
        refine b_call E16 (fun _ hq => (BX34_of (bE.rf E16.S) (((ol1.up D11).up D14).up D16) hq)) hF (fun _ hq18 D18 E18 hF => ?_)
        refine b_K hF (fun hF => ?_)
        refine b_call E18 (fun _ hq => (BX34_of (bE.rf E18.S) ((((ol1.up D11).up D14).up D16).up D18) hq)) hF (fun _ hq20 D20 E20 hF => ?_)
        refine b_K hF (fun hF => ?_)
        refine b_call E20 (fun _ hq => (BX34_of (bE.rf E20.S) (((((ol1.up D11).up D14).up D16).up D18).up D20) hq)) hF (fun _ hq22 D22 E22 hF => ?_)
        refine b_K hF (fun hF => ?_)
        refine b_call E22 (fun _ hq => (BX34_of (bE.rf E22.S) ((((((ol1.up D11).up D14).up D16).up D18).up D20).up D22) hq)) hF (fun _ hq24 D24 E24 hF => ?_)
        refine b_call E24 (fun _ hq => (BX7_add (bE.rf E24.S) hq)) hF (fun _ hq26 D26 E26 hF => ?_)
        exact BX3_pack_b201 (N := N) (K134 := FX3_pack_b134 N n) @ih E26 ((((((((ol1.up D11).up D14).up D16).up D18).up D20).up D22).up D24).up D26) hF
theorem BX3_pack_b127 {σo : fS} {q : (Int ⊕ Nat) × fS} {N : Nat} {s : fS} {l1 : Nat} {l2 : Int} {l3 : Int} {l4 : Int} {l5 : Int} {l6 : Int} {l8 : Int} {s1 : Int} (E : bE 0 σo s) (ol1 : bO 0 s l1) (hF : FX3_pack_b127 N l1 l2 l3 l4 l5 l6 l8 s1 s = some q) : bE 0 σo q.2 := by
  unfold FX3_pack_b127 at hF
  refine b_tB E (fun _ hq => BX4_want (bE.rf E.S) hq) hF (fun _ _ D2 E2 hF => ?_)
  exact BX3_pack_b134 (N := N) E2 (ol1.up D2) hF
theorem BX3_pack_b126 {σo : fS} {q : (Int ⊕ Nat) × fS} {N : Nat} {s : fS} {l1 : Nat} {l2 : Int} {l3 : Int} {l4 : Int} {l5 : Int} {l6 : Int} {l8 : Int} (E : bE 0 σo s) (ol1 : bO 0 s l1) (hF : FX3_pack_b126 N l1 l2 l3 l4 l5 l6 l8 s = some q) : bE 0 σo q.2 := by
  unfold FX3_pack_b126 at hF
  exact BX3_pack_b127 (N := N) E ol1 hF
theorem BX3_pack_b18 {σo : fS} {q : (Int ⊕ Nat) × fS} {N : Nat} : ∀ {n : Nat} {s : fS} {l1 : Nat} {l2 : Int} {l3 : Int} {l4 : Int} {l5 : Int} {l6 : Int} {l7 : Int} {l8 : Int} {l9 : Int}, bE 0 σo s → bO 0 s l1 → FX3_pack_b18 N n l1 l2 l3 l4 l5 l6 l7 l8 l9 s = some q → bE 0 σo q.2 := by
  intro n
  induction n with
  | zero => intro s l1 l2 l3 l4 l5 l6 l7 l8 l9 E ol1 hF; simp [FX3_pack_b18] at hF
  | succ n ih =>
    intro s l1 l2 l3 l4 l5 l6 l7 l8 l9 E ol1 hF
    rw [FX3_pack_b18] at hF
    refine b_K hF (fun hF => ?_)
    refine b_if hF (fun hF => ?_) (fun hF => ?_)
    ·
      refine b_if hF (fun hF => ?_) (fun hF => ?_)
      ·
        exact BX3_pack_b126 (N := N) E ol1 hF
      ·
        refine b_if hF (fun hF => ?_) (fun hF => ?_)
        ·
          exact BX3_pack_b126 (N := N) E ol1 hF
        ·
          refine b_if hF (fun hF => ?_) (fun hF => ?_)
          ·
            exact BX3_pack_b126 (N := N) E ol1 hF
          ·
            exact BX3_pack_b127 (N := N) E ol1 hF
    ·
      refine b_K hF (fun hF => ?_)
      refine b_call E (fun _ hq => (BX34_kind (bE.rf E.S) ol1 hq)) hF (fun _ hq7 D7 E7 hF => ?_)
      refine b_if hF (fun hF => ?_) (fun hF => ?_)
      ·
        exact BX3_pack_b44 (N := N) (K18 := FX3_pack_b18 N n) @ih E7 (ol1.up D7) hF
      ·
        exact BX3_pack_b44 (N := N) (K18 := FX3_pack_b18 N n) @ih E7 (ol1.up D7) hF
theorem BX3_pack {σo : fS} {q : (Int ⊕ Nat) × fS} {N : Nat} {s : fS} {p0 : Nat} {p1 : Int} {p2 : Int} {p3 : Int} {p4 : Int} (E : bE 0 σo s) (op0 : bO 0 s p0) (hF : FX3_pack N p0 p1 p2 p3 p4 s = some q) : bE 0 σo q.2 := by
  unfold FX3_pack at hF
  exact BX3_pack_b18 (N := N) E op0 hF
theorem BX3_indent {σo : fS} {q : (Unit ⊕ Nat) × fS} {N : Nat} {s : fS} (E : bE 0 σo s) (hF : FX3_indent N s = some q) : bE 0 σo q.2 := by
  unfold FX3_indent at hF
  refine b_pI E (E.S.c0 (Nat.le_of_ble_eq_true rfl)) hF (fun _ D2 E2 hF => ?_)
  refine b_rv hF (fun _ hF => ?_)
  refine b_tB E2 (fun _ hq => BX3_pack (N := N) (bE.rf E2.S) (E2.S.c0 (Nat.le_of_ble_eq_true rfl)) hq) hF (fun _ _ D8 E8 hF => ?_)
  refine b_tB E8 (fun _ hq => BX3_put (bE.rf E8.S) hq) hF (fun _ _ D10 E10 hF => ?_)
  exact b_ret E10 hF
theorem BX3_wantHorizontal_b60 {σo : fS} {q : (Int ⊕ Nat) × fS} {N : Nat} {s : fS} (E : bE 0 σo s) (hF : FX3_wantHorizontal_b60 N s = some q) : bE 0 σo q.2 := by
  unfold FX3_wantHorizontal_b60 at hF
  exact b_ret E hF
theorem BX3_wantHorizontal_b47 {σo : fS} {q : (Int ⊕ Nat) × fS} {N : Nat} {s : fS} {l1 : Int} (E : bE 0 σo s) (hF : FX3_wantHorizontal_b47 N l1 s = some q) : bE 0 σo q.2 := by
  unfold FX3_wantHorizontal_b47 at hF
  refine b_call E (fun _ hq => (BX3_push (bE.rf E.S) hq)) hF (fun _ hq2 D2 E2 hF => ?_)
  refine b_if hF (fun hF => ?_) (fun hF => ?_)
  ·
    exact BX3_wantHorizontal_b60 (N := N) E2 hF
  ·
    refine b_tB E2 (fun _ hq => BX3_indent (N := N) (bE.rf E2.S) hq) hF (fun _ _ D4 E4 hF => ?_)
    exact BX3_wantHorizontal_b60 (N := N) E4 hF
theorem BX3_wantHorizontal_b40 {σo : fS} {q : (Int ⊕ Nat) × fS} {N : Nat} {s : fS} {l1 : Int} (E : bE 0 σo s) (hF : FX3_wantHorizontal_b40 N l1 s = some q) : bE 0 σo q.2 := by
  unfold FX3_wantHorizontal_b40 at hF
  refine b_tB E (fun _ hq => BX3_addGlue (N := N) (bE.rf E.S) hq) hF (fun _ _ D2 E2 hF => ?_)
  exact BX3_wantHorizontal_b47 (N := N) E2 hF
theorem BX3_wantHorizontal {σo : fS} {q : (Int ⊕ Nat) × fS} {N : Nat} {s : fS} {p0 : Int} (E : bE 0 σo s) (hF : FX3_wantHorizontal N p0 s = some q) : bE 0 σo q.2 := by
  unfold FX3_wantHorizontal at hF
  refine b_call E (fun _ hq => (BX3_isVertical (bE.rf E.S) hq)) hF (fun _ hq2 D2 E2 hF => ?_)
  refine b_if hF (fun hF => ?_) (fun hF => ?_)
  ·
    refine b_rv hF (fun _ hF => ?_)
    refine b_if hF (fun hF => ?_) (fun hF => ?_)
    ·
      exact BX3_wantHorizontal_b40 (N := N) E2 hF
    ·
      refine b_rv hF (fun _ hF => ?_)
      refine b_if hF (fun hF => ?_) (fun hF => ?_)
      ·
        exact BX3_wantHorizontal_b47 (N := N) E2 hF
      ·
        exact BX3_wantHorizontal_b40 (N := N) E2 hF
  ·
    exact b_ret E2 hF
theorem BX3_character_b114 {σo : fS} {q : (Unit ⊕ Nat) × fS} {N : Nat} {s : fS} (E : bE 0 σo s) (hF : FX3_character_b114 N s = some q) : bE 0 σo q.2 := by
  unfold FX3_character_b114 at hF
  exact b_ret E hF
theorem BX3_character_b110 {σo : fS} {q : (Unit ⊕ Nat) × fS} {N : Nat} {s : fS} (E : bE 0 σo s) (hF : FX3_character_b110 N s = some q) : bE 0 σo q.2 := by
  unfold FX3_character_b110 at hF
  refine b_tB E (fun _ hq => BX3_endWord (N := N) (bE.rf E.S) hq) hF (fun _ _ D2 E2 hF => ?_)
  exact BX3_character_b114 (N := N) E2 hF
theorem BX3_character_b72 {σo : fS} {q : (Unit ⊕ Nat) × fS} {N : Nat} {s : fS} {l1 : Int} {l3 : Int} (E : bE 0 σo s) (hF : FX3_character_b72 N l1 l3 s = some q) : bE 0 σo q.2 := by
  unfold FX3_character_b72 at hF
  refine b_pI E (E.S.c0 (Nat.le_of_ble_eq_true rfl)) hF (fun _ D1 E1 hF => ?_)
  refine b_pI E1 (E1.S.c0 (Nat.le_of_ble_eq_true rfl)) hF (fun _ D4 E4 hF => ?_)
  refine b_qI E4 (E4.S.c0 (Nat.le_of_ble_eq_true rfl)) hF (fun _ D5 E5 hF => ?_)
  refine b_if hF (fun hF => ?_) (fun hF => ?_)
  ·
    exact BX3_character_b110 (N := N) E5 hF
  ·
    refine b_if hF (fun hF => ?_) (fun hF => ?_)
    ·
      exact BX3_character_b114 (N := N) E5 hF
    ·
      exact BX3_character_b110 (N := N) E5 hF
theorem BX3_character_b48 {σo : fS} {q : (Unit ⊕ Nat) × fS} {N : Nat} {s : fS} {l1 : Int} {l3 : Int} {s1 : Int} (E : bE 0 σo s) (hF : FX3_character_b48 N l1 l3 s1 s = some q) : bE 0 σo q.2 := by
  unfold FX3_character_b48 at hF
  refine b_tB E (fun _ hq => BX4_want (bE.rf E.S) hq) hF (fun _ _ D2 E2 hF => ?_)
  refine b_if hF (fun hF => ?_) (fun hF => ?_)
  ·
    exact BX3_character_b72 (N := N) E2 hF
  ·
    refine b_if hF (fun hF => ?_) (fun hF => ?_)
    ·
      exact BX3_character_b72 (N := N) E2 hF
    ·
      refine b_tB E2 (fun _ hq => BX3_endWord (N := N) (bE.rf E2.S) hq) hF (fun _ _ D6 E6 hF => ?_)
      exact BX3_character_b72 (N := N) E6 hF
theorem BX3_character_b47 {σo : fS} {q : (Unit ⊕ Nat) × fS} {N : Nat} {s : fS} {l1 : Int} {l3 : Int} (E : bE 0 σo s) (hF : FX3_character_b47 N l1 l3 s = some q) : bE 0 σo q.2 := by
  unfold FX3_character_b47 at hF
  exact BX3_character_b48 (N := N) E hF
theorem BX3_character {σo : fS} {q : (Unit ⊕ Nat) × fS} {N : Nat} {s : fS} {p0 : Int} (E : bE 0 σo s) (hF : FX3_character N p0 s = some q) : bE 0 σo q.2 := by
  unfold FX3_character at hF
  refine b_tB E (fun _ hq => BX3_wantHorizontal (N := N) (bE.rf E.S) hq) hF (fun _ _ D2 E2 hF => ?_)
  refine b_rv hF (fun _ hF => ?_)
  refine b_if hF (fun hF => ?_) (fun hF => ?_)
  ·
    exact BX3_character_b47 (N := N) E2 hF
  ·
    refine b_rO E2 (E2.S.c0 (Nat.le_of_ble_eq_true rfl)) hF (fun _ o9 hF => ?_)
    refine b_K hF (fun hF => ?_)
    refine b_call E2 (fun _ hq => (BX6_has (bE.rf E2.S) o9 hq)) hF (fun _ hq11 D11 E11 hF => ?_)
    refine b_if hF (fun hF => ?_) (fun hF => ?_)
    ·
      exact BX3_character_b47 (N := N) E11 hF
    ·
      exact BX3_character_b48 (N := N) E11 hF
theorem BX9_open {σo : fS} {q : Unit × fS} {s : fS} {p0 : Int} (E : bE 0 σo s) (hF : FX9_open p0 s = some q) : bE 0 σo q.2 := by
  unfold FX9_open at hF
  refine b_qI E (E.S.c0 (Nat.le_of_ble_eq_true rfl)) hF (fun _ D3 E3 hF => ?_)
  refine b_qI E3 (E3.S.c0 (Nat.le_of_ble_eq_true rfl)) hF (fun _ D7 E7 hF => ?_)
  refine b_pI E7 (E7.S.c0 (Nat.le_of_ble_eq_true rfl)) hF (fun _ D9 E9 hF => ?_)
  exact b_ret E9 hF
theorem BX3_open_b21 {σo : fS} {q : (Unit ⊕ Nat) × fS} {s : fS} {l1 : Int} {s1 : Int} (E : bE 0 σo s) (hF : FX3_open_b21 l1 s1 s = some q) : bE 0 σo q.2 := by
  unfold FX3_open_b21 at hF
  refine b_tB E (fun _ hq => BX4_want (bE.rf E.S) hq) hF (fun _ _ D2 E2 hF => ?_)
  refine b_call E2 (fun _ hq => (BX9_open (bE.rf E2.S) hq)) hF (fun _ hq5 D5 E5 hF => ?_)
  exact b_ret E5 hF
theorem BX3_open {σo : fS} {q : (Unit ⊕ Nat) × fS} {s : fS} {p0 : Int} (E : bE 0 σo s) (hF : FX3_open p0 s = some q) : bE 0 σo q.2 := by
  unfold FX3_open at hF
  refine b_if hF (fun hF => ?_) (fun hF => ?_)
  ·
    exact BX3_open_b21 E hF
  ·
    exact BX3_open_b21 E hF
theorem BX34_copy {σo : fS} {q : Unit × fS} {s : fS} {this : Nat} {p0 : Nat} {p1 : Int} (E : bE 0 σo s) (othis : bO 0 s this) (op0 : bO 0 s p0) (hF : FX34_copy this p0 p1 s = some q) : bE 0 σo q.2 := by
  unfold FX34_copy at hF
  refine b_K hF (fun hF => ?_)
  refine b_o E op0 hF (fun _ o1 hF => ?_)
  refine b_KA hF (fun hF => ?_)
  refine b_rv hF (fun _ hF => ?_)
  refine b_K hF (fun hF => ?_)
  refine b_o E op0 hF (fun _ o3 hF => ?_)
  refine b_KA hF (fun hF => ?_)
  refine b_rv hF (fun _ hF => ?_)
  refine b_K hF (fun hF => ?_)
  refine b_o E op0 hF (fun _ o5 hF => ?_)
  refine b_KA hF (fun hF => ?_)
  refine b_rv hF (fun _ hF => ?_)
  refine b_K hF (fun hF => ?_)
  refine b_o E op0 hF (fun _ o7 hF => ?_)
  refine b_KA hF (fun hF => ?_)
  refine b_rv hF (fun _ hF => ?_)
  refine b_K hF (fun hF => ?_)
  refine b_o E op0 hF (fun _ o9 hF => ?_)
  refine b_KA hF (fun hF => ?_)
  refine b_rv hF (fun _ hF => ?_)
  refine b_K hF (fun hF => ?_)
  refine b_o E op0 hF (fun _ o11 hF => ?_)
  refine b_KA hF (fun hF => ?_)
  refine b_rv hF (fun _ hF => ?_)
  refine b_K hF (fun hF => ?_)
  refine b_call E (fun _ hq => (BX34_add (bE.rf E.S) othis hq)) hF (fun _ hq14 D14 E14 hF => ?_)
  exact b_ret E14 hF
theorem BX3_pop {σo : fS} {q : Unit × fS} {s : fS} (E : bE 0 σo s) (hF : FX3_pop s = some q) : bE 0 σo q.2 := by
  unfold FX3_pop at hF
  refine b_rv hF (fun _ hF => ?_)
  refine b_pI E (E.S.c0 (Nat.le_of_ble_eq_true rfl)) hF (fun _ D5 E5 hF => ?_)
  refine b_pI E5 (E5.S.c0 (Nat.le_of_ble_eq_true rfl)) hF (fun _ D7 E7 hF => ?_)
  refine b_call E7 (fun _ hq => (BX3_isVertical (bE.rf E7.S) hq)) hF (fun _ hq10 D10 E10 hF => ?_)
  refine b_pZ E10 (E10.S.c0 (Nat.le_of_ble_eq_true rfl)) hF (fun _ D11 E11 hF => ?_)
  exact b_ret E11 hF
theorem BX21_want {σo : fS} {q : Unit × fS} {s : fS} {p0 : Int} {p1 : Int} (E : bE 0 σo s) (hF : FX21_want p0 p1 s = some q) : bE 0 σo q.2 := by
  unfold FX21_want at hF
  refine b_rv hF (fun _ hF => ?_)
  refine b_rv hF (fun _ hF => ?_)
  refine b_qI E (E.S.c0 (Nat.le_of_ble_eq_true rfl)) hF (fun _ D4 E4 hF => ?_)
  exact b_ret E4 hF
theorem BX21_prepare_b126 {σo : fS} {q : Unit × fS} {N : Nat} : ∀ {n : Nat} {s : fS} {l2 : Int}, bE 0 σo s → FX21_prepare_b126 N n l2 s = some q → bE 0 σo q.2 := by
  intro n
  induction n with
  | zero => intro s l2 E  hF; simp [FX21_prepare_b126] at hF
  | succ n ih =>
    intro s l2 E  hF
    rw [FX21_prepare_b126] at hF
    refine b_if hF (fun hF => ?_) (fun hF => ?_)
    ·
      exact b_ret E hF
    ·
      refine b_rv hF (fun _ hF => ?_)
      refine b_qI E (E.S.c0 (Nat.le_of_ble_eq_true rfl)) hF (fun _ D3 E3 hF => ?_)
      refine b_rv hF (fun _ hF => ?_)
      refine b_qI E3 (E3.S.c0 (Nat.le_of_ble_eq_true rfl)) hF (fun _ D6 E6 hF => ?_)
      refine b_rv hF (fun _ hF => ?_)
      refine b_qI E6 (E6.S.c0 (Nat.le_of_ble_eq_true rfl)) hF (fun _ D9 E9 hF => ?_)
      exact ih E9 hF
theorem BX21_prepare {σo : fS} {q : Unit × fS} {N : Nat} {s : fS} (E : bE 0 σo s) (hF : FX21_prepare N s = some q) : bE 0 σo q.2 := by
  unfold FX21_prepare at hF
  refine b_pI E (E.S.c0 (Nat.le_of_ble_eq_true rfl)) hF (fun _ D2 E2 hF => ?_)
  refine b_rv hF (fun _ hF => ?_)
  refine b_call E2 (fun _ hq => (BX21_want (bE.rf E2.S) hq)) hF (fun _ hq5 D5 E5 hF => ?_)
  refine b_rv hF (fun _ hF => ?_)
  refine b_call E5 (fun _ hq => (BX21_want (bE.rf E5.S) hq)) hF (fun _ hq8 D8 E8 hF => ?_)
  refine b_rv hF (fun _ hF => ?_)
  refine b_call E8 (fun _ hq => (BX21_want (bE.rf E8.S) hq)) hF (fun _ hq11 D11 E11 hF => ?_)
  refine b_rv hF (fun _ hF => ?_)
  refine b_call E11 (fun _ hq => (BX21_want (bE.rf E11.S) hq)) hF (fun _ hq14 D14 E14 hF => ?_)
  refine b_rv hF (fun _ hF => ?_)
  refine b_call E14 (fun _ hq => (BX21_want (bE.rf E14.S) hq)) hF (fun _ hq17 D17 E17 hF => ?_)
  refine b_rv hF (fun _ hF => ?_)
  refine b_call E17 (fun _ hq => (BX21_want (bE.rf E17.S) hq)) hF (fun _ hq20 D20 E20 hF => ?_)
  refine b_rv hF (fun _ hF => ?_)
  refine b_call E20 (fun _ hq => (BX21_want (bE.rf E20.S) hq)) hF (fun _ hq23 D23 E23 hF => ?_)
  refine b_rv hF (fun _ hF => ?_)
  refine b_call E23 (fun _ hq => (BX21_want (bE.rf E23.S) hq)) hF (fun _ hq26 D26 E26 hF => ?_)
  refine b_rv hF (fun _ hF => ?_)
  refine b_call E26 (fun _ hq => (BX21_want (bE.rf E26.S) hq)) hF (fun _ hq29 D29 E29 hF => ?_)
  refine b_rv hF (fun _ hF => ?_)
  refine b_call E29 (fun _ hq => (BX21_want (bE.rf E29.S) hq)) hF (fun _ hq32 D32 E32 hF => ?_)
  refine b_rv hF (fun _ hF => ?_)
  refine b_call E32 (fun _ hq => (BJ0_fill (d := 0) (N := N) (bE.rf E32.S) (E32.S.c0 (Nat.le_of_ble_eq_true rfl)) hq)) hF (fun _ hq35 D35 E35 hF => ?_)
  exact BX21_prepare_b126 (N := N) E35 hF
theorem BX22_add {σo : fS} {q : Int × fS} {s : fS} {p0 : Int} {p1 : Int} {p2 : Int} {p3 : Int} {p4 : Int} (E : bE 0 σo s) (hF : FX22_add p0 p1 p2 p3 p4 s = some q) : bE 0 σo q.2 := by
  unfold FX22_add at hF
  refine b_qI E (E.S.c0 (Nat.le_of_ble_eq_true rfl)) hF (fun _ D3 E3 hF => ?_)
  refine b_qI E3 (E3.S.c0 (Nat.le_of_ble_eq_true rfl)) hF (fun _ D6 E6 hF => ?_)
  refine b_qI E6 (E6.S.c0 (Nat.le_of_ble_eq_true rfl)) hF (fun _ D9 E9 hF => ?_)
  refine b_qI E9 (E9.S.c0 (Nat.le_of_ble_eq_true rfl)) hF (fun _ D12 E12 hF => ?_)
  refine b_qI E12 (E12.S.c0 (Nat.le_of_ble_eq_true rfl)) hF (fun _ D15 E15 hF => ?_)
  refine b_pI E15 (E15.S.c0 (Nat.le_of_ble_eq_true rfl)) hF (fun _ D17 E17 hF => ?_)
  exact b_ret E17 hF
