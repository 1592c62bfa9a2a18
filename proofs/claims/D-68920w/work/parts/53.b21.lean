set_option maxRecDepth 100000
set_option maxHeartbeats 4000000
theorem BX2_init {σo : fS} {q : Unit × fS} {s : fS} {this : Nat} (E : bE 0 σo s) (othis : bO 0 s this) (hF : FX2_init this s = some q) : bE 0 σo q.2 := by
  unfold FX2_init at hF
  refine b_nA E hF (fun _ D1 E1 o1 hF => ?_)
  refine b_K hF (fun hF => ?_)
  refine b_pF E1 (othis.up D1) o1 hF (fun _ D2 E2 hF => ?_)
  exact b_ret E2 hF
theorem BX6_init {σo : fS} {q : Unit × fS} {s : fS} {this : Nat} (E : bE 0 σo s) (othis : bO 0 s this) (hF : FX6_init this s = some q) : bE 0 σo q.2 := by
  unfold FX6_init at hF
  refine b_nA E hF (fun _ D1 E1 o1 hF => ?_)
  refine b_K hF (fun hF => ?_)
  refine b_pF E1 (othis.up D1) o1 hF (fun _ D2 E2 hF => ?_)
  refine b_nA E2 hF (fun _ D3 E3 o3 hF => ?_)
  refine b_K hF (fun hF => ?_)
  refine b_pF E3 (((othis.up D1).up D2).up D3) o3 hF (fun _ D4 E4 hF => ?_)
  refine b_nA E4 hF (fun _ D5 E5 o5 hF => ?_)
  refine b_K hF (fun hF => ?_)
  refine b_pF E5 (((((othis.up D1).up D2).up D3).up D4).up D5) o5 hF (fun _ D6 E6 hF => ?_)
  refine b_nA E6 hF (fun _ D7 E7 o7 hF => ?_)
  refine b_K hF (fun hF => ?_)
  refine b_pF E7 (((((((othis.up D1).up D2).up D3).up D4).up D5).up D6).up D7) o7 hF (fun _ D8 E8 hF => ?_)
  exact b_ret E8 hF
theorem BX1_grown {σo : fS} {q : Nat × fS} {s : fS} {p0 : Nat} {p1 : Int} (E : bE 0 σo s) (op0 : bO 0 s p0) (hF : FX1_grown p0 p1 s = some q) : bE 0 σo q.2 ∧ bO 0 q.2 q.1 := by
  unfold FX1_grown at hF
  refine b_KL hF (fun hF => ?_)
  refine b_if hF (fun hF => ?_) (fun hF => ?_)
  ·
    refine b_nA E hF (fun _ D2 E2 o2 hF => ?_)
    refine b_KL hF (fun hF => ?_)
    refine b_KA hF (fun hF => ?_)
    refine b_KA hF (fun hF => ?_)
    refine b_cp E2 o2 hF (fun _ D4 E4 hF => ?_)
    exact ⟨b_ret E4 hF, by cases hF; exact (o2.up D4)⟩
  ·
    exact ⟨b_ret E hF, by cases hF; exact op0⟩
theorem BX15_fresh_b125 {σo : fS} {q : Int × fS} {s : fS} {l1 : Int} (E : bE 0 σo s) (hF : FX15_fresh_b125 l1 s = some q) : bE 0 σo q.2 := by
  unfold FX15_fresh_b125 at hF
  refine b_qI E (E.S.c0 (Nat.le_of_ble_eq_true rfl)) hF (fun _ D3 E3 hF => ?_)
  refine b_qI E3 (E3.S.c0 (Nat.le_of_ble_eq_true rfl)) hF (fun _ D6 E6 hF => ?_)
  refine b_qI E6 (E6.S.c0 (Nat.le_of_ble_eq_true rfl)) hF (fun _ D9 E9 hF => ?_)
  refine b_qI E9 (E9.S.c0 (Nat.le_of_ble_eq_true rfl)) hF (fun _ D12 E12 hF => ?_)
  refine b_pI E12 (E12.S.c0 (Nat.le_of_ble_eq_true rfl)) hF (fun _ D14 E14 hF => ?_)
  exact b_ret E14 hF
theorem BX15_fresh {σo : fS} {q : Int × fS} {s : fS} {p0 : Int} (E : bE 0 σo s) (hF : FX15_fresh p0 s = some q) : bE 0 σo q.2 := by
  unfold FX15_fresh at hF
  refine b_call E (fun _ hq => (BX1_grown (bE.rf E.S) (E.S.c0 (Nat.le_of_ble_eq_true rfl)) hq).1) hF (fun _ hq3 D3 E3 hF => ?_)
  refine b_mv E3 (E3.S.c0 (Nat.le_of_ble_eq_true rfl)) (BX1_grown (bE.rf E.S) (E.S.c0 (Nat.le_of_ble_eq_true rfl)) hq3).2 hF (fun _ D4 E4 hF => ?_)
  refine b_call E4 (fun _ hq => (BX1_grown (bE.rf E4.S) (E4.S.c0 (Nat.le_of_ble_eq_true rfl)) hq).1) hF (fun _ hq7 D7 E7 hF => ?_)
  refine b_mv E7 (E7.S.c0 (Nat.le_of_ble_eq_true rfl)) (BX1_grown (bE.rf E4.S) (E4.S.c0 (Nat.le_of_ble_eq_true rfl)) hq7).2 hF (fun _ D8 E8 hF => ?_)
  refine b_call E8 (fun _ hq => (BX1_grown (bE.rf E8.S) (E8.S.c0 (Nat.le_of_ble_eq_true rfl)) hq).1) hF (fun _ hq11 D11 E11 hF => ?_)
  refine b_mv E11 (E11.S.c0 (Nat.le_of_ble_eq_true rfl)) (BX1_grown (bE.rf E8.S) (E8.S.c0 (Nat.le_of_ble_eq_true rfl)) hq11).2 hF (fun _ D12 E12 hF => ?_)
  refine b_call E12 (fun _ hq => (BX1_grown (bE.rf E12.S) (E12.S.c0 (Nat.le_of_ble_eq_true rfl)) hq).1) hF (fun _ hq15 D15 E15 hF => ?_)
  refine b_mv E15 (E15.S.c0 (Nat.le_of_ble_eq_true rfl)) (BX1_grown (bE.rf E12.S) (E12.S.c0 (Nat.le_of_ble_eq_true rfl)) hq15).2 hF (fun _ D16 E16 hF => ?_)
  refine b_call E16 (fun _ hq => (BX1_grown (bE.rf E16.S) (E16.S.c0 (Nat.le_of_ble_eq_true rfl)) hq).1) hF (fun _ hq19 D19 E19 hF => ?_)
  refine b_mv E19 (E19.S.c0 (Nat.le_of_ble_eq_true rfl)) (BX1_grown (bE.rf E16.S) (E16.S.c0 (Nat.le_of_ble_eq_true rfl)) hq19).2 hF (fun _ D20 E20 hF => ?_)
  refine b_if hF (fun hF => ?_) (fun hF => ?_)
  ·
    exact BX15_fresh_b125 E20 hF
  ·
    refine b_nA E20 hF (fun _ D25 E25 o25 hF => ?_)
    refine b_KA hF (fun hF => ?_)
    refine b_cp E25 o25 hF (fun _ D28 E28 hF => ?_)
    refine b_mv E28 (E28.S.c0 (Nat.le_of_ble_eq_true rfl)) (o25.up D28) hF (fun _ D29 E29 hF => ?_)
    exact BX15_fresh_b125 E29 hF
theorem BX15_clear {σo : fS} {q : Unit × fS} {s : fS} (E : bE 0 σo s) (hF : FX15_clear s = some q) : bE 0 σo q.2 := by
  unfold FX15_clear at hF
  refine b_pI E (E.S.c0 (Nat.le_of_ble_eq_true rfl)) hF (fun _ D1 E1 hF => ?_)
  refine b_pI E1 (E1.S.c0 (Nat.le_of_ble_eq_true rfl)) hF (fun _ D2 E2 hF => ?_)
  refine b_pI E2 (E2.S.c0 (Nat.le_of_ble_eq_true rfl)) hF (fun _ D3 E3 hF => ?_)
  refine b_pI E3 (E3.S.c0 (Nat.le_of_ble_eq_true rfl)) hF (fun _ D4 E4 hF => ?_)
  refine b_call E4 (fun _ hq => (BX15_fresh (bE.rf E4.S) hq)) hF (fun _ hq6 D6 E6 hF => ?_)
  refine b_pZ E6 (E6.S.c0 (Nat.le_of_ble_eq_true rfl)) hF (fun _ D7 E7 hF => ?_)
  exact b_ret E7 hF
theorem BX29_clear_b2 {σo : fS} {q : Unit × fS} {N : Nat} : ∀ {n : Nat} {s : fS} {l0 : Nat} {l1 : Int}, bE 0 σo s → bO 0 s l0 → FX29_clear_b2 N n l0 l1 s = some q → bE 0 σo q.2 := by
  intro n
  induction n with
  | zero => intro s l0 l1 E ol0 hF; simp [FX29_clear_b2] at hF
  | succ n ih =>
    intro s l0 l1 E ol0 hF
    rw [FX29_clear_b2] at hF
    refine b_if hF (fun hF => ?_) (fun hF => ?_)
    ·
      refine b_K hF (fun hF => ?_)
      refine b_pJ E ol0 hF (fun _ D1 E1 hF => ?_)
      refine b_K hF (fun hF => ?_)
      refine b_pJ E1 (ol0.up D1) hF (fun _ D2 E2 hF => ?_)
      refine b_K hF (fun hF => ?_)
      refine b_pJ E2 ((ol0.up D1).up D2) hF (fun _ D3 E3 hF => ?_)
      exact b_ret E3 hF
    ·
      refine b_K hF (fun hF => ?_)
      refine b_o E ol0 hF (fun _ o4 hF => ?_)
      refine b_KA hF (fun hF => ?_)
      refine b_qJ E o4 hF (fun _ D5 E5 hF => ?_)
      exact ih E5 (ol0.up D5) hF
theorem BX29_clear {σo : fS} {q : Unit × fS} {N : Nat} {s : fS} {this : Nat} (E : bE 0 σo s) (othis : bO 0 s this) (hF : FX29_clear N this s = some q) : bE 0 σo q.2 := by
  unfold FX29_clear at hF
  exact BX29_clear_b2 (N := N) E othis hF
theorem BX28_begin {σo : fS} {q : Unit × fS} {N : Nat} {s : fS} (E : bE 0 σo s) (hF : FX28_begin N s = some q) : bE 0 σo q.2 := by
  unfold FX28_begin at hF
  refine b_o E (E.S.c0 (Nat.le_of_ble_eq_true rfl)) hF (fun _ o1 hF => ?_)
  refine b_K hF (fun hF => ?_)
  refine b_pI E o1 hF (fun _ D2 E2 hF => ?_)
  refine b_pI E2 (E2.S.c0 (Nat.le_of_ble_eq_true rfl)) hF (fun _ D3 E3 hF => ?_)
  refine b_pI E3 (E3.S.c0 (Nat.le_of_ble_eq_true rfl)) hF (fun _ D4 E4 hF => ?_)
  refine b_call E4 (fun _ hq => (BX29_clear (N := N) (bE.rf E4.S) (E4.S.c0 (Nat.le_of_ble_eq_true rfl)) hq)) hF (fun _ hq7 D7 E7 hF => ?_)
  exact b_ret E7 hF
theorem BX10_clear_b2 {σo : fS} {q : Unit × fS} {N : Nat} : ∀ {n : Nat} {s : fS} {l1 : Int}, bE 0 σo s → FX10_clear_b2 N n l1 s = some q → bE 0 σo q.2 := by
  intro n
  induction n with
  | zero => intro s l1 E  hF; simp [FX10_clear_b2] at hF
  | succ n ih =>
    intro s l1 E  hF
    rw [FX10_clear_b2] at hF
    refine b_if hF (fun hF => ?_) (fun hF => ?_)
    ·
      refine b_pI E (E.S.c0 (Nat.le_of_ble_eq_true rfl)) hF (fun _ D1 E1 hF => ?_)
      refine b_pI E1 (E1.S.c0 (Nat.le_of_ble_eq_true rfl)) hF (fun _ D2 E2 hF => ?_)
      exact b_ret E2 hF
    ·
      refine b_qI E (E.S.c0 (Nat.le_of_ble_eq_true rfl)) hF (fun _ D4 E4 hF => ?_)
      exact ih E4 hF
theorem BX10_clear {σo : fS} {q : Unit × fS} {N : Nat} {s : fS} (E : bE 0 σo s) (hF : FX10_clear N s = some q) : bE 0 σo q.2 := by
  unfold FX10_clear at hF
  exact BX10_clear_b2 (N := N) E hF
theorem BX9_clearCategories {σo : fS} {q : Unit × fS} {s : fS} (E : bE 0 σo s) (hF : FX9_clearCategories s = some q) : bE 0 σo q.2 := by
  unfold FX9_clearCategories at hF
  refine b_qI E (E.S.c0 (Nat.le_of_ble_eq_true rfl)) hF (fun _ D2 E2 hF => ?_)
  refine b_qI E2 (E2.S.c0 (Nat.le_of_ble_eq_true rfl)) hF (fun _ D4 E4 hF => ?_)
  refine b_qI E4 (E4.S.c0 (Nat.le_of_ble_eq_true rfl)) hF (fun _ D6 E6 hF => ?_)
  refine b_qI E6 (E6.S.c0 (Nat.le_of_ble_eq_true rfl)) hF (fun _ D8 E8 hF => ?_)
  refine b_qI E8 (E8.S.c0 (Nat.le_of_ble_eq_true rfl)) hF (fun _ D10 E10 hF => ?_)
  refine b_qI E10 (E10.S.c0 (Nat.le_of_ble_eq_true rfl)) hF (fun _ D12 E12 hF => ?_)
  refine b_qI E12 (E12.S.c0 (Nat.le_of_ble_eq_true rfl)) hF (fun _ D14 E14 hF => ?_)
  refine b_qI E14 (E14.S.c0 (Nat.le_of_ble_eq_true rfl)) hF (fun _ D16 E16 hF => ?_)
  refine b_qI E16 (E16.S.c0 (Nat.le_of_ble_eq_true rfl)) hF (fun _ D18 E18 hF => ?_)
  refine b_qI E18 (E18.S.c0 (Nat.le_of_ble_eq_true rfl)) hF (fun _ D20 E20 hF => ?_)
  refine b_qI E20 (E20.S.c0 (Nat.le_of_ble_eq_true rfl)) hF (fun _ D22 E22 hF => ?_)
  refine b_qI E22 (E22.S.c0 (Nat.le_of_ble_eq_true rfl)) hF (fun _ D24 E24 hF => ?_)
  refine b_qI E24 (E24.S.c0 (Nat.le_of_ble_eq_true rfl)) hF (fun _ D26 E26 hF => ?_)
  refine b_qI E26 (E26.S.c0 (Nat.le_of_ble_eq_true rfl)) hF (fun _ D28 E28 hF => ?_)
  refine b_qI E28 (E28.S.c0 (Nat.le_of_ble_eq_true rfl)) hF (fun _ D30 E30 hF => ?_)
  exact b_ret E30 hF
theorem BX9_clearNamed {σo : fS} {q : Unit × fS} {s : fS} (E : bE 0 σo s) (hF : FX9_clearNamed s = some q) : bE 0 σo q.2 := by
  unfold FX9_clearNamed at hF
  refine b_qI E (E.S.c0 (Nat.le_of_ble_eq_true rfl)) hF (fun _ D2 E2 hF => ?_)
  refine b_qI E2 (E2.S.c0 (Nat.le_of_ble_eq_true rfl)) hF (fun _ D4 E4 hF => ?_)
  refine b_qI E4 (E4.S.c0 (Nat.le_of_ble_eq_true rfl)) hF (fun _ D6 E6 hF => ?_)
  refine b_qI E6 (E6.S.c0 (Nat.le_of_ble_eq_true rfl)) hF (fun _ D8 E8 hF => ?_)
  refine b_qI E8 (E8.S.c0 (Nat.le_of_ble_eq_true rfl)) hF (fun _ D10 E10 hF => ?_)
  refine b_qI E10 (E10.S.c0 (Nat.le_of_ble_eq_true rfl)) hF (fun _ D12 E12 hF => ?_)
  refine b_qI E12 (E12.S.c0 (Nat.le_of_ble_eq_true rfl)) hF (fun _ D14 E14 hF => ?_)
  refine b_qI E14 (E14.S.c0 (Nat.le_of_ble_eq_true rfl)) hF (fun _ D16 E16 hF => ?_)
  refine b_qI E16 (E16.S.c0 (Nat.le_of_ble_eq_true rfl)) hF (fun _ D18 E18 hF => ?_)
  refine b_qI E18 (E18.S.c0 (Nat.le_of_ble_eq_true rfl)) hF (fun _ D20 E20 hF => ?_)
  refine b_qI E20 (E20.S.c0 (Nat.le_of_ble_eq_true rfl)) hF (fun _ D22 E22 hF => ?_)
  refine b_qI E22 (E22.S.c0 (Nat.le_of_ble_eq_true rfl)) hF (fun _ D24 E24 hF => ?_)
  refine b_qI E24 (E24.S.c0 (Nat.le_of_ble_eq_true rfl)) hF (fun _ D26 E26 hF => ?_)
  refine b_qI E26 (E26.S.c0 (Nat.le_of_ble_eq_true rfl)) hF (fun _ D28 E28 hF => ?_)
  refine b_qI E28 (E28.S.c0 (Nat.le_of_ble_eq_true rfl)) hF (fun _ D30 E30 hF => ?_)
  refine b_qI E30 (E30.S.c0 (Nat.le_of_ble_eq_true rfl)) hF (fun _ D32 E32 hF => ?_)
  refine b_qI E32 (E32.S.c0 (Nat.le_of_ble_eq_true rfl)) hF (fun _ D34 E34 hF => ?_)
  refine b_qI E34 (E34.S.c0 (Nat.le_of_ble_eq_true rfl)) hF (fun _ D36 E36 hF => ?_)
  refine b_qI E36 (E36.S.c0 (Nat.le_of_ble_eq_true rfl)) hF (fun _ D38 E38 hF => ?_)
  refine b_qI E38 (E38.S.c0 (Nat.le_of_ble_eq_true rfl)) hF (fun _ D40 E40 hF => ?_)
  refine b_qI E40 (E40.S.c0 (Nat.le_of_ble_eq_true rfl)) hF (fun _ D42 E42 hF => ?_)
  exact b_ret E42 hF
theorem BX9_clear_b92 {σo : fS} {q : Unit × fS} {N : Nat} {K34 : Int → fS → Option (Unit × fS)} (hk34 : ∀ {s : fS} {l1 : Int}, bE 0 σo s → K34 l1 s = some q → bE 0 σo q.2) {s : fS} {l1 : Int} {s1 : Int} {s2 : Int} (E : bE 0 σo s) (hF : FX9_clear_b92 N K34 l1 s1 s2 s = some q) : bE 0 σo q.2 := by
  unfold FX9_clear_b92 at hF
  refine b_qI E (E.S.c0 (Nat.le_of_ble_eq_true rfl)) hF (fun _ D1 E1 hF => ?_)
  exact hk34 E1 hF
theorem BX9_clear_b85 {σo : fS} {q : Unit × fS} {N : Nat} {K34 : Int → fS → Option (Unit × fS)} (hk34 : ∀ {s : fS} {l1 : Int}, bE 0 σo s → K34 l1 s = some q → bE 0 σo q.2) {s : fS} {l1 : Int} {s1 : Int} (E : bE 0 σo s) (hF : FX9_clear_b85 N K34 l1 s1 s = some q) : bE 0 σo q.2 := by
  unfold FX9_clear_b85 at hF
  exact BX9_clear_b92 (N := N) (K34 := K34) @hk34 E hF
theorem BX9_clear_b90 {σo : fS} {q : Unit × fS} {N : Nat} {K34 : Int → fS → Option (Unit × fS)} (hk34 : ∀ {s : fS} {l1 : Int}, bE 0 σo s → K34 l1 s = some q → bE 0 σo q.2) {s : fS} {l1 : Int} {s1 : Int} (E : bE 0 σo s) (hF : FX9_clear_b90 N K34 l1 s1 s = some q) : bE 0 σo q.2 := by
  unfold FX9_clear_b90 at hF
  exact BX9_clear_b92 (N := N) (K34 := K34) @hk34 E hF
theorem BX9_clear_b73 {σo : fS} {q : Unit × fS} {N : Nat} {K34 : Int → fS → Option (Unit × fS)} (hk34 : ∀ {s : fS} {l1 : Int}, bE 0 σo s → K34 l1 s = some q → bE 0 σo q.2) {s : fS} {l1 : Int} {s1 : Int} (E : bE 0 σo s) (hF : FX9_clear_b73 N K34 l1 s1 s = some q) : bE 0 σo q.2 := by
  unfold FX9_clear_b73 at hF
  refine b_if hF (fun hF => ?_) (fun hF => ?_)
  ·
    exact BX9_clear_b90 (N := N) (K34 := K34) @hk34 E hF
  ·
    refine b_if hF (fun hF => ?_) (fun hF => ?_)
    ·
      exact BX9_clear_b90 (N := N) (K34 := K34) @hk34 E hF
    ·
      exact BX9_clear_b85 (N := N) (K34 := K34) @hk34 E hF
theorem BX9_clear_b34 {σo : fS} {q : Unit × fS} {N : Nat} : ∀ {n : Nat} {s : fS} {l1 : Int}, bE 0 σo s → FX9_clear_b34 N n l1 s = some q → bE 0 σo q.2 := by
  intro n
  induction n with
  | zero => intro s l1 E  hF; simp [FX9_clear_b34] at hF
  | succ n ih =>
    intro s l1 E  hF
    rw [FX9_clear_b34] at hF
    refine b_if hF (fun hF => ?_) (fun hF => ?_)
    ·
      refine b_call E (fun _ hq => (BX9_clearCategories (bE.rf E.S) hq)) hF (fun _ hq2 D2 E2 hF => ?_)
      refine b_call E2 (fun _ hq => (BX9_clearNamed (bE.rf E2.S) hq)) hF (fun _ hq4 D4 E4 hF => ?_)
      refine b_qI E4 (E4.S.c0 (Nat.le_of_ble_eq_true rfl)) hF (fun _ D6 E6 hF => ?_)
      refine b_pI E6 (E6.S.c0 (Nat.le_of_ble_eq_true rfl)) hF (fun _ D7 E7 hF => ?_)
      refine b_pI E7 (E7.S.c0 (Nat.le_of_ble_eq_true rfl)) hF (fun _ D8 E8 hF => ?_)
      exact b_ret E8 hF
    ·
      refine b_qI E (E.S.c0 (Nat.le_of_ble_eq_true rfl)) hF (fun _ D10 E10 hF => ?_)
      refine b_if hF (fun hF => ?_) (fun hF => ?_)
      ·
        exact BX9_clear_b73 (N := N) (K34 := FX9_clear_b34 N n) @ih E10 hF
      ·
        refine b_if hF (fun hF => ?_) (fun hF => ?_)
        ·
          exact BX9_clear_b85 (N := N) (K34 := FX9_clear_b34 N n) @ih E10 hF
        ·
          exact BX9_clear_b73 (N := N) (K34 := FX9_clear_b34 N n) @ih E10 hF
theorem BX9_clear {σo : fS} {q : Unit × fS} {N : Nat} {s : fS} (E : bE 0 σo s) (hF : FX9_clear N s = some q) : bE 0 σo q.2 := by
  unfold FX9_clear at hF
  refine b_call E (fun _ hq => (BJ0_fill (d := 0) (N := N) (bE.rf E.S) (E.S.c0 (Nat.le_of_ble_eq_true rfl)) hq)) hF (fun _ hq2 D2 E2 hF => ?_)
  refine b_call E2 (fun _ hq => (BJ0_fill (d := 0) (N := N) (bE.rf E2.S) (E2.S.c0 (Nat.le_of_ble_eq_true rfl)) hq)) hF (fun _ hq4 D4 E4 hF => ?_)
  refine b_call E4 (fun _ hq => (BJ0_fill (d := 0) (N := N) (bE.rf E4.S) (E4.S.c0 (Nat.le_of_ble_eq_true rfl)) hq)) hF (fun _ hq6 D6 E6 hF => ?_)
  refine b_call E6 (fun _ hq => (BJ0_fill (d := 0) (N := N) (bE.rf E6.S) (E6.S.c0 (Nat.le_of_ble_eq_true rfl)) hq)) hF (fun _ hq8 D8 E8 hF => ?_)
  exact BX9_clear_b34 (N := N) E8 hF
theorem BX10_open {σo : fS} {q : Unit × fS} {s : fS} (E : bE 0 σo s) (hF : FX10_open s = some q) : bE 0 σo q.2 := by
  unfold FX10_open at hF
  refine b_pI E (E.S.c0 (Nat.le_of_ble_eq_true rfl)) hF (fun _ D1 E1 hF => ?_)
  exact b_ret E1 hF
